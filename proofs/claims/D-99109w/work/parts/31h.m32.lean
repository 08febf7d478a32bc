/-! MODEL 32: asked, opened, ended (printed by tools/m32.py) -/
set_option maxRecDepth 100000
theorem cmp_l {s : Sg} {L : Lq} {G : Gq} : ∀ (Q : List Int32), pileR G.2.2.2.2.2 Q → Q.length ≤ 160 → AW 2 mX2_isCompared (hp (ps s L G)) 7 [some (.ref 625), some (.int (nI Q.length - 1))] [] (.inl (some (.int (b2i (comparedL Q))))) (hp (ps s L G)) := by
  intro Q
  induction Q with
  | nil =>
    intro hq hl
    refine AW.iload_n dX2_isCompared_7 rfl rfl ?_
    refine AW.if_lt (tgt := 30) dX2_isCompared_8 (by decide) rfl (fun _ => ?_) (fun c_ => by first | exact absurd c_ (by decide) | exact absurd (by decide) c_ | exact absurd c_ (not_not_intro (by decide)) | exact Bool.noConfusion (c_.symm.trans (by decide)))
    refine AW.iload_n dX2_isCompared_30 rfl rfl ?_
    refine AW.if_lt (tgt := 51) dX2_isCompared_31 (by decide) rfl (fun _ => ?_) (fun c_ => by first | exact absurd c_ (by decide) | exact absurd (by decide) c_ | exact absurd c_ (not_not_intro (by decide)) | exact Bool.noConfusion (c_.symm.trans (by decide)))
    refine AW.iconst (v := 0) dX2_isCompared_51 (by decide) rfl ?_
    exact AW.bretE dX2_isCompared_52 rfl rfl rfl rfl
  | cons q Q ih =>
    intro hq hl
    simp only [List.length_cons] at hl
    have e1 : nI (q :: Q).length - 1 = nI Q.length := by show nI (Q.length + 1) - 1 = _; rw [nI_s1 (by omega)]; rfl
    rw [e1]
    refine AW.iload_n dX2_isCompared_7 rfl rfl ?_
    refine AW.if_lt (tgt := 30) dX2_isCompared_8 (by decide) rfl (fun c_ => by first | exact absurd c_ (nI_pos (by omega)) | exact absurd (nI_pos (by omega)) c_ | exact Bool.noConfusion (c_.symm.trans (nI_pos (by omega)))) (fun _ => ?_)
    refine AW.aload_n dX2_isCompared_11 rfl rfl ?_
    refine AW.get ci2 15 (by decide) q1366 dX2_isCompared_12 gM rfl rfl ?_
    refine AW.iload_n dX2_isCompared_15 rfl rfl ?_
    refine AW.iald dX2_isCompared_16 ps_g630 (in0 Q.length (by omega) (by decide)) (j := Q.length) (cI_nI (by omega)) rfl ?_
    refine AW.stT (x := .int (q)) (by show Value.int (G.2.2.2.2.2 Q.length) = _; rw [hq.1]) ?_
    refine AW.callS (Y := mX2_rank) (n := 1) (r_X2_rank q) (by decide) (by decide) q1598 q1599 q141 q1600 dX2_isCompared_17 (by decide +kernel) rfl rfl (Nat.le_of_ble_eq_true rfl) rfl ?_
    refine AW.iconst (v := 4) dX2_isCompared_20 (by decide) rfl ?_
    refine AW.icmp_le (tgt := 30) dX2_isCompared_21 (by decide) rfl (fun k21 => ?_) (fun k21 => ?_)
    · refine AW.iload_n dX2_isCompared_30 rfl rfl ?_
      refine AW.if_lt (tgt := 51) dX2_isCompared_31 (by decide) rfl (fun c_ => by first | exact absurd c_ (nI_pos (by omega)) | exact absurd (nI_pos (by omega)) c_ | exact Bool.noConfusion (c_.symm.trans (nI_pos (by omega)))) (fun _ => ?_)
      refine AW.aload_n dX2_isCompared_34 rfl rfl ?_
      refine AW.get ci2 15 (by decide) q1366 dX2_isCompared_35 gM rfl rfl ?_
      refine AW.iload_n dX2_isCompared_38 rfl rfl ?_
      refine AW.iald dX2_isCompared_39 ps_g630 (in0 Q.length (by omega) (by decide)) (j := Q.length) (cI_nI (by omega)) rfl ?_
      refine AW.stT (x := .int (q)) (by show Value.int (G.2.2.2.2.2 Q.length) = _; rw [hq.1]) ?_
      refine AW.callS (Y := mX2_rank) (n := 1) (r_X2_rank q) (by decide) (by decide) q1598 q1599 q141 q1600 dX2_isCompared_40 (by decide +kernel) rfl rfl (Nat.le_of_ble_eq_true rfl) rfl ?_
      refine AW.iconst (v := 4) dX2_isCompared_43 (by decide) rfl ?_
      refine AW.icmp_ne (tgt := 51) dX2_isCompared_44 (by decide) rfl (fun k44 => ?_) (fun k44 => ?_)
      · refine AW.iconst (v := 0) dX2_isCompared_51 (by decide) rfl ?_
        exact AW.bretE dX2_isCompared_52 rfl rfl (by show _ = b2i (if 4 < rankF q then comparedL Q else decide (rankF q = 4)); rw [if_neg (Int32.not_lt.mpr k21)]; first | (rw [decide_eq_true k44]; rfl) | (rw [decide_eq_false k44]; rfl)) rfl
      · refine AW.iconst (v := 1) dX2_isCompared_47 (by decide) rfl ?_
        refine AW.goto (tgt := 52) dX2_isCompared_48 (by decide) ?_
        exact AW.bretE dX2_isCompared_52 rfl rfl (by show _ = b2i (if 4 < rankF q then comparedL Q else decide (rankF q = 4)); rw [if_neg (Int32.not_lt.mpr k21)]; first | (rw [decide_eq_true k44]; rfl) | (rw [decide_eq_false k44]; rfl)) rfl
    · refine AW.iinc (v := (-1)) dX2_isCompared_24 rfl (by decide) rfl rfl rfl ?_
      refine AW.goto (tgt := 7) dX2_isCompared_27 (by decide) ?_
      have e9 : comparedL (q :: Q) = comparedL Q := if_pos (Int32.not_le.mp k21)
      rw [e9]
      exact AW.ls (by rw [show nI Q.length + (-1) = nI Q.length - 1 from (Int32.sub_eq_add_neg ..).symm]; rfl) (ih hq.2 (by omega))
theorem r_X2_isCompared {s : Sg} {L : Lq} {X PA : Nat → Int32} {base : Nat} {C : Cd} {Q : List Int32} {o : Int32} {w : Bool} (hq : pileR PA Q) (hql : Q.length ≤ 160) : Run 2 mX2_isCompared [.ref 625] (hp (ps s L (gq X base C PA Q o w))) (.inl (some (.int (b2i (comparedL Q))))) (hp (ps s L (gq X base C PA Q o w))) := by
  refine Run.of rfl (Nat.le_of_ble_eq_true rfl) rfl ?_
  refine AW.aload_n dX2_isCompared_0 rfl rfl ?_
  refine AW.get ci2 16 (by decide) q1367 dX2_isCompared_1 gM rfl rfl ?_
  refine AW.iconst (v := 1) dX2_isCompared_4 (by decide) rfl ?_
  refine AW.isub dX2_isCompared_5 rfl ?_
  refine AW.istore_n (i := 1) dX2_isCompared_6 rfl rfl (Nat.le_of_ble_eq_true rfl) rfl rfl ?_
  exact cmp_l (G := gq X base C PA Q o w) Q hq hql
theorem r_X2_isAskAhead {s : Sg} {L : Lq} {X PA : Nat → Int32} {base : Nat} {C : Cd} {Q : List Int32} {o : Int32} {w : Bool} (hq : pileR PA Q) (hql : Q.length ≤ 160) (e : Bool) (he : s.S 19 = b2i e) : Run 3 mX2_isAskAhead [.ref 625] (hp (ps s L (gq X base C PA Q o w))) (.inl (some (.int (b2i (askL e Q))))) (hp (ps s L (gq X base C PA Q o w))) := by
  refine Run.of rfl (Nat.le_of_ble_eq_true rfl) rfl ?_
  cases Q with
  | nil =>
    refine AW.aload_n dX2_isAskAhead_0 rfl rfl ?_
    refine AW.get ci2 19 (by decide) q1370 dX2_isAskAhead_1 gM rfl rfl ?_
    refine AW.if_eq (tgt := 47) dX2_isAskAhead_4 (by decide) rfl (fun k4 => ?_) (fun k4 => ?_)
    · refine AW.iconst (v := 0) dX2_isAskAhead_47 (by decide) rfl ?_
      exact AW.bretE dX2_isAskAhead_48 rfl rfl (by have j4 : e = false := b2i_f' (he.symm.trans k4); rw [j4]; rfl) rfl
    · refine AW.aload_n dX2_isAskAhead_7 rfl rfl ?_
      refine AW.get ci2 16 (by decide) q1367 dX2_isAskAhead_8 gM rfl rfl ?_
      refine AW.if_eq (tgt := 36) dX2_isAskAhead_11 (by decide) rfl (fun _ => ?_) (fun c_ => by first | exact absurd c_ (by show nI 0 = 0; rfl) | exact absurd (by show nI 0 = 0; rfl) c_ | exact absurd c_ (not_not_intro (by show nI 0 = 0; rfl)) | exact Bool.noConfusion (c_.symm.trans (by show nI 0 = 0; rfl)))
      refine AW.aload_n dX2_isAskAhead_36 rfl rfl ?_
      refine AW.callV (Y := mX2_isShut) (n := 0) (r_X2_isShut hq hql) (by decide) (by decide) rfl gM q1590 q1592 qs81 q141 q1593 dX2_isAskAhead_37 (by decide +kernel) rfl rfl (Nat.le_of_ble_eq_true rfl) rfl ?_
      refine AW.if_neB (tgt := 47) dX2_isAskAhead_40 (by decide) rfl (fun k40 => ?_) (fun k40 => ?_)
      · refine AW.iconst (v := 0) dX2_isAskAhead_47 (by decide) rfl ?_
        exact AW.bretE dX2_isAskAhead_48 rfl rfl (by have j4 : e = true := b2i_t' (fun z => k4 (he.trans z)); rw [j4]; show _ = b2i (true && (true && !shutL ([] : List Int32))); rw [k40]; rfl) rfl
      · refine AW.iconst (v := 1) dX2_isAskAhead_43 (by decide) rfl ?_
        refine AW.goto (tgt := 48) dX2_isAskAhead_44 (by decide) ?_
        exact AW.bretE dX2_isAskAhead_48 rfl rfl (by have j4 : e = true := b2i_t' (fun z => k4 (he.trans z)); rw [j4]; show _ = b2i (true && (true && !shutL ([] : List Int32))); rw [k40]; rfl) rfl
  | cons q Q =>
    simp only [List.length_cons] at hql
    refine AW.aload_n dX2_isAskAhead_0 rfl rfl ?_
    refine AW.get ci2 19 (by decide) q1370 dX2_isAskAhead_1 gM rfl rfl ?_
    refine AW.if_eq (tgt := 47) dX2_isAskAhead_4 (by decide) rfl (fun k4 => ?_) (fun k4 => ?_)
    · refine AW.iconst (v := 0) dX2_isAskAhead_47 (by decide) rfl ?_
      exact AW.bretE dX2_isAskAhead_48 rfl rfl (by have j4 : e = false := b2i_f' (he.symm.trans k4); rw [j4]; rfl) rfl
    · refine AW.aload_n dX2_isAskAhead_7 rfl rfl ?_
      refine AW.get ci2 16 (by decide) q1367 dX2_isAskAhead_8 gM rfl rfl ?_
      refine AW.if_eq (tgt := 36) dX2_isAskAhead_11 (by decide) rfl (fun c_ => by first | exact absurd c_ (by show ¬ nI (Q.length + 1) = 0; exact nI_nz (by omega) (by omega)) | exact absurd (by show ¬ nI (Q.length + 1) = 0; exact nI_nz (by omega) (by omega)) c_ | exact Bool.noConfusion (c_.symm.trans (by show ¬ nI (Q.length + 1) = 0; exact nI_nz (by omega) (by omega)))) (fun _ => ?_)
      refine AW.aload_n dX2_isAskAhead_14 rfl rfl ?_
      refine AW.get ci2 15 (by decide) q1366 dX2_isAskAhead_15 gM rfl rfl ?_
      refine AW.aload_n dX2_isAskAhead_18 rfl rfl ?_
      refine AW.get ci2 16 (by decide) q1367 dX2_isAskAhead_19 gM rfl rfl ?_
      refine AW.iconst (v := 1) dX2_isAskAhead_22 (by decide) rfl ?_
      refine AW.isub dX2_isAskAhead_23 rfl ?_
      refine AW.stT (x := .int (nI Q.length)) (by show Value.int (nI (Q.length + 1) - 1) = _; rw [nI_s1 (by omega)]; rfl) ?_
      refine AW.iald dX2_isAskAhead_24 ps_g630 (in0 Q.length (by omega) (by decide)) (j := Q.length) (cI_nI (by omega)) rfl ?_
      refine AW.stT (x := .int (q)) (by show Value.int (PA Q.length) = _; rw [hq.1]) ?_
      refine AW.callS (Y := mX2_rank) (n := 1) (r_X2_rank q) (by decide) (by decide) q1598 q1599 q141 q1600 dX2_isAskAhead_25 (by decide +kernel) rfl rfl (Nat.le_of_ble_eq_true rfl) rfl ?_
      refine AW.iconst (v := 1) dX2_isAskAhead_28 (by decide) rfl ?_
      refine AW.iconst (v := 3) dX2_isAskAhead_29 (by decide) rfl ?_
      refine AW.callS (Y := mX2_isIn) (n := 3) (r_X2_isIn _ _ _) (by decide) (by decide) q1466 q1467 q141 q1468 dX2_isAskAhead_30 (by decide +kernel) rfl rfl (Nat.le_of_ble_eq_true rfl) rfl ?_
      refine AW.if_eqB (tgt := 47) dX2_isAskAhead_33 (by decide) rfl (fun k33 => ?_) (fun k33 => ?_)
      · refine AW.iconst (v := 0) dX2_isAskAhead_47 (by decide) rfl ?_
        exact AW.bretE dX2_isAskAhead_48 rfl rfl (by have j4 : e = true := b2i_t' (fun z => k4 (he.trans z)); rw [j4]; show (0 : Int32) = b2i (true && (inI (rankF q) 1 3 && !shutL (q :: Q))); rw [k33]; rfl) rfl
      · refine AW.aload_n dX2_isAskAhead_36 rfl rfl ?_
        refine AW.callV (Y := mX2_isShut) (n := 0) (r_X2_isShut hq (by show Q.length + 1 ≤ 160; omega)) (by decide) (by decide) rfl gM q1590 q1592 qs81 q141 q1593 dX2_isAskAhead_37 (by decide +kernel) rfl rfl (Nat.le_of_ble_eq_true rfl) rfl ?_
        refine AW.if_neB (tgt := 47) dX2_isAskAhead_40 (by decide) rfl (fun k40 => ?_) (fun k40 => ?_)
        · refine AW.iconst (v := 0) dX2_isAskAhead_47 (by decide) rfl ?_
          exact AW.bretE dX2_isAskAhead_48 rfl rfl (by have j4 : e = true := b2i_t' (fun z => k4 (he.trans z)); rw [j4]; show _ = b2i (true && (inI (rankF q) 1 3 && !shutL (q :: Q))); rw [k33, k40]; rfl) rfl
        · refine AW.iconst (v := 1) dX2_isAskAhead_43 (by decide) rfl ?_
          refine AW.goto (tgt := 48) dX2_isAskAhead_44 (by decide) ?_
          exact AW.bretE dX2_isAskAhead_48 rfl rfl (by have j4 : e = true := b2i_t' (fun z => k4 (he.trans z)); rw [j4]; show _ = b2i (true && (inI (rankF q) 1 3 && !shutL (q :: Q))); rw [k33, k40]; rfl) rfl
theorem r_X2_opened_f {s : Sg} {L : Lq} {X PA : Nat → Int32} {base : Nat} {C : Cd} {Q : List Int32} {o : Int32} {w : Bool} (a : Int32) (ho : o = 8) : Run 4 mX2_opened [.ref 625, .int a] (hp (ps s L (gq X base C PA Q o w))) (.inl (some (.int (3)))) (hp (ps s L (gq X base C PA Q o w))) := by
  refine Run.of rfl (Nat.le_of_ble_eq_true rfl) rfl ?_
  refine AW.aload_n dX2_opened_0 rfl rfl ?_
  refine AW.get ci2 17 (by decide) q1368 dX2_opened_1 gM rfl rfl ?_
  refine AW.bipush (v := 8) dX2_opened_4 (by decide) rfl ?_
  refine AW.icmp_ne (tgt := 11) dX2_opened_6 (by decide) rfl (fun c_ => by first | exact absurd c_ ho | exact absurd ho c_ | exact Bool.noConfusion (c_.symm.trans ho)) (fun _ => ?_)
  refine AW.iconst (v := 3) dX2_opened_9 (by decide) rfl ?_
  exact AW.iretE dX2_opened_10 rfl rfl rfl rfl
theorem r_X2_opened_t {s : Sg} {L : Lq} {X PA : Nat → Int32} {base : Nat} {C : Cd} {Q : List Int32} {o : Int32} {w : Bool} (hq : pileR PA Q) (hql : Q.length ≤ 160) (hq2 : Q.length < 160) (n : Nat) (hn : s.S 4 = nI n) (h300 : n ≤ 300) (hby : ∀ k, k < n → 0 ≤ s.A 629 k) (k0 : Nat) (hk0 : k0 ≤ n) (hL : L.1 = nI k0) (a : Int32) (ho : ¬ o = 8) : Run 4 mX2_opened [.ref 625, .int a] (hp (ps s L (gq X base C PA Q o w))) (.inl (some (.int (0)))) (hp (ps s (lexL (s.A 629) n k0 L) (gq X base C (up PA Q.length a) (a :: Q) (o + 1) w))) := by
  refine Run.of rfl (Nat.le_of_ble_eq_true rfl) rfl ?_
  refine AW.aload_n dX2_opened_0 rfl rfl ?_
  refine AW.get ci2 17 (by decide) q1368 dX2_opened_1 gM rfl rfl ?_
  refine AW.bipush (v := 8) dX2_opened_4 (by decide) rfl ?_
  refine AW.icmp_ne (tgt := 11) dX2_opened_6 (by decide) rfl (fun _ => ?_) (fun c_ => by first | exact absurd c_ ho | exact absurd ho c_ | exact absurd c_ (not_not_intro ho) | exact Bool.noConfusion (c_.symm.trans ho))
  refine AW.aload_n dX2_opened_11 rfl rfl ?_
  refine AW.dup dX2_opened_12 rfl rfl ?_
  refine AW.get ci2 17 (by decide) q1368 dX2_opened_13 gM rfl rfl ?_
  refine AW.iconst (v := 1) dX2_opened_16 (by decide) rfl ?_
  refine AW.iadd dX2_opened_17 rfl ?_
  refine AW.put ci2 17 (by decide) q1368 dX2_opened_18 (by decide) gM rfl (fun _ => rfl) (fun _ => rfl) (Nat.le_of_ble_eq_true rfl) ps_s17 rfl ?_
  refine AW.aload_n dX2_opened_21 rfl rfl ?_
  refine AW.get ci2 15 (by decide) q1366 dX2_opened_22 gM rfl rfl ?_
  refine AW.aload_n dX2_opened_25 rfl rfl ?_
  refine AW.get ci2 16 (by decide) q1367 dX2_opened_26 gM rfl rfl ?_
  refine AW.iload_n dX2_opened_29 rfl rfl ?_
  refine AW.iast dX2_opened_30 (by decide) ps_g630 (in0 Q.length (by omega) (by decide)) (j := Q.length) (cI_nI (by omega)) ps_s630 rfl ?_
  refine AW.aload_n dX2_opened_31 rfl rfl ?_
  refine AW.dup dX2_opened_32 rfl rfl ?_
  refine AW.get ci2 16 (by decide) q1367 dX2_opened_33 gM rfl rfl ?_
  refine AW.iconst (v := 1) dX2_opened_36 (by decide) rfl ?_
  refine AW.iadd dX2_opened_37 rfl ?_
  refine AW.put ci2 16 (by decide) q1367 dX2_opened_38 (by decide) gM rfl (fun _ => rfl) (fun _ => rfl) (Nat.le_of_ble_eq_true rfl) ps_s16 rfl ?_
  refine AW.hp (h2 := (hp (ps s L (gq X base C (up PA Q.length a) (a :: Q) (o + 1) w)))) (by show hp (ps s L (nI C.length, nI Q.length + 1, o + 1, b2i w, layC X base C, up PA Q.length a)) = _; rw [← nI_succ]; rfl) ?_
  refine AW.aload_n dX2_opened_41 rfl rfl ?_
  refine AW.callV (Y := mX2_nextToken) (n := 0) (r_X2_nextToken n hn h300 hby k0 hk0 hL) (by decide) (by decide) rfl gM q1501 q1503 qs66 q141 q1504 dX2_opened_42 (by decide +kernel) rfl rfl (Nat.le_of_ble_eq_true rfl) rfl ?_
  refine AW.iconst (v := 0) dX2_opened_45 (by decide) rfl ?_
  exact AW.iretE dX2_opened_46 rfl rfl rfl rfl
