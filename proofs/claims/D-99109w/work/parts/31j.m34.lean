/-! MODEL 34: between, begin, behind (printed by tools/m34.py) -/
set_option maxRecDepth 100000
def btwF (e : Bool) (B : Nat → Int32) (L : Lq) (p : Nat) (Q : List Int32) : Int32 := if L.2.2.1 = 43 then 3 else if L.2.2.1 = 45 then 4 else if L.2.2.1 = 42 then 5 else if L.2.2.1 = 47 then 6 else if (e && !shutL Q) = false then -1 else if comparedL Q = false then cmpF B L p else if isWd L (w3F 97 110 100) = true then 21 else if isWd L (w2F 111 114) = true then 22 else -1
theorem r_X2_betweenOf {s : Sg} {L : Lq} {X PA : Nat → Int32} {base : Nat} {C : Cd} {Q : List Int32} {o : Int32} {w : Bool} (hq : pileR PA Q) (hql : Q.length ≤ 160) (e : Bool) (he : s.S 19 = b2i e) (n : Nat) (hn : s.S 4 = nI n) (h300 : n ≤ 300) (p : Nat) (hp1 : L.2.1 = nI p) (hpl : p ≤ n) : Run 6 mX2_betweenOf [.ref 625] (hp (ps s L (gq X base C PA Q o w))) (.inl (some (.int (btwF e (byteF (s.A 629) n) L p Q)))) (hp (ps s L (gq X base C PA Q o w))) := by
  refine Run.of rfl (Nat.le_of_ble_eq_true rfl) rfl ?_
  refine AW.aload_n dX2_betweenOf_0 rfl rfl ?_
  refine AW.get ci2 9 (by decide) q1360 dX2_betweenOf_1 gM rfl rfl ?_
  refine AW.bipush (v := 43) dX2_betweenOf_4 (by decide) rfl ?_
  refine AW.icmp_ne (tgt := 11) dX2_betweenOf_6 (by decide) rfl (fun k6 => ?_) (fun k6 => ?_)
  · refine AW.aload_n dX2_betweenOf_11 rfl rfl ?_
    refine AW.get ci2 9 (by decide) q1360 dX2_betweenOf_12 gM rfl rfl ?_
    refine AW.bipush (v := 45) dX2_betweenOf_15 (by decide) rfl ?_
    refine AW.icmp_ne (tgt := 22) dX2_betweenOf_17 (by decide) rfl (fun k17 => ?_) (fun k17 => ?_)
    · refine AW.aload_n dX2_betweenOf_22 rfl rfl ?_
      refine AW.get ci2 9 (by decide) q1360 dX2_betweenOf_23 gM rfl rfl ?_
      refine AW.bipush (v := 42) dX2_betweenOf_26 (by decide) rfl ?_
      refine AW.icmp_ne (tgt := 33) dX2_betweenOf_28 (by decide) rfl (fun k28 => ?_) (fun k28 => ?_)
      · refine AW.aload_n dX2_betweenOf_33 rfl rfl ?_
        refine AW.get ci2 9 (by decide) q1360 dX2_betweenOf_34 gM rfl rfl ?_
        refine AW.bipush (v := 47) dX2_betweenOf_37 (by decide) rfl ?_
        refine AW.icmp_ne (tgt := 45) dX2_betweenOf_39 (by decide) rfl (fun k39 => ?_) (fun k39 => ?_)
        · refine AW.aload_n dX2_betweenOf_45 rfl rfl ?_
          refine AW.get ci2 19 (by decide) q1370 dX2_betweenOf_46 gM rfl rfl ?_
          refine AW.if_eq (tgt := 59) dX2_betweenOf_49 (by decide) rfl (fun k49 => ?_) (fun k49 => ?_)
          · refine AW.iconst (v := (-1)) dX2_betweenOf_59 (by decide) rfl ?_
            exact AW.iretE dX2_betweenOf_60 rfl rfl (by exact ((if_neg k6).trans ((if_neg k17).trans ((if_neg k28).trans ((if_neg k39).trans (if_pos (by rw [b2i_f' (he.symm.trans k49)]; rfl)))))).symm) rfl
          · refine AW.aload_n dX2_betweenOf_52 rfl rfl ?_
            refine AW.callV (Y := mX2_isShut) (n := 0) (r_X2_isShut hq hql) (by decide) (by decide) rfl gM q1590 q1592 qs81 q141 q1593 dX2_betweenOf_53 (by decide +kernel) rfl rfl (Nat.le_of_ble_eq_true rfl) rfl ?_
            refine AW.if_eqB (tgt := 61) dX2_betweenOf_56 (by decide) rfl (fun k56 => ?_) (fun k56 => ?_)
            · refine AW.aload_n dX2_betweenOf_61 rfl rfl ?_
              refine AW.callV (Y := mX2_isCompared) (n := 0) (r_X2_isCompared hq hql) (by decide) (by decide) rfl gM q1594 q1596 qs82 q141 q1597 dX2_betweenOf_62 (by decide +kernel) rfl rfl (Nat.le_of_ble_eq_true rfl) rfl ?_
              refine AW.if_neB (tgt := 73) dX2_betweenOf_65 (by decide) rfl (fun k65 => ?_) (fun k65 => ?_)
              · refine AW.aload_n dX2_betweenOf_73 rfl rfl ?_
                refine AW.bipush (v := 97) dX2_betweenOf_74 (by decide) rfl ?_
                refine AW.bipush (v := 110) dX2_betweenOf_76 (by decide) rfl ?_
                refine AW.bipush (v := 100) dX2_betweenOf_78 (by decide) rfl ?_
                refine AW.callS (Y := mX2_w3) (n := 3) (r_X2_w3 _ _ _) (by decide) (by decide) q1534 q1535 q141 q1536 dX2_betweenOf_80 (by decide +kernel) rfl rfl (Nat.le_of_ble_eq_true rfl) rfl ?_
                refine AW.callV (Y := mX2_isWord) (n := 1) (r_X2_isWord _) (by decide) (by decide) rfl gM q1540 q1542 qs70 q141 q1543 dX2_betweenOf_83 (by decide +kernel) rfl rfl (Nat.le_of_ble_eq_true rfl) rfl ?_
                refine AW.if_eqB (tgt := 94) dX2_betweenOf_86 (by decide) rfl (fun k86 => ?_) (fun k86 => ?_)
                · refine AW.aload_n dX2_betweenOf_94 rfl rfl ?_
                  refine AW.bipush (v := 111) dX2_betweenOf_95 (by decide) rfl ?_
                  refine AW.bipush (v := 114) dX2_betweenOf_97 (by decide) rfl ?_
                  refine AW.callS (Y := mX2_w2) (n := 2) (r_X2_w2 _ _) (by decide) (by decide) q1537 q1538 q141 q1539 dX2_betweenOf_99 (by decide +kernel) rfl rfl (Nat.le_of_ble_eq_true rfl) rfl ?_
                  refine AW.callV (Y := mX2_isWord) (n := 1) (r_X2_isWord _) (by decide) (by decide) rfl gM q1540 q1542 qs70 q141 q1543 dX2_betweenOf_102 (by decide +kernel) rfl rfl (Nat.le_of_ble_eq_true rfl) rfl ?_
                  refine AW.if_eqB (tgt := 113) dX2_betweenOf_105 (by decide) rfl (fun k105 => ?_) (fun k105 => ?_)
                  · refine AW.iconst (v := (-1)) dX2_betweenOf_113 (by decide) rfl ?_
                    exact AW.iretE dX2_betweenOf_114 rfl rfl (by exact ((if_neg k6).trans ((if_neg k17).trans ((if_neg k28).trans ((if_neg k39).trans ((if_neg (by rw [b2i_t' (fun z => k49 (he.trans z)), k56]; decide)).trans ((if_neg (by rw [k65]; decide)).trans ((if_neg (by rw [k86]; decide)).trans (if_neg (by rw [k105]; decide))))))))).symm) rfl
                  · refine AW.bipush (v := 22) dX2_betweenOf_108 (by decide) rfl ?_
                    refine AW.goto (tgt := 114) dX2_betweenOf_110 (by decide) ?_
                    exact AW.iretE dX2_betweenOf_114 rfl rfl (by exact ((if_neg k6).trans ((if_neg k17).trans ((if_neg k28).trans ((if_neg k39).trans ((if_neg (by rw [b2i_t' (fun z => k49 (he.trans z)), k56]; decide)).trans ((if_neg (by rw [k65]; decide)).trans ((if_neg (by rw [k86]; decide)).trans (if_pos k105)))))))).symm) rfl
                · refine AW.bipush (v := 21) dX2_betweenOf_89 (by decide) rfl ?_
                  refine AW.goto (tgt := 114) dX2_betweenOf_91 (by decide) ?_
                  exact AW.iretE dX2_betweenOf_114 rfl rfl (by exact ((if_neg k6).trans ((if_neg k17).trans ((if_neg k28).trans ((if_neg k39).trans ((if_neg (by rw [b2i_t' (fun z => k49 (he.trans z)), k56]; decide)).trans ((if_neg (by rw [k65]; decide)).trans (if_pos k86))))))).symm) rfl
              · refine AW.aload_n dX2_betweenOf_68 rfl rfl ?_
                refine AW.callV (Y := mX2_compareOf) (n := 0) (r_X2_compareOf n hn h300 p hp1 hpl) (by decide) (by decide) rfl gM q1601 q1603 qs83 q141 q1604 dX2_betweenOf_69 (by decide +kernel) rfl rfl (Nat.le_of_ble_eq_true rfl) rfl ?_
                exact AW.iretE dX2_betweenOf_72 rfl rfl (by exact ((if_neg k6).trans ((if_neg k17).trans ((if_neg k28).trans ((if_neg k39).trans ((if_neg (by rw [b2i_t' (fun z => k49 (he.trans z)), k56]; decide)).trans (if_pos k65)))))).symm) rfl
            · refine AW.iconst (v := (-1)) dX2_betweenOf_59 (by decide) rfl ?_
              exact AW.iretE dX2_betweenOf_60 rfl rfl (by exact ((if_neg k6).trans ((if_neg k17).trans ((if_neg k28).trans ((if_neg k39).trans (if_pos (by rw [k56, Bool.not_true, Bool.and_false])))))).symm) rfl
        · refine AW.bipush (v := 6) dX2_betweenOf_42 (by decide) rfl ?_
          exact AW.iretE dX2_betweenOf_44 rfl rfl (by exact ((if_neg k6).trans ((if_neg k17).trans ((if_neg k28).trans (if_pos k39)))).symm) rfl
      · refine AW.iconst (v := 5) dX2_betweenOf_31 (by decide) rfl ?_
        exact AW.iretE dX2_betweenOf_32 rfl rfl (by exact ((if_neg k6).trans ((if_neg k17).trans (if_pos k28))).symm) rfl
    · refine AW.iconst (v := 4) dX2_betweenOf_20 (by decide) rfl ?_
      exact AW.iretE dX2_betweenOf_21 rfl rfl (by exact ((if_neg k6).trans (if_pos k17)).symm) rfl
  · refine AW.iconst (v := 3) dX2_betweenOf_9 (by decide) rfl ?_
    exact AW.iretE dX2_betweenOf_10 rfl rfl (by exact (if_pos k6).symm) rfl
theorem r_X2_behindOne_o {s : Sg} {L : Lq} {X PA : Nat → Int32} {base : Nat} {C : Cd} {Q : List Int32} {o : Int32} {w : Bool} (hb : s.S 12 + 97 = nI base) (hb2 : base + 608 ≤ 2820) (hq : pileR PA Q) (hql : Q.length ≤ 160) (hq2 : Q.length < 160) (hcq : C.length + Q.length < 304) (e : Bool) (he : s.S 19 = b2i e) (n : Nat) (hn : s.S 4 = nI n) (h300 : n ≤ 300) (hby : ∀ k, k < n → 0 ≤ s.A 629 k) (k0 : Nat) (hk0 : k0 ≤ n) (hL : L.1 = nI k0) (p : Nat) (hp1 : L.2.1 = nI p) (hpl : p ≤ n) {Q1 : List Int32} {C1 : Cd} {o1 : Int32} (b : Int32) (hbt : btwF e (byteF (s.A 629) n) L p Q = b) (hb0 : 0 ≤ b) (hr : settleL (if rankF b = 4 then 5 else rankF b) Q C o = (Q1, C1, o1)) : Run 7 mX2_behindOne [.ref 625] (hp (ps s L (gq X base C PA Q o w))) (.inl (some (.int (0)))) (hp (ps s (lexL (s.A 629) n k0 L) (gq X base C1 (up PA Q1.length b) (b :: Q1) o1 false))) := by
  have hst := r_X2_settle (s := s) (L := L) (X := X) (PA := PA) (C := C) (Q := Q) (o := o) (w := w) hb hb2 hq hql (by omega) (if rankF b = 4 then 5 else rankF b)
  rw [hr] at hst
  obtain ⟨hpp, hl1, hc1⟩ := settle_p hr hq
  have hbw := r_X2_betweenOf (s := s) (X := X) (C := C) (o := o) (w := w) (base := base) hq hql e he n hn h300 p hp1 hpl
  rw [hbt] at hbw
  refine Run.of rfl (Nat.le_of_ble_eq_true rfl) rfl ?_
  refine AW.aload_n dX2_behindOne_0 rfl rfl ?_
  refine AW.callV (Y := mX2_betweenOf) (n := 0) (hbw) (by decide) (by decide) rfl gM q1586 q1588 qs80 q141 q1589 dX2_behindOne_1 (by decide +kernel) rfl rfl (Nat.le_of_ble_eq_true rfl) rfl ?_
  refine AW.istore_n (i := 1) dX2_behindOne_4 rfl rfl (Nat.le_of_ble_eq_true rfl) rfl rfl ?_
  refine AW.iload_n dX2_behindOne_5 rfl rfl ?_
  refine AW.if_lt (tgt := 60) dX2_behindOne_6 (by decide) rfl (fun c_ => by first | exact absurd c_ (Int32.not_lt.mpr hb0) | exact absurd (Int32.not_lt.mpr hb0) c_ | exact Bool.noConfusion (c_.symm.trans (Int32.not_lt.mpr hb0))) (fun _ => ?_)
  refine AW.aload_n dX2_behindOne_9 rfl rfl ?_
  refine AW.iload_n dX2_behindOne_10 rfl rfl ?_
  refine AW.callS (Y := mX2_rank) (n := 1) (r_X2_rank _) (by decide) (by decide) q1598 q1599 q141 q1600 dX2_behindOne_11 (by decide +kernel) rfl rfl (Nat.le_of_ble_eq_true rfl) rfl ?_
  refine AW.iconst (v := 4) dX2_behindOne_14 (by decide) rfl ?_
  refine AW.icmp_ne (tgt := 22) dX2_behindOne_15 (by decide) rfl (fun k15 => ?_) (fun k15 => ?_)
  · refine AW.iload_n dX2_behindOne_22 rfl rfl ?_
    refine AW.callS (Y := mX2_rank) (n := 1) (r_X2_rank _) (by decide) (by decide) q1598 q1599 q141 q1600 dX2_behindOne_23 (by decide +kernel) rfl rfl (Nat.le_of_ble_eq_true rfl) rfl ?_
    refine AW.stT (x := .int (if rankF b = 4 then 5 else rankF b)) (by first | (rw [if_pos k15]; done) | (rw [if_neg k15]; done)) ?_
    refine AW.callV (Y := mX2_settle) (n := 1) (hst) (by decide) (by decide) rfl gM q1605 q1607 qs84 q141 q1608 dX2_behindOne_26 (by decide +kernel) rfl rfl (Nat.le_of_ble_eq_true rfl) rfl ?_
    refine AW.aload_n dX2_behindOne_29 rfl rfl ?_
    refine AW.get ci2 15 (by decide) q1366 dX2_behindOne_30 gM rfl rfl ?_
    refine AW.aload_n dX2_behindOne_33 rfl rfl ?_
    refine AW.get ci2 16 (by decide) q1367 dX2_behindOne_34 gM rfl rfl ?_
    refine AW.iload_n dX2_behindOne_37 rfl rfl ?_
    refine AW.iast dX2_behindOne_38 (by decide) ps_g630 (in0 Q1.length (by omega) (by decide)) (j := Q1.length) (cI_nI (show Q1.length < 2147483648 by omega)) ps_s630 rfl ?_
    refine AW.aload_n dX2_behindOne_39 rfl rfl ?_
    refine AW.dup dX2_behindOne_40 rfl rfl ?_
    refine AW.get ci2 16 (by decide) q1367 dX2_behindOne_41 gM rfl rfl ?_
    refine AW.iconst (v := 1) dX2_behindOne_44 (by decide) rfl ?_
    refine AW.iadd dX2_behindOne_45 rfl ?_
    refine AW.put ci2 16 (by decide) q1367 dX2_behindOne_46 (by decide) gM rfl (fun _ => rfl) (fun _ => rfl) (Nat.le_of_ble_eq_true rfl) ps_s16 rfl ?_
    refine AW.aload_n dX2_behindOne_49 rfl rfl ?_
    refine AW.iconst (v := 0) dX2_behindOne_50 (by decide) rfl ?_
    refine AW.put ci2 18 (by decide) q1369 dX2_behindOne_51 (by decide) gM rfl (fun _ => rfl) (fun _ => rfl) (Nat.le_of_ble_eq_true rfl) ps_s18 rfl ?_
    refine AW.hp (h2 := (hp (ps s L (gq X base C1 (up PA Q1.length b) (b :: Q1) o1 false)))) (by show hp (ps s L (nI C1.length, nI Q1.length + 1, o1, 0, layC X base C1, up PA Q1.length b)) = _; rw [← nI_succ]; rfl) ?_
    refine AW.aload_n dX2_behindOne_54 rfl rfl ?_
    refine AW.callV (Y := mX2_nextToken) (n := 0) (r_X2_nextToken n hn h300 hby k0 hk0 hL) (by decide) (by decide) rfl gM q1501 q1503 qs66 q141 q1504 dX2_behindOne_55 (by decide +kernel) rfl rfl (Nat.le_of_ble_eq_true rfl) rfl ?_
    refine AW.iconst (v := 0) dX2_behindOne_58 (by decide) rfl ?_
    exact AW.iretE dX2_behindOne_59 rfl rfl rfl rfl
  · refine AW.iconst (v := 5) dX2_behindOne_18 (by decide) rfl ?_
    refine AW.goto (tgt := 26) dX2_behindOne_19 (by decide) ?_
    refine AW.stT (x := .int (if rankF b = 4 then 5 else rankF b)) (by first | (rw [if_pos k15]; done) | (rw [if_neg k15]; done)) ?_
    refine AW.callV (Y := mX2_settle) (n := 1) (hst) (by decide) (by decide) rfl gM q1605 q1607 qs84 q141 q1608 dX2_behindOne_26 (by decide +kernel) rfl rfl (Nat.le_of_ble_eq_true rfl) rfl ?_
    refine AW.aload_n dX2_behindOne_29 rfl rfl ?_
    refine AW.get ci2 15 (by decide) q1366 dX2_behindOne_30 gM rfl rfl ?_
    refine AW.aload_n dX2_behindOne_33 rfl rfl ?_
    refine AW.get ci2 16 (by decide) q1367 dX2_behindOne_34 gM rfl rfl ?_
    refine AW.iload_n dX2_behindOne_37 rfl rfl ?_
    refine AW.iast dX2_behindOne_38 (by decide) ps_g630 (in0 Q1.length (by omega) (by decide)) (j := Q1.length) (cI_nI (show Q1.length < 2147483648 by omega)) ps_s630 rfl ?_
    refine AW.aload_n dX2_behindOne_39 rfl rfl ?_
    refine AW.dup dX2_behindOne_40 rfl rfl ?_
    refine AW.get ci2 16 (by decide) q1367 dX2_behindOne_41 gM rfl rfl ?_
    refine AW.iconst (v := 1) dX2_behindOne_44 (by decide) rfl ?_
    refine AW.iadd dX2_behindOne_45 rfl ?_
    refine AW.put ci2 16 (by decide) q1367 dX2_behindOne_46 (by decide) gM rfl (fun _ => rfl) (fun _ => rfl) (Nat.le_of_ble_eq_true rfl) ps_s16 rfl ?_
    refine AW.aload_n dX2_behindOne_49 rfl rfl ?_
    refine AW.iconst (v := 0) dX2_behindOne_50 (by decide) rfl ?_
    refine AW.put ci2 18 (by decide) q1369 dX2_behindOne_51 (by decide) gM rfl (fun _ => rfl) (fun _ => rfl) (Nat.le_of_ble_eq_true rfl) ps_s18 rfl ?_
    refine AW.hp (h2 := (hp (ps s L (gq X base C1 (up PA Q1.length b) (b :: Q1) o1 false)))) (by show hp (ps s L (nI C1.length, nI Q1.length + 1, o1, 0, layC X base C1, up PA Q1.length b)) = _; rw [← nI_succ]; rfl) ?_
    refine AW.aload_n dX2_behindOne_54 rfl rfl ?_
    refine AW.callV (Y := mX2_nextToken) (n := 0) (r_X2_nextToken n hn h300 hby k0 hk0 hL) (by decide) (by decide) rfl gM q1501 q1503 qs66 q141 q1504 dX2_behindOne_55 (by decide +kernel) rfl rfl (Nat.le_of_ble_eq_true rfl) rfl ?_
    refine AW.iconst (v := 0) dX2_behindOne_58 (by decide) rfl ?_
    exact AW.iretE dX2_behindOne_59 rfl rfl rfl rfl
theorem r_X2_behindOne_e {s : Sg} {L : Lq} {X PA : Nat → Int32} {base : Nat} {C : Cd} {Q : List Int32} {o : Int32} {w : Bool} (hq : pileR PA Q) (hql : Q.length ≤ 160) (e : Bool) (he : s.S 19 = b2i e) (n : Nat) (hn : s.S 4 = nI n) (h300 : n ≤ 300) (hby : ∀ k, k < n → 0 ≤ s.A 629 k) (k0 : Nat) (hk0 : k0 ≤ n) (hL : L.1 = nI k0) (p : Nat) (hp1 : L.2.1 = nI p) (hpl : p ≤ n) (hbt : btwF e (byteF (s.A 629) n) L p Q < 0) (hcl : (shutL Q && decide (L.2.2.1 = 41)) = false) : Run 7 mX2_behindOne [.ref 625] (hp (ps s L (gq X base C PA Q o w))) (.inl (some (.int (-1)))) (hp (ps s L (gq X base C PA Q o w))) := by
  refine Run.of rfl (Nat.le_of_ble_eq_true rfl) rfl ?_
  refine AW.aload_n dX2_behindOne_0 rfl rfl ?_
  refine AW.callV (Y := mX2_betweenOf) (n := 0) (r_X2_betweenOf hq hql e he n hn h300 p hp1 hpl) (by decide) (by decide) rfl gM q1586 q1588 qs80 q141 q1589 dX2_behindOne_1 (by decide +kernel) rfl rfl (Nat.le_of_ble_eq_true rfl) rfl ?_
  refine AW.istore_n (i := 1) dX2_behindOne_4 rfl rfl (Nat.le_of_ble_eq_true rfl) rfl rfl ?_
  refine AW.iload_n dX2_behindOne_5 rfl rfl ?_
  refine AW.if_lt (tgt := 60) dX2_behindOne_6 (by decide) rfl (fun _ => ?_) (fun c_ => by first | exact absurd c_ hbt | exact absurd hbt c_ | exact absurd c_ (not_not_intro hbt) | exact Bool.noConfusion (c_.symm.trans hbt))
  refine AW.aload_n dX2_behindOne_60 rfl rfl ?_
  refine AW.callV (Y := mX2_isShut) (n := 0) (r_X2_isShut hq hql) (by decide) (by decide) rfl gM q1590 q1592 qs81 q141 q1593 dX2_behindOne_61 (by decide +kernel) rfl rfl (Nat.le_of_ble_eq_true rfl) rfl ?_
  refine AW.if_eqB (tgt := 76) dX2_behindOne_64 (by decide) rfl (fun k64 => ?_) (fun k64 => ?_)
  · refine AW.iconst (v := (-1)) dX2_behindOne_76 (by decide) rfl ?_
    exact AW.iretE dX2_behindOne_77 rfl rfl rfl rfl
  · refine AW.aload_n dX2_behindOne_67 rfl rfl ?_
    refine AW.get ci2 9 (by decide) q1360 dX2_behindOne_68 gM rfl rfl ?_
    refine AW.bipush (v := 41) dX2_behindOne_71 (by decide) rfl ?_
    refine AW.icmp_eq (tgt := 78) dX2_behindOne_73 (by decide) rfl (fun k73 => ?_) (fun k73 => ?_)
    · exact absurd hcl (by rw [k64, decide_eq_true (show L.2.2.1 = 41 from k73)]; decide)
    · refine AW.iconst (v := (-1)) dX2_behindOne_76 (by decide) rfl ?_
      exact AW.iretE dX2_behindOne_77 rfl rfl rfl rfl
theorem r_X2_behindOne_c {s : Sg} {L : Lq} {X PA : Nat → Int32} {base : Nat} {C : Cd} {Q : List Int32} {o : Int32} {w : Bool} (hb : s.S 12 + 97 = nI base) (hb2 : base + 608 ≤ 2820) (hq : pileR PA Q) (hql : Q.length ≤ 160) (hcq : C.length + Q.length < 304) (e : Bool) (he : s.S 19 = b2i e) (n : Nat) (hn : s.S 4 = nI n) (h300 : n ≤ 300) (hby : ∀ k, k < n → 0 ≤ s.A 629 k) (k0 : Nat) (hk0 : k0 ≤ n) (hL : L.1 = nI k0) (p : Nat) (hp1 : L.2.1 = nI p) (hpl : p ≤ n) (hbt : btwF e (byteF (s.A 629) n) L p Q < 0) (hsh : shutL Q = true) (ht : L.2.2.1 = 41) {Q1 : List Int32} {C1 : Cd} {o1 : Int32} (hr : settleL 1 Q C o = (40 :: Q1, C1, o1)) {r : Int32} {h2 : AH} (hE : Run 4 mX2_endOne [.ref 625] (hp (ps s (lexL (s.A 629) n k0 L) (gq X base C1 PA Q1 (o1 - 1) w))) (.inl (some (.int r))) h2) : Run 7 mX2_behindOne [.ref 625] (hp (ps s L (gq X base C PA Q o w))) (.inl (some (.int r))) h2 := by
  have hst := r_X2_settle (s := s) (L := L) (X := X) (PA := PA) (C := C) (Q := Q) (o := o) (w := w) hb hb2 hq hql (by omega) 1
  rw [hr] at hst
  obtain ⟨hpp, hl1, hc1⟩ := settle_p hr hq
  simp only [List.length_cons] at hl1
  refine Run.of rfl (Nat.le_of_ble_eq_true rfl) rfl ?_
  refine AW.aload_n dX2_behindOne_0 rfl rfl ?_
  refine AW.callV (Y := mX2_betweenOf) (n := 0) (r_X2_betweenOf hq hql e he n hn h300 p hp1 hpl) (by decide) (by decide) rfl gM q1586 q1588 qs80 q141 q1589 dX2_behindOne_1 (by decide +kernel) rfl rfl (Nat.le_of_ble_eq_true rfl) rfl ?_
  refine AW.istore_n (i := 1) dX2_behindOne_4 rfl rfl (Nat.le_of_ble_eq_true rfl) rfl rfl ?_
  refine AW.iload_n dX2_behindOne_5 rfl rfl ?_
  refine AW.if_lt (tgt := 60) dX2_behindOne_6 (by decide) rfl (fun _ => ?_) (fun c_ => by first | exact absurd c_ hbt | exact absurd hbt c_ | exact absurd c_ (not_not_intro hbt) | exact Bool.noConfusion (c_.symm.trans hbt))
  refine AW.aload_n dX2_behindOne_60 rfl rfl ?_
  refine AW.callV (Y := mX2_isShut) (n := 0) (r_X2_isShut hq hql) (by decide) (by decide) rfl gM q1590 q1592 qs81 q141 q1593 dX2_behindOne_61 (by decide +kernel) rfl rfl (Nat.le_of_ble_eq_true rfl) rfl ?_
  refine AW.if_eqB (tgt := 76) dX2_behindOne_64 (by decide) rfl (fun c_ => by first | exact absurd c_ hsh | exact absurd hsh c_ | exact Bool.noConfusion (c_.symm.trans hsh)) (fun _ => ?_)
  refine AW.aload_n dX2_behindOne_67 rfl rfl ?_
  refine AW.get ci2 9 (by decide) q1360 dX2_behindOne_68 gM rfl rfl ?_
  refine AW.bipush (v := 41) dX2_behindOne_71 (by decide) rfl ?_
  refine AW.icmp_eq (tgt := 78) dX2_behindOne_73 (by decide) rfl (fun _ => ?_) (fun c_ => by first | exact absurd c_ ht | exact absurd ht c_ | exact absurd c_ (not_not_intro ht) | exact Bool.noConfusion (c_.symm.trans ht))
  refine AW.aload_n dX2_behindOne_78 rfl rfl ?_
  refine AW.iconst (v := 1) dX2_behindOne_79 (by decide) rfl ?_
  refine AW.callV (Y := mX2_settle) (n := 1) (hst) (by decide) (by decide) rfl gM q1605 q1607 qs84 q141 q1608 dX2_behindOne_80 (by decide +kernel) rfl rfl (Nat.le_of_ble_eq_true rfl) rfl ?_
  refine AW.aload_n dX2_behindOne_83 rfl rfl ?_
  refine AW.dup dX2_behindOne_84 rfl rfl ?_
  refine AW.get ci2 16 (by decide) q1367 dX2_behindOne_85 gM rfl rfl ?_
  refine AW.iconst (v := 1) dX2_behindOne_88 (by decide) rfl ?_
  refine AW.isub dX2_behindOne_89 rfl ?_
  refine AW.put ci2 16 (by decide) q1367 dX2_behindOne_90 (by decide) gM rfl (fun _ => rfl) (fun _ => rfl) (Nat.le_of_ble_eq_true rfl) ps_s16 rfl ?_
  refine AW.aload_n dX2_behindOne_93 rfl rfl ?_
  refine AW.dup dX2_behindOne_94 rfl rfl ?_
  refine AW.get ci2 17 (by decide) q1368 dX2_behindOne_95 gM rfl rfl ?_
  refine AW.iconst (v := 1) dX2_behindOne_98 (by decide) rfl ?_
  refine AW.isub dX2_behindOne_99 rfl ?_
  refine AW.put ci2 17 (by decide) q1368 dX2_behindOne_100 (by decide) gM rfl (fun _ => rfl) (fun _ => rfl) (Nat.le_of_ble_eq_true rfl) ps_s17 rfl ?_
  refine AW.hp (h2 := (hp (ps s L (gq X base C1 PA Q1 (o1 - 1) w)))) (by show hp (ps s L (nI C1.length, nI (Q1.length + 1) - 1, o1 - 1, b2i w, layC X base C1, PA)) = _; rw [nI_s1 (by omega)]; rfl) ?_
  refine AW.aload_n dX2_behindOne_103 rfl rfl ?_
  refine AW.callV (Y := mX2_nextToken) (n := 0) (r_X2_nextToken n hn h300 hby k0 hk0 hL) (by decide) (by decide) rfl gM q1501 q1503 qs66 q141 q1504 dX2_behindOne_104 (by decide +kernel) rfl rfl (Nat.le_of_ble_eq_true rfl) rfl ?_
  refine AW.aload_n dX2_behindOne_107 rfl rfl ?_
  refine AW.callV (Y := mX2_endOne) (n := 0) (hE) (by decide) (by decide) rfl gM q1613 q1615 qs86 q141 q1616 dX2_behindOne_108 (by decide +kernel) rfl rfl (Nat.le_of_ble_eq_true rfl) rfl ?_
  exact AW.iretE dX2_behindOne_111 rfl rfl rfl rfl
