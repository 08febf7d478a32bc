/-! MODEL 31: what waits is settled (printed by tools/m31.py) -/
set_option maxRecDepth 100000
theorem settle_l {s : Sg} {L : Lq} {X PA : Nat → Int32} {base : Nat} {w : Bool} (hb : s.S 12 + 97 = nI base) (hb2 : base + 608 ≤ 2820) (least : Int32) : ∀ (Q : List Int32) (C : Cd) (o : Int32), pileR PA Q → Q.length ≤ 160 → C.length + Q.length ≤ 304 → AW 3 mX2_settle (hp (ps s L (gq X base C PA Q o w))) 0 [some (.ref 625), some (.int (least))] [] (.inl none) (hp (ps s L (gq X base (settleL least Q C o).2.1 PA (settleL least Q C o).1 (settleL least Q C o).2.2 w))) := by
  intro Q
  induction Q with
  | nil =>
    intro C o hq hl hc
    refine AW.aload_n dX2_settle_0 rfl rfl ?_
    refine AW.get ci2 16 (by decide) q1367 dX2_settle_1 gM rfl rfl ?_
    refine AW.if_le (tgt := 93) dX2_settle_4 (by decide) rfl (fun _ => ?_) (fun c_ => by first | exact absurd c_ (by show (nI 0 : Int32) ≤ 0; exact Int32.le_refl _) | exact absurd (by show (nI 0 : Int32) ≤ 0; exact Int32.le_refl _) c_ | exact absurd c_ (not_not_intro (by show (nI 0 : Int32) ≤ 0; exact Int32.le_refl _)) | exact Bool.noConfusion (c_.symm.trans (by show (nI 0 : Int32) ≤ 0; exact Int32.le_refl _)))
    exact AW.vretE dX2_settle_93 rfl rfl rfl
  | cons q Q ih =>
    intro C o hq hl hc
    simp only [List.length_cons] at hl hc
    have hlen : (q :: Q).length = Q.length + 1 := rfl
    refine AW.aload_n dX2_settle_0 rfl rfl ?_
    refine AW.get ci2 16 (by decide) q1367 dX2_settle_1 gM rfl rfl ?_
    refine AW.if_le (tgt := 93) dX2_settle_4 (by decide) rfl (fun c_ => by first | exact absurd c_ (by show ¬ nI (Q.length + 1) ≤ 0; rw [Int32.le_iff_toInt_le, nI_t (by omega)]; show ¬ _ ≤ (0 : Int); omega) | exact absurd (by show ¬ nI (Q.length + 1) ≤ 0; rw [Int32.le_iff_toInt_le, nI_t (by omega)]; show ¬ _ ≤ (0 : Int); omega) c_ | exact Bool.noConfusion (c_.symm.trans (by show ¬ nI (Q.length + 1) ≤ 0; rw [Int32.le_iff_toInt_le, nI_t (by omega)]; show ¬ _ ≤ (0 : Int); omega))) (fun _ => ?_)
    refine AW.aload_n dX2_settle_7 rfl rfl ?_
    refine AW.get ci2 15 (by decide) q1366 dX2_settle_8 gM rfl rfl ?_
    refine AW.aload_n dX2_settle_11 rfl rfl ?_
    refine AW.get ci2 16 (by decide) q1367 dX2_settle_12 gM rfl rfl ?_
    refine AW.iconst (v := 1) dX2_settle_15 (by decide) rfl ?_
    refine AW.isub dX2_settle_16 rfl ?_
    refine AW.stT (x := .int (nI Q.length)) (by show Value.int (nI (Q.length + 1) - 1) = _; rw [nI_s1 (by omega)]; rfl) ?_
    refine AW.iald dX2_settle_17 ps_g630 (in0 Q.length (by omega) (by decide)) (j := Q.length) (cI_nI (by omega)) rfl ?_
    refine AW.stT (x := .int (q)) (by show Value.int (PA Q.length) = _; rw [hq.1]) ?_
    refine AW.callS (Y := mX2_rank) (n := 1) (r_X2_rank q) (by decide) (by decide) q1598 q1599 q141 q1600 dX2_settle_18 (by decide +kernel) rfl rfl (Nat.le_of_ble_eq_true rfl) rfl ?_
    refine AW.iload_n dX2_settle_21 rfl rfl ?_
    refine AW.icmp_lt (tgt := 93) dX2_settle_22 (by decide) rfl (fun k22 => ?_) (fun k22 => ?_)
    · have e9 : settleL least (q :: Q) C o = (q :: Q, C, o) := if_neg (Int32.not_le.mpr k22)
      rw [e9]
      exact AW.vretE dX2_settle_93 rfl rfl rfl
    · refine AW.aload_n dX2_settle_25 rfl rfl ?_
      refine AW.dup dX2_settle_26 rfl rfl ?_
      refine AW.get ci2 16 (by decide) q1367 dX2_settle_27 gM rfl rfl ?_
      refine AW.iconst (v := 1) dX2_settle_30 (by decide) rfl ?_
      refine AW.isub dX2_settle_31 rfl ?_
      refine AW.put ci2 16 (by decide) q1367 dX2_settle_32 (by decide) gM rfl (fun _ => rfl) (fun _ => rfl) (Nat.le_of_ble_eq_true rfl) ps_s16 rfl ?_
      refine AW.hp (h2 := (hp (ps s L (gq X base C PA Q o w)))) (by show hp (ps s L (nI C.length, nI (Q.length + 1) - 1, o, b2i w, layC X base C, PA)) = _; rw [nI_s1 (by omega)]; rfl) ?_
      refine AW.aload_n dX2_settle_35 rfl rfl ?_
      refine AW.aload_n dX2_settle_36 rfl rfl ?_
      refine AW.get ci2 15 (by decide) q1366 dX2_settle_37 gM rfl rfl ?_
      refine AW.aload_n dX2_settle_40 rfl rfl ?_
      refine AW.get ci2 16 (by decide) q1367 dX2_settle_41 gM rfl rfl ?_
      refine AW.iald dX2_settle_44 ps_g630 (in0 Q.length (by omega) (by decide)) (j := Q.length) (cI_nI (by omega)) rfl ?_
      refine AW.stT (x := .int (q)) (by show Value.int (PA Q.length) = _; rw [hq.1]) ?_
      refine AW.iconst (v := 0) dX2_settle_45 (by decide) rfl ?_
      refine AW.callV (Y := mX2_emit) (n := 2) (r_X2_emit hb hb2 (by omega) q 0) (by decide) (by decide) rfl gM q1609 q1611 qs85 q141 q1612 dX2_settle_46 (by decide +kernel) rfl rfl (Nat.le_of_ble_eq_true rfl) rfl ?_
      refine AW.aload_n dX2_settle_49 rfl rfl ?_
      refine AW.get ci2 15 (by decide) q1366 dX2_settle_50 gM rfl rfl ?_
      refine AW.aload_n dX2_settle_53 rfl rfl ?_
      refine AW.get ci2 16 (by decide) q1367 dX2_settle_54 gM rfl rfl ?_
      refine AW.iald dX2_settle_57 ps_g630 (in0 Q.length (by omega) (by decide)) (j := Q.length) (cI_nI (by omega)) rfl ?_
      refine AW.stT (x := .int (q)) (by show Value.int (PA Q.length) = _; rw [hq.1]) ?_
      refine AW.callS (Y := mX2_rank) (n := 1) (r_X2_rank q) (by decide) (by decide) q1598 q1599 q141 q1600 dX2_settle_58 (by decide +kernel) rfl rfl (Nat.le_of_ble_eq_true rfl) rfl ?_
      refine AW.bipush (v := 7) dX2_settle_61 (by decide) rfl ?_
      refine AW.icmp_eq (tgt := 80) dX2_settle_63 (by decide) rfl (fun k63 => ?_) (fun k63 => ?_)
      · refine AW.aload_n dX2_settle_80 rfl rfl ?_
        refine AW.dup dX2_settle_81 rfl rfl ?_
        refine AW.get ci2 17 (by decide) q1368 dX2_settle_82 gM rfl rfl ?_
        refine AW.iconst (v := 1) dX2_settle_85 (by decide) rfl ?_
        refine AW.isub dX2_settle_86 rfl ?_
        refine AW.put ci2 17 (by decide) q1368 dX2_settle_87 (by decide) gM rfl (fun _ => rfl) (fun _ => rfl) (Nat.le_of_ble_eq_true rfl) ps_s17 rfl ?_
        refine AW.goto (tgt := 0) dX2_settle_90 (by decide) ?_
        have e9 : settleL least (q :: Q) C o = settleL least Q (C ++ [(q, 0)]) (o - 1) := by
          show (if least ≤ rankF q then settleL least Q (C ++ [(q, 0)]) (if rankF q = 7 ∨ q = 20 then o - 1 else o) else (q :: Q, C, o)) = _
          rw [if_pos (Int32.not_lt.mp k22), if_pos (Or.inl k63)]
        rw [e9]
        exact ih (C ++ [(q, 0)]) (o - 1) hq.2 (by omega) (by rw [List.length_append]; show C.length + 1 + Q.length ≤ 304; omega)
      · refine AW.aload_n dX2_settle_66 rfl rfl ?_
        refine AW.get ci2 15 (by decide) q1366 dX2_settle_67 gM rfl rfl ?_
        refine AW.aload_n dX2_settle_70 rfl rfl ?_
        refine AW.get ci2 16 (by decide) q1367 dX2_settle_71 gM rfl rfl ?_
        refine AW.iald dX2_settle_74 ps_g630 (in0 Q.length (by omega) (by decide)) (j := Q.length) (cI_nI (by omega)) rfl ?_
        refine AW.stT (x := .int (q)) (by show Value.int (PA Q.length) = _; rw [hq.1]) ?_
        refine AW.bipush (v := 20) dX2_settle_75 (by decide) rfl ?_
        refine AW.icmp_ne (tgt := 0) dX2_settle_77 (by decide) rfl (fun k77 => ?_) (fun k77 => ?_)
        · have e9 : settleL least (q :: Q) C o = settleL least Q (C ++ [(q, 0)]) (o) := by
            show (if least ≤ rankF q then settleL least Q (C ++ [(q, 0)]) (if rankF q = 7 ∨ q = 20 then o - 1 else o) else (q :: Q, C, o)) = _
            rw [if_pos (Int32.not_lt.mp k22), if_neg (fun z => by rcases z with z | z; exact k63 z; exact k77 z)]
          rw [e9]
          exact ih (C ++ [(q, 0)]) (o) hq.2 (by omega) (by rw [List.length_append]; show C.length + 1 + Q.length ≤ 304; omega)
        · refine AW.aload_n dX2_settle_80 rfl rfl ?_
          refine AW.dup dX2_settle_81 rfl rfl ?_
          refine AW.get ci2 17 (by decide) q1368 dX2_settle_82 gM rfl rfl ?_
          refine AW.iconst (v := 1) dX2_settle_85 (by decide) rfl ?_
          refine AW.isub dX2_settle_86 rfl ?_
          refine AW.put ci2 17 (by decide) q1368 dX2_settle_87 (by decide) gM rfl (fun _ => rfl) (fun _ => rfl) (Nat.le_of_ble_eq_true rfl) ps_s17 rfl ?_
          refine AW.goto (tgt := 0) dX2_settle_90 (by decide) ?_
          have e9 : settleL least (q :: Q) C o = settleL least Q (C ++ [(q, 0)]) (o - 1) := by
            show (if least ≤ rankF q then settleL least Q (C ++ [(q, 0)]) (if rankF q = 7 ∨ q = 20 then o - 1 else o) else (q :: Q, C, o)) = _
            rw [if_pos (Int32.not_lt.mp k22), if_pos (Or.inr k77)]
          rw [e9]
          exact ih (C ++ [(q, 0)]) (o - 1) hq.2 (by omega) (by rw [List.length_append]; show C.length + 1 + Q.length ≤ 304; omega)
theorem r_X2_settle {s : Sg} {L : Lq} {X PA : Nat → Int32} {base : Nat} {C : Cd} {Q : List Int32} {o : Int32} {w : Bool} (hb : s.S 12 + 97 = nI base) (hb2 : base + 608 ≤ 2820) (hq : pileR PA Q) (hql : Q.length ≤ 160) (hcq : C.length + Q.length ≤ 304) (least : Int32) : Run 3 mX2_settle [.ref 625, .int least] (hp (ps s L (gq X base C PA Q o w))) (.inl none) (hp (ps s L (gq X base (settleL least Q C o).2.1 PA (settleL least Q C o).1 (settleL least Q C o).2.2 w))) := by
  refine Run.of rfl (Nat.le_of_ble_eq_true rfl) rfl ?_
  exact settle_l hb hb2 least Q C o hq hql hcq
