/-! MODEL 2: questions of houses and of the book (printed by tools/m2.py) -/
set_option maxRecDepth 100000
theorem r_X2_shutOn {s : Sg} (hn : (vwM (s.A 626)).ok) (dt : Int32) : Run 5 mX2_shutOn [.ref 625, .int dt] (hp s) (.inl (some (.int ((vwM (s.A 626)).shutOn dt)))) (hp s) := by
  refine Run.of rfl (Nat.le_of_ble_eq_true rfl) rfl ?_
  refine AW.iconst (v := 0) dX2_shutOn_0 (by decide) rfl ?_
  refine AW.istore_n (i := 2) dX2_shutOn_1 rfl rfl (Nat.le_of_ble_eq_true rfl) rfl rfl ?_
  refine AW.iconst (v := 0) dX2_shutOn_2 (by decide) rfl ?_
  refine AW.istore_n (i := 3) dX2_shutOn_3 rfl rfl (Nat.le_of_ble_eq_true rfl) rfl rfl ?_
  refine loopUp (P := fun k => AW 5 mX2_shutOn (hp s) 4 [some (.ref 625), some (.int (dt)), some (.int (sumUp (fun k => b2i ((vwM (s.A 626)).her (nI k) && hasI ((vwM (s.A 626)).sh (nI k)) dt)) k)), some (.int (nI k))] [] (.inl (some (.int ((vwM (s.A 626)).shutOn dt)))) (hp s)) (vwM (s.A 626)).n ?_ ?_ 0 (by first | exact Nat.zero_le _ | omega)
  · refine AW.iload_n dX2_shutOn_4 rfl rfl ?_
    refine AW.aload_n dX2_shutOn_5 rfl rfl ?_
    refine AW.get ci2 0 (by decide) q1351 dX2_shutOn_6 gM rfl rfl ?_
    refine AW.iconst (v := 0) dX2_shutOn_9 (by decide) rfl ?_
    refine AW.iald dX2_shutOn_10 g626 (vp_in_iff.mpr (by decide)) (j := 0) (by decide) rfl ?_
    refine AW.icmp_ge (tgt := 49) dX2_shutOn_11 (by decide) rfl (fun _ => ?_) (fun c_ => by first | exact absurd c_ (loop_end (by have := Vw.n7 hn; omega) (Vw.nN hn)) | exact absurd (loop_end (by have := Vw.n7 hn; omega) (Vw.nN hn)) c_ | exact absurd c_ (not_not_intro (loop_end (by have := Vw.n7 hn; omega) (Vw.nN hn))) | exact Bool.noConfusion (c_.symm.trans (loop_end (by have := Vw.n7 hn; omega) (Vw.nN hn))))
    refine AW.iload_n dX2_shutOn_49 rfl rfl ?_
    exact AW.iretE dX2_shutOn_50 rfl rfl rfl rfl
  · intro k hk ihk
    have e0 := vwM_sh (Vw.hou_k hn hk)
    refine AW.iload_n dX2_shutOn_4 rfl rfl ?_
    refine AW.aload_n dX2_shutOn_5 rfl rfl ?_
    refine AW.get ci2 0 (by decide) q1351 dX2_shutOn_6 gM rfl rfl ?_
    refine AW.iconst (v := 0) dX2_shutOn_9 (by decide) rfl ?_
    refine AW.iald dX2_shutOn_10 g626 (vp_in_iff.mpr (by decide)) (j := 0) (by decide) rfl ?_
    refine AW.icmp_ge (tgt := 49) dX2_shutOn_11 (by decide) rfl (fun c_ => by first | exact absurd c_ (loop_in hk (by have := Vw.n7 hn; omega) (Vw.nN hn)) | exact absurd (loop_in hk (by have := Vw.n7 hn; omega) (Vw.nN hn)) c_ | exact Bool.noConfusion (c_.symm.trans (loop_in hk (by have := Vw.n7 hn; omega) (Vw.nN hn)))) (fun _ => ?_)
    refine AW.iload_n dX2_shutOn_14 rfl rfl ?_
    refine AW.aload_n dX2_shutOn_15 rfl rfl ?_
    refine AW.iload_n dX2_shutOn_16 rfl rfl ?_
    refine AW.callV (Y := mX2_isHere) (n := 1) (r_X2_isHere hn _) (by decide) (by decide) rfl gM q1649 q1651 qs91 q141 q1652 dX2_shutOn_17 (by decide +kernel) rfl rfl (Nat.le_of_ble_eq_true rfl) rfl ?_
    refine AW.if_eqB (tgt := 40) dX2_shutOn_20 (by decide) rfl (fun c1 => ?_) (fun c1 => ?_)
    · refine AW.iconst (v := 0) dX2_shutOn_40 (by decide) rfl ?_
      refine AW.iadd dX2_shutOn_41 rfl ?_
      refine AW.istore_n (i := 2) dX2_shutOn_42 rfl rfl (Nat.le_of_ble_eq_true rfl) rfl rfl ?_
      refine AW.iinc (v := 1) dX2_shutOn_43 rfl (by decide) rfl rfl rfl ?_
      refine AW.goto (tgt := 4) dX2_shutOn_46 (by decide) ?_
      exact AW.ls (by simp_all [sumUp, nI_succ, b2i]) ihk
    · refine AW.aload_n dX2_shutOn_23 rfl rfl ?_
      refine AW.iload_n dX2_shutOn_24 rfl rfl ?_
      refine AW.iconst (v := 0) dX2_shutOn_25 (by decide) rfl ?_
      refine AW.callV (Y := mX2_get) (n := 2) (r_X2_get _ _ (in_get hn (Vw.hou_k hn hk) (by decide) (by decide))) (by decide) (by decide) rfl gM q1477 q1479 qs63 q141 q1480 dX2_shutOn_26 (by decide +kernel) rfl rfl (Nat.le_of_ble_eq_true rfl) rfl ?_
      refine AW.iload_n dX2_shutOn_29 rfl rfl ?_
      refine AW.callS (Y := mX2_has) (n := 2) (r_X2_has _ _) (by decide) (by decide) q1547 q1548 q141 q1549 dX2_shutOn_30 (by decide +kernel) rfl rfl (Nat.le_of_ble_eq_true rfl) rfl ?_
      refine AW.if_eqB (tgt := 40) dX2_shutOn_33 (by decide) rfl (fun c2 => ?_) (fun c2 => ?_)
      · refine AW.iconst (v := 0) dX2_shutOn_40 (by decide) rfl ?_
        refine AW.iadd dX2_shutOn_41 rfl ?_
        refine AW.istore_n (i := 2) dX2_shutOn_42 rfl rfl (Nat.le_of_ble_eq_true rfl) rfl rfl ?_
        refine AW.iinc (v := 1) dX2_shutOn_43 rfl (by decide) rfl rfl rfl ?_
        refine AW.goto (tgt := 4) dX2_shutOn_46 (by decide) ?_
        exact AW.ls (by simp_all [sumUp, nI_succ, b2i]) ihk
      · refine AW.iconst (v := 1) dX2_shutOn_36 (by decide) rfl ?_
        refine AW.goto (tgt := 41) dX2_shutOn_37 (by decide) ?_
        refine AW.iadd dX2_shutOn_41 rfl ?_
        refine AW.istore_n (i := 2) dX2_shutOn_42 rfl rfl (Nat.le_of_ble_eq_true rfl) rfl rfl ?_
        refine AW.iinc (v := 1) dX2_shutOn_43 rfl (by decide) rfl rfl rfl ?_
        refine AW.goto (tgt := 4) dX2_shutOn_46 (by decide) ?_
        exact AW.ls (by simp_all [sumUp, nI_succ, b2i]) ihk
theorem r_X2_friendsOn {s : Sg} (hn : (vwM (s.A 626)).ok) (dt : Int32) : Run 5 mX2_friendsOn [.ref 625, .int dt] (hp s) (.inl (some (.int ((vwM (s.A 626)).friendsOn dt)))) (hp s) := by
  refine Run.of rfl (Nat.le_of_ble_eq_true rfl) rfl ?_
  refine AW.iconst (v := 0) dX2_friendsOn_0 (by decide) rfl ?_
  refine AW.istore_n (i := 2) dX2_friendsOn_1 rfl rfl (Nat.le_of_ble_eq_true rfl) rfl rfl ?_
  refine AW.iconst (v := 0) dX2_friendsOn_2 (by decide) rfl ?_
  refine AW.istore_n (i := 3) dX2_friendsOn_3 rfl rfl (Nat.le_of_ble_eq_true rfl) rfl rfl ?_
  refine loopUp (P := fun k => AW 5 mX2_friendsOn (hp s) 4 [some (.ref 625), some (.int (dt)), some (.int (sumUp (fun k => if (vwM (s.A 626)).opn (nI k) dt then (vwM (s.A 626)).fr (nI k) else 0) k)), some (.int (nI k))] [] (.inl (some (.int ((vwM (s.A 626)).friendsOn dt)))) (hp s)) (vwM (s.A 626)).n ?_ ?_ 0 (by first | exact Nat.zero_le _ | omega)
  · refine AW.iload_n dX2_friendsOn_4 rfl rfl ?_
    refine AW.aload_n dX2_friendsOn_5 rfl rfl ?_
    refine AW.get ci2 0 (by decide) q1351 dX2_friendsOn_6 gM rfl rfl ?_
    refine AW.iconst (v := 0) dX2_friendsOn_9 (by decide) rfl ?_
    refine AW.iald dX2_friendsOn_10 g626 (vp_in_iff.mpr (by decide)) (j := 0) (by decide) rfl ?_
    refine AW.icmp_ge (tgt := 42) dX2_friendsOn_11 (by decide) rfl (fun _ => ?_) (fun c_ => by first | exact absurd c_ (loop_end (by have := Vw.n7 hn; omega) (Vw.nN hn)) | exact absurd (loop_end (by have := Vw.n7 hn; omega) (Vw.nN hn)) c_ | exact absurd c_ (not_not_intro (loop_end (by have := Vw.n7 hn; omega) (Vw.nN hn))) | exact Bool.noConfusion (c_.symm.trans (loop_end (by have := Vw.n7 hn; omega) (Vw.nN hn))))
    refine AW.iload_n dX2_friendsOn_42 rfl rfl ?_
    exact AW.iretE dX2_friendsOn_43 rfl rfl rfl rfl
  · intro k hk ihk
    have e0 := vwM_fr (Vw.hou_k hn hk)
    refine AW.iload_n dX2_friendsOn_4 rfl rfl ?_
    refine AW.aload_n dX2_friendsOn_5 rfl rfl ?_
    refine AW.get ci2 0 (by decide) q1351 dX2_friendsOn_6 gM rfl rfl ?_
    refine AW.iconst (v := 0) dX2_friendsOn_9 (by decide) rfl ?_
    refine AW.iald dX2_friendsOn_10 g626 (vp_in_iff.mpr (by decide)) (j := 0) (by decide) rfl ?_
    refine AW.icmp_ge (tgt := 42) dX2_friendsOn_11 (by decide) rfl (fun c_ => by first | exact absurd c_ (loop_in hk (by have := Vw.n7 hn; omega) (Vw.nN hn)) | exact absurd (loop_in hk (by have := Vw.n7 hn; omega) (Vw.nN hn)) c_ | exact Bool.noConfusion (c_.symm.trans (loop_in hk (by have := Vw.n7 hn; omega) (Vw.nN hn)))) (fun _ => ?_)
    refine AW.iload_n dX2_friendsOn_14 rfl rfl ?_
    refine AW.aload_n dX2_friendsOn_15 rfl rfl ?_
    refine AW.iload_n dX2_friendsOn_16 rfl rfl ?_
    refine AW.iload_n dX2_friendsOn_17 rfl rfl ?_
    refine AW.callV (Y := mX2_isOpen) (n := 2) (r_X2_isOpen hn _ _) (by decide) (by decide) rfl gM q1692 q1694 qs101 q141 q1695 dX2_friendsOn_18 (by decide +kernel) rfl rfl (Nat.le_of_ble_eq_true rfl) rfl ?_
    refine AW.if_eqB (tgt := 33) dX2_friendsOn_21 (by decide) rfl (fun c1 => ?_) (fun c1 => ?_)
    · refine AW.iconst (v := 0) dX2_friendsOn_33 (by decide) rfl ?_
      refine AW.iadd dX2_friendsOn_34 rfl ?_
      refine AW.istore_n (i := 2) dX2_friendsOn_35 rfl rfl (Nat.le_of_ble_eq_true rfl) rfl rfl ?_
      refine AW.iinc (v := 1) dX2_friendsOn_36 rfl (by decide) rfl rfl rfl ?_
      refine AW.goto (tgt := 4) dX2_friendsOn_39 (by decide) ?_
      exact AW.ls (by simp_all [sumUp, nI_succ, b2i]) ihk
    · refine AW.aload_n dX2_friendsOn_24 rfl rfl ?_
      refine AW.iload_n dX2_friendsOn_25 rfl rfl ?_
      refine AW.iconst (v := 2) dX2_friendsOn_26 (by decide) rfl ?_
      refine AW.callV (Y := mX2_get) (n := 2) (r_X2_get _ _ (in_get hn (Vw.hou_k hn hk) (by decide) (by decide))) (by decide) (by decide) rfl gM q1477 q1479 qs63 q141 q1480 dX2_friendsOn_27 (by decide +kernel) rfl rfl (Nat.le_of_ble_eq_true rfl) rfl ?_
      refine AW.goto (tgt := 34) dX2_friendsOn_30 (by decide) ?_
      refine AW.iadd dX2_friendsOn_34 rfl ?_
      refine AW.istore_n (i := 2) dX2_friendsOn_35 rfl rfl (Nat.le_of_ble_eq_true rfl) rfl rfl ?_
      refine AW.iinc (v := 1) dX2_friendsOn_36 rfl (by decide) rfl rfl rfl ?_
      refine AW.goto (tgt := 4) dX2_friendsOn_39 (by decide) ?_
      exact AW.ls (by simp_all [sumUp, nI_succ, b2i]) ihk
theorem r_X2_indoors {s : Sg} (hn : (vwM (s.A 626)).ok) (h : Int32) : Run 6 mX2_indoors [.ref 625, .int h] (hp s) (.inl (some (.int ((vwM (s.A 626)).indoors (s.A 626 8) h)))) (hp s) := by
  refine Run.of rfl (Nat.le_of_ble_eq_true rfl) rfl ?_
  refine AW.iload_n dX2_indoors_0 rfl rfl ?_
  refine AW.iconst (v := 1) dX2_indoors_1 (by decide) rfl ?_
  refine AW.bipush (v := 7) dX2_indoors_2 (by decide) rfl ?_
  refine AW.callS (Y := mX2_isIn) (n := 3) (r_X2_isIn _ _ _) (by decide) (by decide) q1466 q1467 q141 q1468 dX2_indoors_4 (by decide +kernel) rfl rfl (Nat.le_of_ble_eq_true rfl) rfl ?_
  refine AW.if_neB (tgt := 12) dX2_indoors_7 (by decide) rfl (fun c7 => ?_) (fun c7 => ?_)
  · refine AW.iconst (v := 0) dX2_indoors_12 (by decide) rfl ?_
    refine AW.istore_n (i := 2) dX2_indoors_13 rfl rfl (Nat.le_of_ble_eq_true rfl) rfl rfl ?_
    refine AW.oo (o2 := .inl (some (.int (srch (fun k => decide (h ≤ (vwM (s.A 626)).shutOn ((s.A 626 8 + nI k) % 20))) nI (-1) (61 - 0) 0)))) (by unfold Vw.indoors; rw [c7]; rfl) ?_
    refine loopUp (P := fun k => AW 6 mX2_indoors (hp s) 14 [some (.ref 625), some (.int (h)), some (.int (nI k))] [] (.inl (some (.int (srch (fun k => decide (h ≤ (vwM (s.A 626)).shutOn ((s.A 626 8 + nI k) % 20))) nI (-1) (61 - k) k)))) (hp s)) 61 ?_ ?_ 0 (by first | exact Nat.zero_le _ | omega)
    · refine AW.iload_n dX2_indoors_14 rfl rfl ?_
      refine AW.bipush (v := 60) dX2_indoors_15 (by decide) rfl ?_
      refine AW.icmp_gt (tgt := 48) dX2_indoors_17 (by decide) rfl (fun _ => ?_) (fun c_ => by first | exact absurd c_ (by decide) | exact absurd (by decide) c_ | exact absurd c_ (not_not_intro (by decide)) | exact Bool.noConfusion (c_.symm.trans (by decide)))
      refine AW.iconst (v := (-1)) dX2_indoors_48 (by decide) rfl ?_
      exact AW.iretE dX2_indoors_49 rfl rfl (srch_e.symm) rfl
    · intro k hk ihk
      refine AW.iload_n dX2_indoors_14 rfl rfl ?_
      refine AW.bipush (v := 60) dX2_indoors_15 (by decide) rfl ?_
      refine AW.icmp_gt (tgt := 48) dX2_indoors_17 (by decide) rfl (fun c_ => by first | exact absurd c_ (nlt_lit 60 rfl (by omega) (by decide)) | exact absurd (nlt_lit 60 rfl (by omega) (by decide)) c_ | exact Bool.noConfusion (c_.symm.trans (nlt_lit 60 rfl (by omega) (by decide)))) (fun _ => ?_)
      refine AW.aload_n dX2_indoors_20 rfl rfl ?_
      refine AW.aload_n dX2_indoors_21 rfl rfl ?_
      refine AW.get ci2 0 (by decide) q1351 dX2_indoors_22 gM rfl rfl ?_
      refine AW.bipush (v := 8) dX2_indoors_25 (by decide) rfl ?_
      refine AW.iald dX2_indoors_27 g626 (vp_in_iff.mpr (by decide)) (j := 8) (by decide) rfl ?_
      refine AW.iload_n dX2_indoors_28 rfl rfl ?_
      refine AW.iadd dX2_indoors_29 rfl ?_
      refine AW.bipush (v := 20) dX2_indoors_30 (by decide) rfl ?_
      refine AW.irem dX2_indoors_32 (by decide) rfl ?_
      refine AW.callV (Y := mX2_shutOn) (n := 1) (r_X2_shutOn hn _) (by decide) (by decide) rfl gM q1865 q1867 qs121 q141 q1868 dX2_indoors_33 (by decide +kernel) rfl rfl (Nat.le_of_ble_eq_true rfl) rfl ?_
      refine AW.iload_n dX2_indoors_36 rfl rfl ?_
      refine AW.icmp_lt (tgt := 42) dX2_indoors_37 (by decide) rfl (fun c => ?_) (fun c => ?_)
      · refine AW.iinc (v := 1) dX2_indoors_42 rfl (by decide) rfl rfl rfl ?_
        refine AW.goto (tgt := 14) dX2_indoors_45 (by decide) ?_
        exact AW.ls (by rw [nI_succ]; rfl) (AW.oo (by rw [srch_f hk (dec_f (Int32.not_le.mpr c))]) ihk)
      · refine AW.iload_n dX2_indoors_40 rfl rfl ?_
        exact AW.iretE dX2_indoors_41 rfl rfl (srch_t hk (dec_t (Int32.not_lt.mp c))).symm rfl
  · refine AW.iconst (v := (-1)) dX2_indoors_10 (by decide) rfl ?_
    exact AW.iretE dX2_indoors_11 rfl rfl (by unfold Vw.indoors; rw [c7]; rfl) rfl
theorem r_X2_crowded {s : Sg} (hn : (vwM (s.A 626)).ok) (z : Int32) : Run 6 mX2_crowded [.ref 625, .int z] (hp s) (.inl (some (.int ((vwM (s.A 626)).crowded z)))) (hp s) := by
  refine Run.of rfl (Nat.le_of_ble_eq_true rfl) rfl ?_
  refine AW.iconst (v := 0) dX2_crowded_0 (by decide) rfl ?_
  refine AW.istore_n (i := 2) dX2_crowded_1 rfl rfl (Nat.le_of_ble_eq_true rfl) rfl rfl ?_
  refine AW.iconst (v := 1) dX2_crowded_2 (by decide) rfl ?_
  refine AW.istore_n (i := 3) dX2_crowded_3 rfl rfl (Nat.le_of_ble_eq_true rfl) rfl rfl ?_
  refine loopUp (P := fun k => AW 6 mX2_crowded (hp s) 4 [some (.ref 625), some (.int (z)), some (.int (bestUp (vwM (s.A 626)).shutOn k)), some (.int (nI (k + 1)))] [] (.inl (some (.int ((vwM (s.A 626)).crowded z)))) (hp s)) 19 ?_ ?_ 0 (by first | exact Nat.zero_le _ | omega)
  · refine AW.iload_n dX2_crowded_4 rfl rfl ?_
    refine AW.bipush (v := 20) dX2_crowded_5 (by decide) rfl ?_
    refine AW.icmp_ge (tgt := 31) dX2_crowded_7 (by decide) rfl (fun _ => ?_) (fun c_ => by first | exact absurd c_ (by decide) | exact absurd (by decide) c_ | exact absurd c_ (not_not_intro (by decide)) | exact Bool.noConfusion (c_.symm.trans (by decide)))
    refine AW.iload_n dX2_crowded_31 rfl rfl ?_
    refine AW.if_eq (tgt := 43) dX2_crowded_32 (by decide) rfl (fun c => ?_) (fun c => ?_)
    · refine AW.iload_n dX2_crowded_43 rfl rfl ?_
      exact AW.iretE dX2_crowded_44 rfl rfl (by unfold Vw.crowded; first | rw [if_pos c] | rw [if_neg c]) rfl
    · refine AW.aload_n dX2_crowded_35 rfl rfl ?_
      refine AW.iload_n dX2_crowded_36 rfl rfl ?_
      refine AW.callV (Y := mX2_shutOn) (n := 1) (r_X2_shutOn hn _) (by decide) (by decide) rfl gM q1865 q1867 qs121 q141 q1868 dX2_crowded_37 (by decide +kernel) rfl rfl (Nat.le_of_ble_eq_true rfl) rfl ?_
      refine AW.goto (tgt := 44) dX2_crowded_40 (by decide) ?_
      exact AW.iretE dX2_crowded_44 rfl rfl (by unfold Vw.crowded; first | rw [if_pos c] | rw [if_neg c]) rfl
  · intro k hk ihk
    refine AW.iload_n dX2_crowded_4 rfl rfl ?_
    refine AW.bipush (v := 20) dX2_crowded_5 (by decide) rfl ?_
    refine AW.icmp_ge (tgt := 31) dX2_crowded_7 (by decide) rfl (fun c_ => by first | exact absurd c_ (nI_nle20 hk) | exact absurd (nI_nle20 hk) c_ | exact Bool.noConfusion (c_.symm.trans (nI_nle20 hk))) (fun _ => ?_)
    refine AW.aload_n dX2_crowded_10 rfl rfl ?_
    refine AW.iload_n dX2_crowded_11 rfl rfl ?_
    refine AW.callV (Y := mX2_shutOn) (n := 1) (r_X2_shutOn hn _) (by decide) (by decide) rfl gM q1865 q1867 qs121 q141 q1868 dX2_crowded_12 (by decide +kernel) rfl rfl (Nat.le_of_ble_eq_true rfl) rfl ?_
    refine AW.aload_n dX2_crowded_15 rfl rfl ?_
    refine AW.iload_n dX2_crowded_16 rfl rfl ?_
    refine AW.callV (Y := mX2_shutOn) (n := 1) (r_X2_shutOn hn _) (by decide) (by decide) rfl gM q1865 q1867 qs121 q141 q1868 dX2_crowded_17 (by decide +kernel) rfl rfl (Nat.le_of_ble_eq_true rfl) rfl ?_
    refine AW.icmp_le (tgt := 25) dX2_crowded_20 (by decide) rfl (fun c => ?_) (fun c => ?_)
    · refine AW.iinc (v := 1) dX2_crowded_25 rfl (by decide) rfl rfl rfl ?_
      refine AW.goto (tgt := 4) dX2_crowded_28 (by decide) ?_
      exact AW.ls (by (first | rw [bst_f c, nI_succ (k + 1)] | rw [bst_t c, nI_succ (k + 1)]); rfl) ihk
    · refine AW.iload_n dX2_crowded_23 rfl rfl ?_
      refine AW.istore_n (i := 2) dX2_crowded_24 rfl rfl (Nat.le_of_ble_eq_true rfl) rfl rfl ?_
      refine AW.iinc (v := 1) dX2_crowded_25 rfl (by decide) rfl rfl rfl ?_
      refine AW.goto (tgt := 4) dX2_crowded_28 (by decide) ?_
      exact AW.ls (by (first | rw [bst_f c, nI_succ (k + 1)] | rw [bst_t c, nI_succ (k + 1)]); rfl) ihk
theorem r_X2_feast {s : Sg} (hn : (vwM (s.A 626)).ok) (z : Int32) : Run 6 mX2_feast [.ref 625, .int z] (hp s) (.inl (some (.int ((vwM (s.A 626)).feast z)))) (hp s) := by
  refine Run.of rfl (Nat.le_of_ble_eq_true rfl) rfl ?_
  refine AW.iconst (v := 0) dX2_feast_0 (by decide) rfl ?_
  refine AW.istore_n (i := 2) dX2_feast_1 rfl rfl (Nat.le_of_ble_eq_true rfl) rfl rfl ?_
  refine AW.iconst (v := 1) dX2_feast_2 (by decide) rfl ?_
  refine AW.istore_n (i := 3) dX2_feast_3 rfl rfl (Nat.le_of_ble_eq_true rfl) rfl rfl ?_
  refine loopUp (P := fun k => AW 6 mX2_feast (hp s) 4 [some (.ref 625), some (.int (z)), some (.int (bestUp (vwM (s.A 626)).friendsOn k)), some (.int (nI (k + 1)))] [] (.inl (some (.int ((vwM (s.A 626)).feast z)))) (hp s)) 19 ?_ ?_ 0 (by first | exact Nat.zero_le _ | omega)
  · refine AW.iload_n dX2_feast_4 rfl rfl ?_
    refine AW.bipush (v := 20) dX2_feast_5 (by decide) rfl ?_
    refine AW.icmp_ge (tgt := 31) dX2_feast_7 (by decide) rfl (fun _ => ?_) (fun c_ => by first | exact absurd c_ (by decide) | exact absurd (by decide) c_ | exact absurd c_ (not_not_intro (by decide)) | exact Bool.noConfusion (c_.symm.trans (by decide)))
    refine AW.iload_n dX2_feast_31 rfl rfl ?_
    refine AW.if_eq (tgt := 43) dX2_feast_32 (by decide) rfl (fun c => ?_) (fun c => ?_)
    · refine AW.iload_n dX2_feast_43 rfl rfl ?_
      exact AW.iretE dX2_feast_44 rfl rfl (by unfold Vw.feast; first | rw [if_pos c] | rw [if_neg c]) rfl
    · refine AW.aload_n dX2_feast_35 rfl rfl ?_
      refine AW.iload_n dX2_feast_36 rfl rfl ?_
      refine AW.callV (Y := mX2_friendsOn) (n := 1) (r_X2_friendsOn hn _) (by decide) (by decide) rfl gM q1877 q1879 qs122 q141 q1880 dX2_feast_37 (by decide +kernel) rfl rfl (Nat.le_of_ble_eq_true rfl) rfl ?_
      refine AW.goto (tgt := 44) dX2_feast_40 (by decide) ?_
      exact AW.iretE dX2_feast_44 rfl rfl (by unfold Vw.feast; first | rw [if_pos c] | rw [if_neg c]) rfl
  · intro k hk ihk
    refine AW.iload_n dX2_feast_4 rfl rfl ?_
    refine AW.bipush (v := 20) dX2_feast_5 (by decide) rfl ?_
    refine AW.icmp_ge (tgt := 31) dX2_feast_7 (by decide) rfl (fun c_ => by first | exact absurd c_ (nI_nle20 hk) | exact absurd (nI_nle20 hk) c_ | exact Bool.noConfusion (c_.symm.trans (nI_nle20 hk))) (fun _ => ?_)
    refine AW.aload_n dX2_feast_10 rfl rfl ?_
    refine AW.iload_n dX2_feast_11 rfl rfl ?_
    refine AW.callV (Y := mX2_friendsOn) (n := 1) (r_X2_friendsOn hn _) (by decide) (by decide) rfl gM q1877 q1879 qs122 q141 q1880 dX2_feast_12 (by decide +kernel) rfl rfl (Nat.le_of_ble_eq_true rfl) rfl ?_
    refine AW.aload_n dX2_feast_15 rfl rfl ?_
    refine AW.iload_n dX2_feast_16 rfl rfl ?_
    refine AW.callV (Y := mX2_friendsOn) (n := 1) (r_X2_friendsOn hn _) (by decide) (by decide) rfl gM q1877 q1879 qs122 q141 q1880 dX2_feast_17 (by decide +kernel) rfl rfl (Nat.le_of_ble_eq_true rfl) rfl ?_
    refine AW.icmp_le (tgt := 25) dX2_feast_20 (by decide) rfl (fun c => ?_) (fun c => ?_)
    · refine AW.iinc (v := 1) dX2_feast_25 rfl (by decide) rfl rfl rfl ?_
      refine AW.goto (tgt := 4) dX2_feast_28 (by decide) ?_
      exact AW.ls (by (first | rw [bst_f c, nI_succ (k + 1)] | rw [bst_t c, nI_succ (k + 1)]); rfl) ihk
    · refine AW.iload_n dX2_feast_23 rfl rfl ?_
      refine AW.istore_n (i := 2) dX2_feast_24 rfl rfl (Nat.le_of_ble_eq_true rfl) rfl rfl ?_
      refine AW.iinc (v := 1) dX2_feast_25 rfl (by decide) rfl rfl rfl ?_
      refine AW.goto (tgt := 4) dX2_feast_28 (by decide) ?_
      exact AW.ls (by (first | rw [bst_f c, nI_succ (k + 1)] | rw [bst_t c, nI_succ (k + 1)]); rfl) ihk
theorem r_X2_nobodys {s : Sg} (hn : (vwM (s.A 626)).ok) : Run 6 mX2_nobodys [.ref 625] (hp s) (.inl (some (.int ((vwM (s.A 626)).nobodys)))) (hp s) := by
  refine Run.of rfl (Nat.le_of_ble_eq_true rfl) rfl ?_
  refine AW.iconst (v := 0) dX2_nobodys_0 (by decide) rfl ?_
  refine AW.istore_n (i := 1) dX2_nobodys_1 rfl rfl (Nat.le_of_ble_eq_true rfl) rfl rfl ?_
  refine AW.iconst (v := 0) dX2_nobodys_2 (by decide) rfl ?_
  refine AW.istore_n (i := 2) dX2_nobodys_3 rfl rfl (Nat.le_of_ble_eq_true rfl) rfl rfl ?_
  refine loopUp (P := fun k => AW 6 mX2_nobodys (hp s) 4 [some (.ref 625), some (.int (orUp (fun k => if (vwM (s.A 626)).shutOn (nI k) = 0 then bit (nI k) else 0) k)), some (.int (nI k))] [] (.inl (some (.int ((vwM (s.A 626)).nobodys)))) (hp s)) 20 ?_ ?_ 0 (by first | exact Nat.zero_le _ | omega)
  · refine AW.iload_n dX2_nobodys_4 rfl rfl ?_
    refine AW.bipush (v := 20) dX2_nobodys_5 (by decide) rfl ?_
    refine AW.icmp_ge (tgt := 34) dX2_nobodys_7 (by decide) rfl (fun _ => ?_) (fun c_ => by first | exact absurd c_ (by decide) | exact absurd (by decide) c_ | exact absurd c_ (not_not_intro (by decide)) | exact Bool.noConfusion (c_.symm.trans (by decide)))
    refine AW.iload_n dX2_nobodys_34 rfl rfl ?_
    exact AW.iretE dX2_nobodys_35 rfl rfl rfl rfl
  · intro k hk ihk
    refine AW.iload_n dX2_nobodys_4 rfl rfl ?_
    refine AW.bipush (v := 20) dX2_nobodys_5 (by decide) rfl ?_
    refine AW.icmp_ge (tgt := 34) dX2_nobodys_7 (by decide) rfl (fun c_ => by first | exact absurd c_ (nI_nle20' hk) | exact absurd (nI_nle20' hk) c_ | exact Bool.noConfusion (c_.symm.trans (nI_nle20' hk))) (fun _ => ?_)
    refine AW.iload_n dX2_nobodys_10 rfl rfl ?_
    refine AW.aload_n dX2_nobodys_11 rfl rfl ?_
    refine AW.iload_n dX2_nobodys_12 rfl rfl ?_
    refine AW.callV (Y := mX2_shutOn) (n := 1) (r_X2_shutOn hn _) (by decide) (by decide) rfl gM q1865 q1867 qs121 q141 q1868 dX2_nobodys_13 (by decide +kernel) rfl rfl (Nat.le_of_ble_eq_true rfl) rfl ?_
    refine AW.if_ne (tgt := 25) dX2_nobodys_16 (by decide) rfl (fun c => ?_) (fun c => ?_)
    · refine AW.iconst (v := 0) dX2_nobodys_25 (by decide) rfl ?_
      refine AW.ior dX2_nobodys_26 rfl ?_
      refine AW.istore_n (i := 1) dX2_nobodys_27 rfl rfl (Nat.le_of_ble_eq_true rfl) rfl rfl ?_
      refine AW.iinc (v := 1) dX2_nobodys_28 rfl (by decide) rfl rfl rfl ?_
      refine AW.goto (tgt := 4) dX2_nobodys_31 (by decide) ?_
      exact AW.ls (by simp [orUp, nI_succ, c, bit]) ihk
    · refine AW.iconst (v := 1) dX2_nobodys_19 (by decide) rfl ?_
      refine AW.iload_n dX2_nobodys_20 rfl rfl ?_
      refine AW.ishl dX2_nobodys_21 rfl ?_
      refine AW.goto (tgt := 26) dX2_nobodys_22 (by decide) ?_
      refine AW.ior dX2_nobodys_26 rfl ?_
      refine AW.istore_n (i := 1) dX2_nobodys_27 rfl rfl (Nat.le_of_ble_eq_true rfl) rfl rfl ?_
      refine AW.iinc (v := 1) dX2_nobodys_28 rfl (by decide) rfl rfl rfl ?_
      refine AW.goto (tgt := 4) dX2_nobodys_31 (by decide) ?_
      exact AW.ls (by simp [orUp, nI_succ, c, bit]) ihk
theorem r_X2_twins {s : Sg} (hn : (vwM (s.A 626)).ok) : Run 5 mX2_twins [.ref 625] (hp s) (.inl (some (.int ((vwM (s.A 626)).twins)))) (hp s) := by
  refine Run.of rfl (Nat.le_of_ble_eq_true rfl) rfl ?_
  refine AW.iconst (v := 0) dX2_twins_0 (by decide) rfl ?_
  refine AW.istore_n (i := 1) dX2_twins_1 rfl rfl (Nat.le_of_ble_eq_true rfl) rfl rfl ?_
  refine AW.iconst (v := 0) dX2_twins_2 (by decide) rfl ?_
  refine AW.istore_n (i := 2) dX2_twins_3 rfl rfl (Nat.le_of_ble_eq_true rfl) rfl rfl ?_
  refine loopUp (P := fun k => AW 5 mX2_twins (hp s) 4 [some (.ref 625), some (.int (sumUp (fun k => sumUp (fun e => b2i ((vwM (s.A 626)).her (nI k) && ((vwM (s.A 626)).her (nI e) && decide ((vwM (s.A 626)).sh (nI k) = (vwM (s.A 626)).sh (nI e))))) k) k)), some (.int (nI k)), none] [] (.inl (some (.int ((vwM (s.A 626)).twins)))) (hp s)) (vwM (s.A 626)).n ?_ ?_ 0 (by first | exact Nat.zero_le _ | omega)
  · refine AW.iload_n dX2_twins_4 rfl rfl ?_
    refine AW.aload_n dX2_twins_5 rfl rfl ?_
    refine AW.get ci2 0 (by decide) q1351 dX2_twins_6 gM rfl rfl ?_
    refine AW.iconst (v := 0) dX2_twins_9 (by decide) rfl ?_
    refine AW.iald dX2_twins_10 g626 (vp_in_iff.mpr (by decide)) (j := 0) (by decide) rfl ?_
    refine AW.icmp_ge (tgt := 72) dX2_twins_11 (by decide) rfl (fun _ => ?_) (fun c_ => by first | exact absurd c_ (loop_end (by have := Vw.n7 hn; omega) (Vw.nN hn)) | exact absurd (loop_end (by have := Vw.n7 hn; omega) (Vw.nN hn)) c_ | exact absurd c_ (not_not_intro (loop_end (by have := Vw.n7 hn; omega) (Vw.nN hn))) | exact Bool.noConfusion (c_.symm.trans (loop_end (by have := Vw.n7 hn; omega) (Vw.nN hn))))
    refine AW.iload_n dX2_twins_72 rfl rfl ?_
    exact AW.iretE dX2_twins_73 rfl rfl rfl rfl
  · intro k hk ihk
    have e0 := vwM_sh (Vw.hou_k hn hk)
    refine AW.iload_n dX2_twins_4 rfl rfl ?_
    refine AW.aload_n dX2_twins_5 rfl rfl ?_
    refine AW.get ci2 0 (by decide) q1351 dX2_twins_6 gM rfl rfl ?_
    refine AW.iconst (v := 0) dX2_twins_9 (by decide) rfl ?_
    refine AW.iald dX2_twins_10 g626 (vp_in_iff.mpr (by decide)) (j := 0) (by decide) rfl ?_
    refine AW.icmp_ge (tgt := 72) dX2_twins_11 (by decide) rfl (fun c_ => by first | exact absurd c_ (loop_in hk (by have := Vw.n7 hn; omega) (Vw.nN hn)) | exact absurd (loop_in hk (by have := Vw.n7 hn; omega) (Vw.nN hn)) c_ | exact Bool.noConfusion (c_.symm.trans (loop_in hk (by have := Vw.n7 hn; omega) (Vw.nN hn)))) (fun _ => ?_)
    refine AW.iconst (v := 0) dX2_twins_14 (by decide) rfl ?_
    refine AW.istore_n (i := 3) dX2_twins_15 rfl rfl (Nat.le_of_ble_eq_true rfl) rfl rfl ?_
    refine AW.ls (ls' := [some (.ref 625), some (.int (sumUp (fun k => sumUp (fun e => b2i ((vwM (s.A 626)).her (nI k) && ((vwM (s.A 626)).her (nI e) && decide ((vwM (s.A 626)).sh (nI k) = (vwM (s.A 626)).sh (nI e))))) k) k + sumUp (fun e => b2i ((vwM (s.A 626)).her (nI k) && ((vwM (s.A 626)).her (nI e) && decide ((vwM (s.A 626)).sh (nI k) = (vwM (s.A 626)).sh (nI e))))) 0)), some (.int (nI k)), some (.int (nI 0))]) (by show [_, _, _, _] = [_, _, _, _]; simp [sumUp, nI_0]) ?_
    refine loopUp (P := fun e => AW 5 mX2_twins (hp s) 16 [some (.ref 625), some (.int (sumUp (fun k => sumUp (fun e => b2i ((vwM (s.A 626)).her (nI k) && ((vwM (s.A 626)).her (nI e) && decide ((vwM (s.A 626)).sh (nI k) = (vwM (s.A 626)).sh (nI e))))) k) k + sumUp (fun e => b2i ((vwM (s.A 626)).her (nI k) && ((vwM (s.A 626)).her (nI e) && decide ((vwM (s.A 626)).sh (nI k) = (vwM (s.A 626)).sh (nI e))))) e)), some (.int (nI k)), some (.int (nI e))] [] (.inl (some (.int ((vwM (s.A 626)).twins)))) (hp s)) k ?_ ?_ 0 (by first | exact Nat.zero_le _ | omega)
    · refine AW.iload_n dX2_twins_16 rfl rfl ?_
      refine AW.iload_n dX2_twins_17 rfl rfl ?_
      refine AW.icmp_ge (tgt := 66) dX2_twins_18 (by decide) rfl (fun _ => ?_) (fun c_ => by first | exact absurd c_ (Int32.le_refl _) | exact absurd (Int32.le_refl _) c_ | exact absurd c_ (not_not_intro (Int32.le_refl _)) | exact Bool.noConfusion (c_.symm.trans (Int32.le_refl _)))
      refine AW.iinc (v := 1) dX2_twins_66 rfl (by decide) rfl rfl rfl ?_
      refine AW.goto (tgt := 4) dX2_twins_69 (by decide) ?_
      exact AW.fg 3 rfl (AW.ls (by simp [sumUp, nI_succ]) ihk)
    · intro e he ihe
      have e1 := vwM_sh (Vw.hou_k hn (Nat.lt_trans he hk))
      refine AW.iload_n dX2_twins_16 rfl rfl ?_
      refine AW.iload_n dX2_twins_17 rfl rfl ?_
      refine AW.icmp_ge (tgt := 66) dX2_twins_18 (by decide) rfl (fun c_ => by first | exact absurd c_ (loop_in he (by have := Vw.n7 hn; omega) rfl) | exact absurd (loop_in he (by have := Vw.n7 hn; omega) rfl) c_ | exact Bool.noConfusion (c_.symm.trans (loop_in he (by have := Vw.n7 hn; omega) rfl))) (fun _ => ?_)
      refine AW.iload_n dX2_twins_21 rfl rfl ?_
      refine AW.aload_n dX2_twins_22 rfl rfl ?_
      refine AW.iload_n dX2_twins_23 rfl rfl ?_
      refine AW.callV (Y := mX2_isHere) (n := 1) (r_X2_isHere hn _) (by decide) (by decide) rfl gM q1649 q1651 qs91 q141 q1652 dX2_twins_24 (by decide +kernel) rfl rfl (Nat.le_of_ble_eq_true rfl) rfl ?_
      refine AW.if_eqB (tgt := 57) dX2_twins_27 (by decide) rfl (fun c1 => ?_) (fun c1 => ?_)
      · refine AW.iconst (v := 0) dX2_twins_57 (by decide) rfl ?_
        refine AW.iadd dX2_twins_58 rfl ?_
        refine AW.istore_n (i := 1) dX2_twins_59 rfl rfl (Nat.le_of_ble_eq_true rfl) rfl rfl ?_
        refine AW.iinc (v := 1) dX2_twins_60 rfl (by decide) rfl rfl rfl ?_
        refine AW.goto (tgt := 16) dX2_twins_63 (by decide) ?_
        exact AW.ls (by simp_all [sumUp, nI_succ, b2i_0, b2i, Int32.add_assoc]) ihe
      · refine AW.aload_n dX2_twins_30 rfl rfl ?_
        refine AW.iload_n dX2_twins_31 rfl rfl ?_
        refine AW.callV (Y := mX2_isHere) (n := 1) (r_X2_isHere hn _) (by decide) (by decide) rfl gM q1649 q1651 qs91 q141 q1652 dX2_twins_32 (by decide +kernel) rfl rfl (Nat.le_of_ble_eq_true rfl) rfl ?_
        refine AW.if_eqB (tgt := 57) dX2_twins_35 (by decide) rfl (fun c2 => ?_) (fun c2 => ?_)
        · refine AW.iconst (v := 0) dX2_twins_57 (by decide) rfl ?_
          refine AW.iadd dX2_twins_58 rfl ?_
          refine AW.istore_n (i := 1) dX2_twins_59 rfl rfl (Nat.le_of_ble_eq_true rfl) rfl rfl ?_
          refine AW.iinc (v := 1) dX2_twins_60 rfl (by decide) rfl rfl rfl ?_
          refine AW.goto (tgt := 16) dX2_twins_63 (by decide) ?_
          exact AW.ls (by simp_all [sumUp, nI_succ, b2i_0, b2i, Int32.add_assoc]) ihe
        · refine AW.aload_n dX2_twins_38 rfl rfl ?_
          refine AW.iload_n dX2_twins_39 rfl rfl ?_
          refine AW.iconst (v := 0) dX2_twins_40 (by decide) rfl ?_
          refine AW.callV (Y := mX2_get) (n := 2) (r_X2_get _ _ (in_get hn (Vw.hou_k hn hk) (by decide) (by decide))) (by decide) (by decide) rfl gM q1477 q1479 qs63 q141 q1480 dX2_twins_41 (by decide +kernel) rfl rfl (Nat.le_of_ble_eq_true rfl) rfl ?_
          refine AW.aload_n dX2_twins_44 rfl rfl ?_
          refine AW.iload_n dX2_twins_45 rfl rfl ?_
          refine AW.iconst (v := 0) dX2_twins_46 (by decide) rfl ?_
          refine AW.callV (Y := mX2_get) (n := 2) (r_X2_get _ _ (in_get hn (Vw.hou_k hn (Nat.lt_trans he hk)) (by decide) (by decide))) (by decide) (by decide) rfl gM q1477 q1479 qs63 q141 q1480 dX2_twins_47 (by decide +kernel) rfl rfl (Nat.le_of_ble_eq_true rfl) rfl ?_
          refine AW.icmp_ne (tgt := 57) dX2_twins_50 (by decide) rfl (fun c3 => ?_) (fun c3 => ?_)
          · refine AW.iconst (v := 0) dX2_twins_57 (by decide) rfl ?_
            refine AW.iadd dX2_twins_58 rfl ?_
            refine AW.istore_n (i := 1) dX2_twins_59 rfl rfl (Nat.le_of_ble_eq_true rfl) rfl rfl ?_
            refine AW.iinc (v := 1) dX2_twins_60 rfl (by decide) rfl rfl rfl ?_
            refine AW.goto (tgt := 16) dX2_twins_63 (by decide) ?_
            exact AW.ls (by simp_all [sumUp, nI_succ, b2i_0, b2i, Int32.add_assoc]) ihe
          · refine AW.iconst (v := 1) dX2_twins_53 (by decide) rfl ?_
            refine AW.goto (tgt := 58) dX2_twins_54 (by decide) ?_
            refine AW.iadd dX2_twins_58 rfl ?_
            refine AW.istore_n (i := 1) dX2_twins_59 rfl rfl (Nat.le_of_ble_eq_true rfl) rfl rfl ?_
            refine AW.iinc (v := 1) dX2_twins_60 rfl (by decide) rfl rfl rfl ?_
            refine AW.goto (tgt := 16) dX2_twins_63 (by decide) ?_
            exact AW.ls (by simp_all [sumUp, nI_succ, b2i_0, b2i, Int32.add_assoc]) ihe
theorem r_X2_isRound {s : Sg} (hn : (vwM (s.A 626)).ok) (set : Int32) : Run 5 mX2_isRound [.ref 625, .int set] (hp s) (.inl (some (.int ((vwM (s.A 626)).isRound set)))) (hp s) := by
  refine Run.of rfl (Nat.le_of_ble_eq_true rfl) rfl ?_
  refine AW.iconst (v := 0) dX2_isRound_0 (by decide) rfl ?_
  refine AW.istore_n (i := 2) dX2_isRound_1 rfl rfl (Nat.le_of_ble_eq_true rfl) rfl rfl ?_
  refine loopUp (P := fun k => AW 5 mX2_isRound (hp s) 2 [some (.ref 625), some (.int (set)), some (.int (nI k))] [] (.inl (some (.int (srch (fun k => (vwM (s.A 626)).her (nI k) && decide (set &&& ((vwM (s.A 626)).sh (nI k) ^^^ -1) = 0)) (fun _ => 0) 1 ((vwM (s.A 626)).n - k) k)))) (hp s)) (vwM (s.A 626)).n ?_ ?_ 0 (by first | exact Nat.zero_le _ | omega)
  · refine AW.iload_n dX2_isRound_2 rfl rfl ?_
    refine AW.aload_n dX2_isRound_3 rfl rfl ?_
    refine AW.get ci2 0 (by decide) q1351 dX2_isRound_4 gM rfl rfl ?_
    refine AW.iconst (v := 0) dX2_isRound_7 (by decide) rfl ?_
    refine AW.iald dX2_isRound_8 g626 (vp_in_iff.mpr (by decide)) (j := 0) (by decide) rfl ?_
    refine AW.icmp_ge (tgt := 41) dX2_isRound_9 (by decide) rfl (fun _ => ?_) (fun c_ => by first | exact absurd c_ (loop_end (by have := Vw.n7 hn; omega) (Vw.nN hn)) | exact absurd (loop_end (by have := Vw.n7 hn; omega) (Vw.nN hn)) c_ | exact absurd c_ (not_not_intro (loop_end (by have := Vw.n7 hn; omega) (Vw.nN hn))) | exact Bool.noConfusion (c_.symm.trans (loop_end (by have := Vw.n7 hn; omega) (Vw.nN hn))))
    refine AW.iconst (v := 1) dX2_isRound_41 (by decide) rfl ?_
    exact AW.zretE dX2_isRound_42 rfl rfl srch_e.symm (Or.inr srch_e) rfl
  · intro k hk ihk
    have e0 := vwM_sh (Vw.hou_k hn hk)
    refine AW.iload_n dX2_isRound_2 rfl rfl ?_
    refine AW.aload_n dX2_isRound_3 rfl rfl ?_
    refine AW.get ci2 0 (by decide) q1351 dX2_isRound_4 gM rfl rfl ?_
    refine AW.iconst (v := 0) dX2_isRound_7 (by decide) rfl ?_
    refine AW.iald dX2_isRound_8 g626 (vp_in_iff.mpr (by decide)) (j := 0) (by decide) rfl ?_
    refine AW.icmp_ge (tgt := 41) dX2_isRound_9 (by decide) rfl (fun c_ => by first | exact absurd c_ (loop_in hk (by have := Vw.n7 hn; omega) (Vw.nN hn)) | exact absurd (loop_in hk (by have := Vw.n7 hn; omega) (Vw.nN hn)) c_ | exact Bool.noConfusion (c_.symm.trans (loop_in hk (by have := Vw.n7 hn; omega) (Vw.nN hn)))) (fun _ => ?_)
    refine AW.aload_n dX2_isRound_12 rfl rfl ?_
    refine AW.iload_n dX2_isRound_13 rfl rfl ?_
    refine AW.callV (Y := mX2_isHere) (n := 1) (r_X2_isHere hn _) (by decide) (by decide) rfl gM q1649 q1651 qs91 q141 q1652 dX2_isRound_14 (by decide +kernel) rfl rfl (Nat.le_of_ble_eq_true rfl) rfl ?_
    refine AW.if_eqB (tgt := 35) dX2_isRound_17 (by decide) rfl (fun c => ?_) (fun c => ?_)
    · refine AW.iinc (v := 1) dX2_isRound_35 rfl (by decide) rfl rfl rfl ?_
      refine AW.goto (tgt := 2) dX2_isRound_38 (by decide) ?_
      exact AW.ls (by rw [nI_succ]; rfl) (AW.oo (by rw [srch_f hk (by simp_all)]) ihk)
    · refine AW.iload_n dX2_isRound_20 rfl rfl ?_
      refine AW.aload_n dX2_isRound_21 rfl rfl ?_
      refine AW.iload_n dX2_isRound_22 rfl rfl ?_
      refine AW.iconst (v := 0) dX2_isRound_23 (by decide) rfl ?_
      refine AW.callV (Y := mX2_get) (n := 2) (r_X2_get _ _ (in_get hn (Vw.hou_k hn hk) (by decide) (by decide))) (by decide) (by decide) rfl gM q1477 q1479 qs63 q141 q1480 dX2_isRound_24 (by decide +kernel) rfl rfl (Nat.le_of_ble_eq_true rfl) rfl ?_
      refine AW.iconst (v := (-1)) dX2_isRound_27 (by decide) rfl ?_
      refine AW.ixor dX2_isRound_28 rfl ?_
      refine AW.iand dX2_isRound_29 rfl ?_
      refine AW.if_ne (tgt := 35) dX2_isRound_30 (by decide) rfl (fun c2 => ?_) (fun c2 => ?_)
      · refine AW.iinc (v := 1) dX2_isRound_35 rfl (by decide) rfl rfl rfl ?_
        refine AW.goto (tgt := 2) dX2_isRound_38 (by decide) ?_
        exact AW.ls (by rw [nI_succ]; rfl) (AW.oo (by rw [srch_f hk (by simp_all)]) ihk)
      · refine AW.iconst (v := 0) dX2_isRound_33 (by decide) rfl ?_
        have hq : (fun k => (vwM (s.A 626)).her (nI k) && decide (set &&& ((vwM (s.A 626)).sh (nI k) ^^^ -1) = 0)) k = true := by show ((vwM (s.A 626)).her (nI k) && decide (set &&& ((vwM (s.A 626)).sh (nI k) ^^^ -1) = 0)) = true; rw [e0, c, dec_t c2]; rfl
        exact AW.zretE dX2_isRound_34 rfl rfl (srch_t (f := fun _ => 0) hk hq).symm (Or.inl (srch_t (f := fun _ => 0) hk hq)) rfl
