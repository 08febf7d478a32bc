/-! MODEL 5: bits, draws, steps (printed by tools/m5.py) -/
set_option maxRecDepth 100000
theorem r_X2_bits {h : AH} (x : Int32) : Run 1 mX2_bits [.int x] h (.inl (some (.int (bitsI x)))) h := by
  refine Run.of rfl (Nat.le_of_ble_eq_true rfl) rfl ?_
  refine AW.iconst (v := 0) dX2_bits_0 (by decide) rfl ?_
  refine AW.istore_n (i := 1) dX2_bits_1 rfl rfl (Nat.le_of_ble_eq_true rfl) rfl rfl ?_
  refine AW.iload_n dX2_bits_2 rfl rfl ?_
  refine AW.istore_n (i := 2) dX2_bits_3 rfl rfl (Nat.le_of_ble_eq_true rfl) rfl rfl ?_
  have hp := pcN_iter x
  refine loopUp (P := fun k => AW 1 mX2_bits h 4 [some (.int (x)), some (.int (nI k)), some (.int (iter low k x))] [] (.inl (some (.int (bitsI x)))) h) (pcN x) ?_ ?_ 0 (by first | exact Nat.zero_le _ | omega)
  · refine AW.iload_n dX2_bits_4 rfl rfl ?_
    refine AW.if_eq (tgt := 20) dX2_bits_5 (by decide) rfl (fun _ => ?_) (fun c_ => by first | exact absurd c_ (pcN_0.mp (by have := hp (pcN x) (Nat.le_refl _); omega)) | exact absurd (pcN_0.mp (by have := hp (pcN x) (Nat.le_refl _); omega)) c_ | exact absurd c_ (not_not_intro (pcN_0.mp (by have := hp (pcN x) (Nat.le_refl _); omega))) | exact Bool.noConfusion (c_.symm.trans (pcN_0.mp (by have := hp (pcN x) (Nat.le_refl _); omega))))
    refine AW.iload_n dX2_bits_20 rfl rfl ?_
    exact AW.iretE dX2_bits_21 rfl rfl rfl rfl
  · intro k hk ihk
    refine AW.iload_n dX2_bits_4 rfl rfl ?_
    refine AW.if_eq (tgt := 20) dX2_bits_5 (by decide) rfl (fun c_ => by first | exact absurd c_ (fun q => by have h1 := hp k (by omega); rw [q, pcN_0.mpr rfl] at h1; omega) | exact absurd (fun q => by have h1 := hp k (by omega); rw [q, pcN_0.mpr rfl] at h1; omega) c_ | exact Bool.noConfusion (c_.symm.trans (fun q => by have h1 := hp k (by omega); rw [q, pcN_0.mpr rfl] at h1; omega))) (fun _ => ?_)
    refine AW.iinc (v := 1) dX2_bits_8 rfl (by decide) rfl rfl rfl ?_
    refine AW.iload_n dX2_bits_11 rfl rfl ?_
    refine AW.iload_n dX2_bits_12 rfl rfl ?_
    refine AW.iconst (v := 1) dX2_bits_13 (by decide) rfl ?_
    refine AW.isub dX2_bits_14 rfl ?_
    refine AW.iand dX2_bits_15 rfl ?_
    refine AW.istore_n (i := 2) dX2_bits_16 rfl rfl (Nat.le_of_ble_eq_true rfl) rfl rfl ?_
    refine AW.goto (tgt := 4) dX2_bits_17 (by decide) ?_
    exact AW.ls (by rw [nI_succ k]; rfl) ihk
theorem r_X2_canDraw {s : Sg} (hn : (vwM (s.A 626)).ok) (h : Int32) : Run 4 mX2_canDraw [.ref 625, .int h] (hp s) (.inl (some (.int (b2i ((vwM (s.A 626)).draws h))))) (hp s) := by
  refine Run.of rfl (Nat.le_of_ble_eq_true rfl) rfl ?_
  refine AW.aload_n dX2_canDraw_0 rfl rfl ?_
  refine AW.iload_n dX2_canDraw_1 rfl rfl ?_
  refine AW.callV (Y := mX2_isHere) (n := 1) (r_X2_isHere hn _) (by decide) (by decide) rfl gM q1649 q1651 qs91 q141 q1652 dX2_canDraw_2 (by decide +kernel) rfl rfl (Nat.le_of_ble_eq_true rfl) rfl ?_
  refine AW.if_eqB (tgt := 25) dX2_canDraw_5 (by decide) rfl (fun c5 => ?_) (fun c5 => ?_)
  · refine AW.iconst (v := 0) dX2_canDraw_25 (by decide) rfl ?_
    exact AW.bretE dX2_canDraw_26 rfl rfl (by first | (simp [Vw.draws, c5, b2i]; done) | (have e := vwM_sh (Vw.her_hou c5); rw [← e] at c6; have c7 := Int32.not_lt.mpr c6; simp [Vw.draws, c5, b2i, c7]; done) | (have e := vwM_sh (Vw.her_hou c5); rw [← e] at c6; have c7 := Int32.not_le.mp c6; simp [Vw.draws, c5, b2i, c7]; done)) rfl
  · refine AW.aload_n dX2_canDraw_8 rfl rfl ?_
    refine AW.iload_n dX2_canDraw_9 rfl rfl ?_
    refine AW.iconst (v := 0) dX2_canDraw_10 (by decide) rfl ?_
    refine AW.callV (Y := mX2_get) (n := 2) (r_X2_get _ _ (in_get hn (Vw.her_hou c5) (by decide) (by decide))) (by decide) (by decide) rfl gM q1477 q1479 qs63 q141 q1480 dX2_canDraw_11 (by decide +kernel) rfl rfl (Nat.le_of_ble_eq_true rfl) rfl ?_
    refine AW.callS (Y := mX2_bits) (n := 1) (r_X2_bits _) (by decide) (by decide) q1685 q1686 q141 q1687 dX2_canDraw_14 (by decide +kernel) rfl rfl (Nat.le_of_ble_eq_true rfl) rfl ?_
    refine AW.iconst (v := 3) dX2_canDraw_17 (by decide) rfl ?_
    refine AW.icmp_ge (tgt := 25) dX2_canDraw_18 (by decide) rfl (fun c6 => ?_) (fun c6 => ?_)
    · refine AW.iconst (v := 0) dX2_canDraw_25 (by decide) rfl ?_
      exact AW.bretE dX2_canDraw_26 rfl rfl (by first | (simp [Vw.draws, c5, b2i]; done) | (have e := vwM_sh (Vw.her_hou c5); rw [← e] at c6; have c7 := Int32.not_lt.mpr c6; simp [Vw.draws, c5, b2i, c7]; done) | (have e := vwM_sh (Vw.her_hou c5); rw [← e] at c6; have c7 := Int32.not_le.mp c6; simp [Vw.draws, c5, b2i, c7]; done)) rfl
    · refine AW.iconst (v := 1) dX2_canDraw_21 (by decide) rfl ?_
      refine AW.goto (tgt := 26) dX2_canDraw_22 (by decide) ?_
      exact AW.bretE dX2_canDraw_26 rfl rfl (by first | (simp [Vw.draws, c5, b2i]; done) | (have e := vwM_sh (Vw.her_hou c5); rw [← e] at c6; have c7 := Int32.not_lt.mpr c6; simp [Vw.draws, c5, b2i, c7]; done) | (have e := vwM_sh (Vw.her_hou c5); rw [← e] at c6; have c7 := Int32.not_le.mp c6; simp [Vw.draws, c5, b2i, c7]; done)) rfl
theorem r_X2_anew {s : Sg} : Run 1 mX2_anew [.ref 625] (hp s) (.inl none) (hp (s.setA 626 (up (s.A 626) 9 (drawM ((s.A 626) 9))))) := by
  refine Run.of rfl (Nat.le_of_ble_eq_true rfl) rfl ?_
  refine AW.aload_n dX2_anew_0 rfl rfl ?_
  refine AW.get ci2 0 (by decide) q1351 dX2_anew_1 gM rfl rfl ?_
  refine AW.bipush (v := 9) dX2_anew_4 (by decide) rfl ?_
  refine AW.aload_n dX2_anew_6 rfl rfl ?_
  refine AW.get ci2 0 (by decide) q1351 dX2_anew_7 gM rfl rfl ?_
  refine AW.bipush (v := 9) dX2_anew_10 (by decide) rfl ?_
  refine AW.iald dX2_anew_12 g626 (vp_in_iff.mpr (by decide)) (j := 9) (by decide) rfl ?_
  refine AW.i2l dX2_anew_13 rfl ?_
  refine AW.ldc2 dX2_anew_14 q1749 rfl ?_
  refine AW.lmul dX2_anew_17 rfl ?_
  refine AW.ldc2 dX2_anew_18 q1750 rfl ?_
  refine AW.ladd dX2_anew_21 rfl ?_
  refine AW.ldc2 dX2_anew_22 q1751 rfl ?_
  refine AW.lrem dX2_anew_25 (by decide) rfl ?_
  refine AW.l2i dX2_anew_26 rfl ?_
  refine AW.iast dX2_anew_27 (by decide) g626 (vp_in_iff.mpr (by decide)) (j := 9) (by decide) s626 rfl ?_
  exact AW.vretE dX2_anew_28 rfl rfl rfl
theorem r_X2_canForget {s : Sg} (hn : (vwM (s.A 626)).ok) (dt h : Int32) : Run 4 mX2_canForget [.ref 625, .int dt, .int h] (hp s) (.inl (some (.int (b2i ((vwM (s.A 626)).forgets dt h))))) (hp s) := by
  refine Run.of rfl (Nat.le_of_ble_eq_true rfl) rfl ?_
  refine AW.aload_n dX2_canForget_0 rfl rfl ?_
  refine AW.iload_n dX2_canForget_1 rfl rfl ?_
  refine AW.callV (Y := mX2_isHere) (n := 1) (r_X2_isHere hn _) (by decide) (by decide) rfl gM q1649 q1651 qs91 q141 q1652 dX2_canForget_2 (by decide +kernel) rfl rfl (Nat.le_of_ble_eq_true rfl) rfl ?_
  refine AW.if_eqB (tgt := 35) dX2_canForget_5 (by decide) rfl (fun c5 => ?_) (fun c5 => ?_)
  · refine AW.iconst (v := 0) dX2_canForget_35 (by decide) rfl ?_
    exact AW.bretE dX2_canForget_36 rfl rfl (by first | (simp [Vw.forgets, c5, b2i]; done) | (simp [Vw.forgets, c5, c6, b2i]; done) | (rw [← vwM_sh (Vw.her_hou c5)] at c7; simp [Vw.forgets, c5, c6, c7, b2i]; done)) rfl
  · refine AW.iload_n dX2_canForget_8 rfl rfl ?_
    refine AW.iconst (v := 0) dX2_canForget_9 (by decide) rfl ?_
    refine AW.bipush (v := 19) dX2_canForget_10 (by decide) rfl ?_
    refine AW.callS (Y := mX2_isIn) (n := 3) (r_X2_isIn _ _ _) (by decide) (by decide) q1466 q1467 q141 q1468 dX2_canForget_12 (by decide +kernel) rfl rfl (Nat.le_of_ble_eq_true rfl) rfl ?_
    refine AW.if_eqB (tgt := 35) dX2_canForget_15 (by decide) rfl (fun c6 => ?_) (fun c6 => ?_)
    · refine AW.iconst (v := 0) dX2_canForget_35 (by decide) rfl ?_
      exact AW.bretE dX2_canForget_36 rfl rfl (by first | (simp [Vw.forgets, c5, b2i]; done) | (simp [Vw.forgets, c5, c6, b2i]; done) | (rw [← vwM_sh (Vw.her_hou c5)] at c7; simp [Vw.forgets, c5, c6, c7, b2i]; done)) rfl
    · refine AW.aload_n dX2_canForget_18 rfl rfl ?_
      refine AW.iload_n dX2_canForget_19 rfl rfl ?_
      refine AW.iconst (v := 0) dX2_canForget_20 (by decide) rfl ?_
      refine AW.callV (Y := mX2_get) (n := 2) (r_X2_get _ _ (in_get hn (Vw.her_hou c5) (by decide) (by decide))) (by decide) (by decide) rfl gM q1477 q1479 qs63 q141 q1480 dX2_canForget_21 (by decide +kernel) rfl rfl (Nat.le_of_ble_eq_true rfl) rfl ?_
      refine AW.iload_n dX2_canForget_24 rfl rfl ?_
      refine AW.callS (Y := mX2_has) (n := 2) (r_X2_has _ _) (by decide) (by decide) q1547 q1548 q141 q1549 dX2_canForget_25 (by decide +kernel) rfl rfl (Nat.le_of_ble_eq_true rfl) rfl ?_
      refine AW.if_eqB (tgt := 35) dX2_canForget_28 (by decide) rfl (fun c7 => ?_) (fun c7 => ?_)
      · refine AW.iconst (v := 0) dX2_canForget_35 (by decide) rfl ?_
        exact AW.bretE dX2_canForget_36 rfl rfl (by first | (simp [Vw.forgets, c5, b2i]; done) | (simp [Vw.forgets, c5, c6, b2i]; done) | (rw [← vwM_sh (Vw.her_hou c5)] at c7; simp [Vw.forgets, c5, c6, c7, b2i]; done)) rfl
      · refine AW.iconst (v := 1) dX2_canForget_31 (by decide) rfl ?_
        refine AW.goto (tgt := 36) dX2_canForget_32 (by decide) ?_
        exact AW.bretE dX2_canForget_36 rfl rfl (by first | (simp [Vw.forgets, c5, b2i]; done) | (simp [Vw.forgets, c5, c6, b2i]; done) | (rw [← vwM_sh (Vw.her_hou c5)] at c7; simp [Vw.forgets, c5, c6, c7, b2i]; done)) rfl
theorem r_X2_forgetNow {s : Sg} (dt h : Int32) (hi : vp_in (12 + 8 * h + 0) 2308) : Run 2 mX2_forgetNow [.ref 625, .int dt, .int h] (hp s) (.inl none) (hp (s.setA 626 (up (s.A 626) (cI (12 + 8 * h + 0)) (gtM (s.A 626) h 0 &&& (bit dt ^^^ -1))))) := by
  refine Run.of rfl (Nat.le_of_ble_eq_true rfl) rfl ?_
  refine AW.aload_n dX2_forgetNow_0 rfl rfl ?_
  refine AW.iload_n dX2_forgetNow_1 rfl rfl ?_
  refine AW.iconst (v := 0) dX2_forgetNow_2 (by decide) rfl ?_
  refine AW.aload_n dX2_forgetNow_3 rfl rfl ?_
  refine AW.iload_n dX2_forgetNow_4 rfl rfl ?_
  refine AW.iconst (v := 0) dX2_forgetNow_5 (by decide) rfl ?_
  refine AW.callV (Y := mX2_get) (n := 2) (r_X2_get _ _ hi) (by decide) (by decide) rfl gM q1477 q1479 qs63 q141 q1480 dX2_forgetNow_6 (by decide +kernel) rfl rfl (Nat.le_of_ble_eq_true rfl) rfl ?_
  refine AW.iconst (v := 1) dX2_forgetNow_9 (by decide) rfl ?_
  refine AW.iload_n dX2_forgetNow_10 rfl rfl ?_
  refine AW.ishl dX2_forgetNow_11 rfl ?_
  refine AW.iconst (v := (-1)) dX2_forgetNow_12 (by decide) rfl ?_
  refine AW.ixor dX2_forgetNow_13 rfl ?_
  refine AW.iand dX2_forgetNow_14 rfl ?_
  refine AW.callV (Y := mX2_put) (n := 3) (r_X2_put _ _ _ hi) (by decide) (by decide) rfl gM q1469 q1471 qs61 q141 q1472 dX2_forgetNow_15 (by decide +kernel) rfl rfl (Nat.le_of_ble_eq_true rfl) rfl ?_
  exact AW.vretE dX2_forgetNow_18 rfl rfl rfl
theorem r_X2_setAside {s : Sg} : Run 1 mX2_setAside [.ref 625] (hp s) (.inl none) (hp (s.setA 634 (mv (s.A 634) 8 (fun j => s.A 626 (8 + j)) 60))) := by
  refine Run.of rfl (Nat.le_of_ble_eq_true rfl) rfl ?_
  refine AW.bipush (v := 8) dX2_setAside_0 (by decide) rfl ?_
  refine AW.istore_n (i := 1) dX2_setAside_2 rfl rfl (Nat.le_of_ble_eq_true rfl) rfl rfl ?_
  refine AW.hp (h2 := hp (s.setA 634 (mv (s.A 634) 8 (fun j => s.A 626 (8 + j)) 0))) (by rw [mv_0, setA_id]) ?_
  refine loopUp (P := fun k => AW 1 mX2_setAside (hp (s.setA 634 (mv (s.A 634) 8 (fun j => s.A 626 (8 + j)) k))) 3 [some (.ref 625), some (.int (nI (8 + k)))] [] (.inl none) (hp (s.setA 634 (mv (s.A 634) 8 (fun j => s.A 626 (8 + j)) 60)))) 60 ?_ ?_ 0 (by first | exact Nat.zero_le _ | omega)
  · refine AW.iload_n dX2_setAside_3 rfl rfl ?_
    refine AW.bipush (v := 68) dX2_setAside_4 (by decide) rfl ?_
    refine AW.icmp_ge (tgt := 27) dX2_setAside_6 (by decide) rfl (fun _ => ?_) (fun c_ => by first | exact absurd c_ (by decide) | exact absurd (by decide) c_ | exact absurd c_ (not_not_intro (by decide)) | exact Bool.noConfusion (c_.symm.trans (by decide)))
    exact AW.vretE dX2_setAside_27 rfl rfl rfl
  · intro k hk ihk
    refine AW.iload_n dX2_setAside_3 rfl rfl ?_
    refine AW.bipush (v := 68) dX2_setAside_4 (by decide) rfl ?_
    refine AW.icmp_ge (tgt := 27) dX2_setAside_6 (by decide) rfl (fun c_ => by first | exact absurd c_ (nle_lit 68 rfl (by omega) (by decide)) | exact absurd (nle_lit 68 rfl (by omega) (by decide)) c_ | exact Bool.noConfusion (c_.symm.trans (nle_lit 68 rfl (by omega) (by decide)))) (fun _ => ?_)
    refine AW.aload_n dX2_setAside_9 rfl rfl ?_
    refine AW.get ci2 24 (by decide) q1375 dX2_setAside_10 gM rfl rfl ?_
    refine AW.iload_n dX2_setAside_13 rfl rfl ?_
    refine AW.aload_n dX2_setAside_14 rfl rfl ?_
    refine AW.get ci2 0 (by decide) q1351 dX2_setAside_15 gM rfl rfl ?_
    refine AW.iload_n dX2_setAside_18 rfl rfl ?_
    refine AW.iald dX2_setAside_19 g626 (in0 (8 + k) (by omega) (by decide)) (j := 8 + k) (cI_nI (by omega)) rfl ?_
    refine AW.iast dX2_setAside_20 (by decide) g634 (in0 (8 + k) (by omega) (by decide)) (j := 8 + k) (cI_nI (by omega)) s634 rfl ?_
    refine AW.iinc (v := 1) dX2_setAside_21 rfl (by decide) rfl rfl rfl ?_
    refine AW.goto (tgt := 3) dX2_setAside_24 (by decide) ?_
    exact AW.hp (by rw [setA_at, setA_setA, setA_ne (by decide), ← mv_s]) (AW.ls (by rw [show 8 + (k + 1) = (8 + k) + 1 from rfl, nI_succ]; rfl) ihk)
theorem r_X2_putBack {s : Sg} : Run 1 mX2_putBack [.ref 625] (hp s) (.inl none) (hp (s.setA 626 (mv (s.A 626) 8 (fun j => s.A 634 (8 + j)) 60))) := by
  refine Run.of rfl (Nat.le_of_ble_eq_true rfl) rfl ?_
  refine AW.bipush (v := 8) dX2_putBack_0 (by decide) rfl ?_
  refine AW.istore_n (i := 1) dX2_putBack_2 rfl rfl (Nat.le_of_ble_eq_true rfl) rfl rfl ?_
  refine AW.hp (h2 := hp (s.setA 626 (mv (s.A 626) 8 (fun j => s.A 634 (8 + j)) 0))) (by rw [mv_0, setA_id]) ?_
  refine loopUp (P := fun k => AW 1 mX2_putBack (hp (s.setA 626 (mv (s.A 626) 8 (fun j => s.A 634 (8 + j)) k))) 3 [some (.ref 625), some (.int (nI (8 + k)))] [] (.inl none) (hp (s.setA 626 (mv (s.A 626) 8 (fun j => s.A 634 (8 + j)) 60)))) 60 ?_ ?_ 0 (by first | exact Nat.zero_le _ | omega)
  · refine AW.iload_n dX2_putBack_3 rfl rfl ?_
    refine AW.bipush (v := 68) dX2_putBack_4 (by decide) rfl ?_
    refine AW.icmp_ge (tgt := 27) dX2_putBack_6 (by decide) rfl (fun _ => ?_) (fun c_ => by first | exact absurd c_ (by decide) | exact absurd (by decide) c_ | exact absurd c_ (not_not_intro (by decide)) | exact Bool.noConfusion (c_.symm.trans (by decide)))
    exact AW.vretE dX2_putBack_27 rfl rfl rfl
  · intro k hk ihk
    refine AW.iload_n dX2_putBack_3 rfl rfl ?_
    refine AW.bipush (v := 68) dX2_putBack_4 (by decide) rfl ?_
    refine AW.icmp_ge (tgt := 27) dX2_putBack_6 (by decide) rfl (fun c_ => by first | exact absurd c_ (nle_lit 68 rfl (by omega) (by decide)) | exact absurd (nle_lit 68 rfl (by omega) (by decide)) c_ | exact Bool.noConfusion (c_.symm.trans (nle_lit 68 rfl (by omega) (by decide)))) (fun _ => ?_)
    refine AW.aload_n dX2_putBack_9 rfl rfl ?_
    refine AW.get ci2 0 (by decide) q1351 dX2_putBack_10 gM rfl rfl ?_
    refine AW.iload_n dX2_putBack_13 rfl rfl ?_
    refine AW.aload_n dX2_putBack_14 rfl rfl ?_
    refine AW.get ci2 24 (by decide) q1375 dX2_putBack_15 gM rfl rfl ?_
    refine AW.iload_n dX2_putBack_18 rfl rfl ?_
    refine AW.iald dX2_putBack_19 g634 (in0 (8 + k) (by omega) (by decide)) (j := 8 + k) (cI_nI (by omega)) rfl ?_
    refine AW.iast dX2_putBack_20 (by decide) g626 (in0 (8 + k) (by omega) (by decide)) (j := 8 + k) (cI_nI (by omega)) s626 rfl ?_
    refine AW.iinc (v := 1) dX2_putBack_21 rfl (by decide) rfl rfl rfl ?_
    refine AW.goto (tgt := 3) dX2_putBack_24 (by decide) ?_
    exact AW.hp (by rw [setA_at, setA_setA, setA_ne (by decide), ← mv_s]) (AW.ls (by rw [show 8 + (k + 1) = (8 + k) + 1 from rfl, nI_succ]; rfl) ihk)
theorem keep_tail {s : Sg} (c : Nat) (hc : s.A 626 3 = nI c) (h30 : c < 30) (l1 l2 l3 : Option Value) : AW 2 mX2_keep (hp s) 55 [some (.ref 625), l1, l2, l3] [] (.inl none) (hp (s.setA 626 (keepT (s.A 626) c))) := by
  have hx : (108 : Int32) + 72 * s.A 626 3 = nI (108 + 72 * c) := by rw [hc, show (108 : Int32) = nI 108 from rfl, show (72 : Int32) = nI 72 from rfl, nI_mul, nI_add]
  refine AW.bipush (v := 108) dX2_keep_55 (by decide) rfl ?_
  refine AW.bipush (v := 72) dX2_keep_57 (by decide) rfl ?_
  refine AW.aload_n dX2_keep_59 rfl rfl ?_
  refine AW.get ci2 0 (by decide) q1351 dX2_keep_60 gM rfl rfl ?_
  refine AW.iconst (v := 3) dX2_keep_63 (by decide) rfl ?_
  refine AW.iald dX2_keep_64 g626 (vp_in_iff.mpr (by decide)) (j := 3) (by decide) rfl ?_
  refine AW.imul dX2_keep_65 rfl ?_
  refine AW.iadd dX2_keep_66 rfl ?_
  refine AW.istore_n (i := 1) dX2_keep_67 rfl rfl (Nat.le_of_ble_eq_true rfl) rfl rfl ?_
  refine AW.aload_n dX2_keep_68 rfl rfl ?_
  refine AW.get ci2 0 (by decide) q1351 dX2_keep_69 gM rfl rfl ?_
  refine AW.iload_n dX2_keep_72 rfl rfl ?_
  refine AW.aload_n dX2_keep_73 rfl rfl ?_
  refine AW.get ci2 0 (by decide) q1351 dX2_keep_74 gM rfl rfl ?_
  refine AW.iconst (v := 0) dX2_keep_77 (by decide) rfl ?_
  refine AW.iald dX2_keep_78 g626 (vp_in_iff.mpr (by decide)) (j := 0) (by decide) rfl ?_
  refine AW.iast dX2_keep_79 (by decide) g626 (by rw [hx]; exact in0 (108 + 72 * c) (by omega) (by decide)) (j := 108 + 72 * c) (by rw [hx]; exact cI_nI (by omega)) s626 rfl ?_
  refine AW.iconst (v := 0) dX2_keep_80 (by decide) rfl ?_
  refine AW.istore_n (i := 2) dX2_keep_81 rfl rfl (Nat.le_of_ble_eq_true rfl) rfl rfl ?_
  refine AW.fg 3 rfl (AW.ls (ls' := [some (.ref 625), some (.int (nI (108 + 72 * c))), some (.int (nI 0)), none]) (by rw [hx]; rfl) (AW.hp (h2 := (hp (s.setA 626 (mv (up (s.A 626) (108 + 72 * c) (s.A 626 0)) (108 + 72 * c + 1) (fun j => s.A 626 (8 + j)) 0)))) (by rw [mv_0]) ?_))
  refine loopUp (P := fun k => AW 2 mX2_keep (hp (s.setA 626 (mv (up (s.A 626) (108 + 72 * c) (s.A 626 0)) (108 + 72 * c + 1) (fun j => s.A 626 (8 + j)) k))) 82 [some (.ref 625), some (.int (nI (108 + 72 * c))), some (.int (nI k)), none] [] (.inl none) (hp (s.setA 626 (keepT (s.A 626) c)))) 3 ?_ ?_ 0 (by first | exact Nat.zero_le _ | omega)
  · refine AW.iload_n dX2_keep_82 rfl rfl ?_
    refine AW.iconst (v := 3) dX2_keep_83 (by decide) rfl ?_
    refine AW.icmp_ge (tgt := 112) dX2_keep_84 (by decide) rfl (fun _ => ?_) (fun c_ => by first | exact absurd c_ (by decide) | exact absurd (by decide) c_ | exact absurd c_ (not_not_intro (by decide)) | exact Bool.noConfusion (c_.symm.trans (by decide)))
    refine AW.iconst (v := 0) dX2_keep_112 (by decide) rfl ?_
    refine AW.istore_n (i := 2) dX2_keep_113 rfl rfl (Nat.le_of_ble_eq_true rfl) rfl rfl ?_
    refine AW.hp (h2 := (hp (s.setA 626 (mv (mv (up (s.A 626) (108 + 72 * c) (s.A 626 0)) (108 + 72 * c + 1) (fun j => s.A 626 (8 + j)) 3) (108 + 72 * c + 4) (fun j => s.A 626 (12 + 8 * (j / 4) + j % 4)) (4 * 0))))) (by rw [Nat.mul_zero, mv_0]) ?_
    refine loopUp (P := fun h => AW 2 mX2_keep (hp (s.setA 626 (mv (mv (up (s.A 626) (108 + 72 * c) (s.A 626 0)) (108 + 72 * c + 1) (fun j => s.A 626 (8 + j)) 3) (108 + 72 * c + 4) (fun j => s.A 626 (12 + 8 * (j / 4) + j % 4)) (4 * h)))) 114 [some (.ref 625), some (.int (nI (108 + 72 * c))), some (.int (nI h)), none] [] (.inl none) (hp (s.setA 626 (keepT (s.A 626) c)))) 7 ?_ ?_ 0 (by first | exact Nat.zero_le _ | omega)
    · refine AW.iload_n dX2_keep_114 rfl rfl ?_
      refine AW.bipush (v := 7) dX2_keep_115 (by decide) rfl ?_
      refine AW.icmp_ge (tgt := 159) dX2_keep_117 (by decide) rfl (fun _ => ?_) (fun c_ => by first | exact absurd c_ (by decide) | exact absurd (by decide) c_ | exact absurd c_ (not_not_intro (by decide)) | exact Bool.noConfusion (c_.symm.trans (by decide)))
      refine AW.iconst (v := 0) dX2_keep_159 (by decide) rfl ?_
      refine AW.istore_n (i := 2) dX2_keep_160 rfl rfl (Nat.le_of_ble_eq_true rfl) rfl rfl ?_
      refine AW.hp (h2 := (hp (s.setA 626 (mv (mv (mv (up (s.A 626) (108 + 72 * c) (s.A 626 0)) (108 + 72 * c + 1) (fun j => s.A 626 (8 + j)) 3) (108 + 72 * c + 4) (fun j => s.A 626 (12 + 8 * (j / 4) + j % 4)) (28)) (108 + 72 * c + 32) (fun j => s.A 626 (2268 + j)) 0)))) (by rw [mv_0]) ?_
      refine loopUp (P := fun k => AW 2 mX2_keep (hp (s.setA 626 (mv (mv (mv (up (s.A 626) (108 + 72 * c) (s.A 626 0)) (108 + 72 * c + 1) (fun j => s.A 626 (8 + j)) 3) (108 + 72 * c + 4) (fun j => s.A 626 (12 + 8 * (j / 4) + j % 4)) (28)) (108 + 72 * c + 32) (fun j => s.A 626 (2268 + j)) k))) 161 [some (.ref 625), some (.int (nI (108 + 72 * c))), some (.int (nI k)), none] [] (.inl none) (hp (s.setA 626 (keepT (s.A 626) c)))) 40 ?_ ?_ 0 (by first | exact Nat.zero_le _ | omega)
      · refine AW.iload_n dX2_keep_161 rfl rfl ?_
        refine AW.bipush (v := 40) dX2_keep_162 (by decide) rfl ?_
        refine AW.icmp_ge (tgt := 194) dX2_keep_164 (by decide) rfl (fun _ => ?_) (fun c_ => by first | exact absurd c_ (by decide) | exact absurd (by decide) c_ | exact absurd c_ (not_not_intro (by decide)) | exact Bool.noConfusion (c_.symm.trans (by decide)))
        refine AW.aload_n dX2_keep_194 rfl rfl ?_
        refine AW.get ci2 0 (by decide) q1351 dX2_keep_195 gM rfl rfl ?_
        refine AW.iconst (v := 3) dX2_keep_198 (by decide) rfl ?_
        refine AW.dup2 dX2_keep_199 rfl rfl rfl ?_
        refine AW.iald dX2_keep_200 g626 (vp_in_iff.mpr (by decide)) (j := 3) (by decide) rfl ?_
        refine AW.iconst (v := 1) dX2_keep_201 (by decide) rfl ?_
        refine AW.iadd dX2_keep_202 rfl ?_
        refine AW.iast dX2_keep_203 (by decide) g626 (vp_in_iff.mpr (by decide)) (j := 3) (by decide) s626 rfl ?_
        exact AW.vretE dX2_keep_204 rfl rfl (by rw [setA_at, setA_setA, mv_out (by omega), mv_out (by omega), mv_out (by omega), up_ne (by omega), hc, nI_1]; rfl)
      · intro k hk ihk
        refine AW.iload_n dX2_keep_161 rfl rfl ?_
        refine AW.bipush (v := 40) dX2_keep_162 (by decide) rfl ?_
        refine AW.icmp_ge (tgt := 194) dX2_keep_164 (by decide) rfl (fun c_ => by first | exact absurd c_ (nle_lit 40 rfl hk (by decide)) | exact absurd (nle_lit 40 rfl hk (by decide)) c_ | exact Bool.noConfusion (c_.symm.trans (nle_lit 40 rfl hk (by decide)))) (fun _ => ?_)
        refine AW.aload_n dX2_keep_167 rfl rfl ?_
        refine AW.get ci2 0 (by decide) q1351 dX2_keep_168 gM rfl rfl ?_
        refine AW.iload_n dX2_keep_171 rfl rfl ?_
        refine AW.bipush (v := 32) dX2_keep_172 (by decide) rfl ?_
        refine AW.iadd dX2_keep_174 rfl ?_
        refine AW.iload_n dX2_keep_175 rfl rfl ?_
        refine AW.iadd dX2_keep_176 rfl ?_
        refine AW.aload_n dX2_keep_177 rfl rfl ?_
        refine AW.get ci2 0 (by decide) q1351 dX2_keep_178 gM rfl rfl ?_
        refine AW.sipush (v := 2268) dX2_keep_181 (by decide) rfl ?_
        refine AW.iload_n dX2_keep_184 rfl rfl ?_
        refine AW.iadd dX2_keep_185 rfl ?_
        refine AW.iald dX2_keep_186 g626 (in1 2268 k (by omega) (by decide)) (j := 2268 + k) (at1 2268 k (by omega)) rfl ?_
        refine AW.iast dX2_keep_187 (by decide) g626 (by rw [show nI (108 + 72 * c) + 32 + nI k = nI (108 + 72 * c + 32 + k) by rw [show (32 : Int32) = nI 32 from rfl, nI_add, nI_add]]; exact in0 _ (by omega) (by decide)) (j := 108 + 72 * c + 32 + k) (by rw [show nI (108 + 72 * c) + 32 + nI k = nI (108 + 72 * c + 32 + k) by rw [show (32 : Int32) = nI 32 from rfl, nI_add, nI_add]]; exact cI_nI (by omega)) s626 rfl ?_
        refine AW.iinc (v := 1) dX2_keep_188 rfl (by decide) rfl rfl rfl ?_
        refine AW.goto (tgt := 161) dX2_keep_191 (by decide) ?_
        exact AW.hp (by rw [setA_at, setA_setA, mv_out (by omega), mv_out (by omega), mv_out (by omega), up_ne (by omega)]; exact congrArg (fun q => hp (s.setA 626 q)) mv_s) (AW.ls (by rw [nI_succ k]; rfl) ihk)
    · intro h hh ihh
      refine AW.iload_n dX2_keep_114 rfl rfl ?_
      refine AW.bipush (v := 7) dX2_keep_115 (by decide) rfl ?_
      refine AW.icmp_ge (tgt := 159) dX2_keep_117 (by decide) rfl (fun c_ => by first | exact absurd c_ (nle_lit 7 rfl hh (by decide)) | exact absurd (nle_lit 7 rfl hh (by decide)) c_ | exact Bool.noConfusion (c_.symm.trans (nle_lit 7 rfl hh (by decide)))) (fun _ => ?_)
      refine AW.iconst (v := 0) dX2_keep_120 (by decide) rfl ?_
      refine AW.istore_n (i := 3) dX2_keep_121 rfl rfl (Nat.le_of_ble_eq_true rfl) rfl rfl ?_
      refine loopUp (P := fun k => AW 2 mX2_keep (hp (s.setA 626 (mv (mv (up (s.A 626) (108 + 72 * c) (s.A 626 0)) (108 + 72 * c + 1) (fun j => s.A 626 (8 + j)) 3) (108 + 72 * c + 4) (fun j => s.A 626 (12 + 8 * (j / 4) + j % 4)) (4 * h + k)))) 122 [some (.ref 625), some (.int (nI (108 + 72 * c))), some (.int (nI h)), some (.int (nI k))] [] (.inl none) (hp (s.setA 626 (keepT (s.A 626) c)))) 4 ?_ ?_ 0 (by first | exact Nat.zero_le _ | omega)
      · refine AW.iload_n dX2_keep_122 rfl rfl ?_
        refine AW.iconst (v := 4) dX2_keep_123 (by decide) rfl ?_
        refine AW.icmp_ge (tgt := 153) dX2_keep_124 (by decide) rfl (fun _ => ?_) (fun c_ => by first | exact absurd c_ (by decide) | exact absurd (by decide) c_ | exact absurd c_ (not_not_intro (by decide)) | exact Bool.noConfusion (c_.symm.trans (by decide)))
        refine AW.iinc (v := 1) dX2_keep_153 rfl (by decide) rfl rfl rfl ?_
        refine AW.goto (tgt := 114) dX2_keep_156 (by decide) ?_
        exact AW.fg 3 rfl (AW.ls (by rw [nI_succ h]; rfl) (AW.hp (by rw [show 4 * (h + 1) = 4 * h + 4 from rfl]) ihh))
      · intro k hk ihk
        have hxk : nI (108 + 72 * c) + 4 + 4 * nI h + nI k = nI (108 + 72 * c + 4 + (4 * h + k)) := by rw [show (4 : Int32) = nI 4 from rfl, nI_mul, nI_add, nI_add, nI_add, Nat.add_assoc]
        refine AW.iload_n dX2_keep_122 rfl rfl ?_
        refine AW.iconst (v := 4) dX2_keep_123 (by decide) rfl ?_
        refine AW.icmp_ge (tgt := 153) dX2_keep_124 (by decide) rfl (fun c_ => by first | exact absurd c_ (nle_lit 4 rfl hk (by decide)) | exact absurd (nle_lit 4 rfl hk (by decide)) c_ | exact Bool.noConfusion (c_.symm.trans (nle_lit 4 rfl hk (by decide)))) (fun _ => ?_)
        refine AW.aload_n dX2_keep_127 rfl rfl ?_
        refine AW.get ci2 0 (by decide) q1351 dX2_keep_128 gM rfl rfl ?_
        refine AW.iload_n dX2_keep_131 rfl rfl ?_
        refine AW.iconst (v := 4) dX2_keep_132 (by decide) rfl ?_
        refine AW.iadd dX2_keep_133 rfl ?_
        refine AW.iconst (v := 4) dX2_keep_134 (by decide) rfl ?_
        refine AW.iload_n dX2_keep_135 rfl rfl ?_
        refine AW.imul dX2_keep_136 rfl ?_
        refine AW.iadd dX2_keep_137 rfl ?_
        refine AW.iload_n dX2_keep_138 rfl rfl ?_
        refine AW.iadd dX2_keep_139 rfl ?_
        refine AW.aload_n dX2_keep_140 rfl rfl ?_
        refine AW.iload_n dX2_keep_141 rfl rfl ?_
        refine AW.iload_n dX2_keep_142 rfl rfl ?_
        refine AW.callV (Y := mX2_get) (n := 2) (r_X2_get _ _ (in3 12 8 h k (by omega) (by decide))) (by decide) (by decide) rfl gM q1477 q1479 qs63 q141 q1480 dX2_keep_143 (by decide +kernel) rfl rfl (Nat.le_of_ble_eq_true rfl) rfl ?_
        refine AW.iast dX2_keep_146 (by decide) g626 (by rw [hxk]; exact in0 _ (by omega) (by decide)) (j := 108 + 72 * c + 4 + (4 * h + k)) (by rw [hxk]; exact cI_nI (by omega)) s626 rfl ?_
        refine AW.iinc (v := 1) dX2_keep_147 rfl (by decide) rfl rfl rfl ?_
        refine AW.goto (tgt := 122) dX2_keep_150 (by decide) ?_
        exact AW.hp (by (have e1 : (4 * h + k) / 4 = h := by omega); (have e2 : (4 * h + k) % 4 = k := by omega); rw [gtM_n (by omega) (by omega), setA_at, setA_setA, mv_out (by omega), mv_out (by omega), up_ne (by omega)]; refine Eq.trans ?_ (congrArg (fun q => hp (s.setA 626 q)) (mv_s (n := 4 * h + k))); simp only [e1, e2]) (AW.ls (by rw [nI_succ k]; rfl) ihk)
  · intro k hk ihk
    refine AW.iload_n dX2_keep_82 rfl rfl ?_
    refine AW.iconst (v := 3) dX2_keep_83 (by decide) rfl ?_
    refine AW.icmp_ge (tgt := 112) dX2_keep_84 (by decide) rfl (fun c_ => by first | exact absurd c_ (nle_lit 3 rfl hk (by decide)) | exact absurd (nle_lit 3 rfl hk (by decide)) c_ | exact Bool.noConfusion (c_.symm.trans (nle_lit 3 rfl hk (by decide)))) (fun _ => ?_)
    refine AW.aload_n dX2_keep_87 rfl rfl ?_
    refine AW.get ci2 0 (by decide) q1351 dX2_keep_88 gM rfl rfl ?_
    refine AW.iload_n dX2_keep_91 rfl rfl ?_
    refine AW.iconst (v := 1) dX2_keep_92 (by decide) rfl ?_
    refine AW.iadd dX2_keep_93 rfl ?_
    refine AW.iload_n dX2_keep_94 rfl rfl ?_
    refine AW.iadd dX2_keep_95 rfl ?_
    refine AW.aload_n dX2_keep_96 rfl rfl ?_
    refine AW.get ci2 0 (by decide) q1351 dX2_keep_97 gM rfl rfl ?_
    refine AW.bipush (v := 8) dX2_keep_100 (by decide) rfl ?_
    refine AW.iload_n dX2_keep_102 rfl rfl ?_
    refine AW.iadd dX2_keep_103 rfl ?_
    refine AW.iald dX2_keep_104 g626 (in1 8 k (by omega) (by decide)) (j := 8 + k) (at1 8 k (by omega)) rfl ?_
    refine AW.iast dX2_keep_105 (by decide) g626 (by rw [show nI (108 + 72 * c) + 1 + nI k = nI (108 + 72 * c + 1 + k) by rw [nI_1, nI_add]]; exact in0 _ (by omega) (by decide)) (j := 108 + 72 * c + 1 + k) (by rw [show nI (108 + 72 * c) + 1 + nI k = nI (108 + 72 * c + 1 + k) by rw [nI_1, nI_add]]; exact cI_nI (by omega)) s626 rfl ?_
    refine AW.iinc (v := 1) dX2_keep_106 rfl (by decide) rfl rfl rfl ?_
    refine AW.goto (tgt := 82) dX2_keep_109 (by decide) ?_
    exact AW.hp (by rw [setA_at, setA_setA, mv_out (by omega), up_ne (by omega)]; exact congrArg (fun q => hp (s.setA 626 q)) mv_s) (AW.ls (by rw [nI_succ k]; rfl) ihk)
theorem r_X2_keep {s : Sg} (c : Nat) (hc : s.A 626 3 = nI c) (h30 : c ≤ 30) : Run 2 mX2_keep [.ref 625] (hp s) (.inl none) (hp (s.setA 626 (keepM (s.A 626) c))) := by
  refine Run.of rfl (Nat.le_of_ble_eq_true rfl) rfl ?_
  refine AW.aload_n dX2_keep_0 rfl rfl ?_
  refine AW.get ci2 0 (by decide) q1351 dX2_keep_1 gM rfl rfl ?_
  refine AW.iconst (v := 3) dX2_keep_4 (by decide) rfl ?_
  refine AW.iald dX2_keep_5 g626 (vp_in_iff.mpr (by decide)) (j := 3) (by decide) rfl ?_
  refine AW.bipush (v := 30) dX2_keep_6 (by decide) rfl ?_
  refine AW.icmp_ne (tgt := 55) dX2_keep_8 (by decide) rfl (fun c8 => ?_) (fun c8 => ?_)
  · have h31 : c ≠ 30 := fun q => c8 (by rw [hc, q]; rfl)
    rw [show keepM (s.A 626) c = keepT (s.A 626) c from if_neg h31]
    exact keep_tail c hc (by omega) _ _ _
  · refine AW.iconst (v := 0) dX2_keep_11 (by decide) rfl ?_
    refine AW.istore_n (i := 1) dX2_keep_12 rfl rfl (Nat.le_of_ble_eq_true rfl) rfl rfl ?_
    refine AW.hp (h2 := hp (s.setA 626 (mv (s.A 626) 108 (fun j => s.A 626 (180 + j)) 0))) (by rw [mv_0, setA_id]) ?_
    refine loopUp (P := fun k => AW 2 mX2_keep (hp (s.setA 626 (mv (s.A 626) 108 (fun j => s.A 626 (180 + j)) k))) 13 [some (.ref 625), some (.int (nI k)), none, none] [] (.inl none) (hp (s.setA 626 (keepM (s.A 626) c)))) 2088 ?_ ?_ 0 (by first | exact Nat.zero_le _ | omega)
    · refine AW.iload_n dX2_keep_13 rfl rfl ?_
      refine AW.sipush (v := 2088) dX2_keep_14 (by decide) rfl ?_
      refine AW.icmp_ge (tgt := 45) dX2_keep_17 (by decide) rfl (fun _ => ?_) (fun c_ => by first | exact absurd c_ (by decide) | exact absurd (by decide) c_ | exact absurd c_ (not_not_intro (by decide)) | exact Bool.noConfusion (c_.symm.trans (by decide)))
      refine AW.aload_n dX2_keep_45 rfl rfl ?_
      refine AW.get ci2 0 (by decide) q1351 dX2_keep_46 gM rfl rfl ?_
      refine AW.iconst (v := 3) dX2_keep_49 (by decide) rfl ?_
      refine AW.dup2 dX2_keep_50 rfl rfl rfl ?_
      refine AW.iald dX2_keep_51 g626 (vp_in_iff.mpr (by decide)) (j := 3) (by decide) rfl ?_
      refine AW.iconst (v := 1) dX2_keep_52 (by decide) rfl ?_
      refine AW.isub dX2_keep_53 rfl ?_
      refine AW.iast dX2_keep_54 (by decide) g626 (vp_in_iff.mpr (by decide)) (j := 3) (by decide) s626 rfl ?_
      have h31 : c = 30 := by have := congrArg Int32.toInt (hc.symm.trans c8); rw [nI_t (by omega)] at this; have q : (30 : Int32).toInt = 30 := rfl; omega
      rw [show keepM (s.A 626) c = keepT (shiftM (s.A 626)) 29 from if_pos h31]
      have e0 : s.A 626 3 = 30 := by rw [hc, h31]; rfl
      refine AW.hp (h2 := hp (s.setA 626 (shiftM (s.A 626)))) (by rw [setA_at, setA_setA, mv_out (by omega), e0]; rfl) ?_
      have := keep_tail (s := s.setA 626 (shiftM (s.A 626))) 29 (by rw [setA_at]; unfold shiftM; rw [up_eq]; rfl) (by omega) (some (.int (nI 2088))) none none
      rw [setA_at, setA_setA] at this
      exact this
    · intro k hk ihk
      refine AW.iload_n dX2_keep_13 rfl rfl ?_
      refine AW.sipush (v := 2088) dX2_keep_14 (by decide) rfl ?_
      refine AW.icmp_ge (tgt := 45) dX2_keep_17 (by decide) rfl (fun c_ => by first | exact absurd c_ (nle_lit 2088 rfl hk (by decide)) | exact absurd (nle_lit 2088 rfl hk (by decide)) c_ | exact Bool.noConfusion (c_.symm.trans (nle_lit 2088 rfl hk (by decide)))) (fun _ => ?_)
      refine AW.aload_n dX2_keep_20 rfl rfl ?_
      refine AW.get ci2 0 (by decide) q1351 dX2_keep_21 gM rfl rfl ?_
      refine AW.bipush (v := 108) dX2_keep_24 (by decide) rfl ?_
      refine AW.iload_n dX2_keep_26 rfl rfl ?_
      refine AW.iadd dX2_keep_27 rfl ?_
      refine AW.aload_n dX2_keep_28 rfl rfl ?_
      refine AW.get ci2 0 (by decide) q1351 dX2_keep_29 gM rfl rfl ?_
      refine AW.sipush (v := 180) dX2_keep_32 (by decide) rfl ?_
      refine AW.iload_n dX2_keep_35 rfl rfl ?_
      refine AW.iadd dX2_keep_36 rfl ?_
      refine AW.iald dX2_keep_37 g626 (in1 180 k (by omega) (by decide)) (j := 180 + k) (at1 180 k (by omega)) rfl ?_
      refine AW.iast dX2_keep_38 (by decide) g626 (in1 108 k (by omega) (by decide)) (j := 108 + k) (at1 108 k (by omega)) s626 rfl ?_
      refine AW.iinc (v := 1) dX2_keep_39 rfl (by decide) rfl rfl rfl ?_
      refine AW.goto (tgt := 13) dX2_keep_42 (by decide) ?_
      exact AW.hp (by rw [setA_at, setA_setA, mv_out (by omega)]; exact congrArg (fun q => hp (s.setA 626 q)) mv_s) (AW.ls (by rw [nI_succ k]; rfl) ihk)
