/-! MODEL 6: pages, told houses, undo, hats (printed by tools/m6.py) -/
set_option maxRecDepth 100000
theorem r_X2_cut {h : AH} (v : Int64) (lo hi : Int32) : Run 1 mX2_cut [.long v, .int lo, .int hi] h (.inl (some (.int (cutL v lo hi)))) h := by
  refine Run.of rfl (Nat.le_of_ble_eq_true rfl) rfl ?_
  refine AW.lload_n dX2_cut_0 rfl rfl ?_
  refine AW.iload_n dX2_cut_1 rfl rfl ?_
  refine AW.i2l dX2_cut_2 rfl ?_
  refine AW.lcmp dX2_cut_3 rfl ?_
  refine AW.if_ge (tgt := 11) dX2_cut_4 (by decide) rfl (fun c1 => ?_) (fun c1 => ?_)
  · refine AW.lload_n dX2_cut_11 rfl rfl ?_
    refine AW.iload_n dX2_cut_12 rfl rfl ?_
    refine AW.i2l dX2_cut_13 rfl ?_
    refine AW.lcmp dX2_cut_14 rfl ?_
    refine AW.if_le (tgt := 22) dX2_cut_15 (by decide) rfl (fun c2 => ?_) (fun c2 => ?_)
    · refine AW.lload_n dX2_cut_22 rfl rfl ?_
      refine AW.l2i dX2_cut_23 rfl ?_
      exact AW.iretE dX2_cut_24 rfl rfl (by (try rw [lg_cmp_ge] at c1); (try rw [lg_cmp_le] at c2); unfold cutL; first | (rw [if_pos (Int64.not_le.mp c1)]; done) | (rw [if_neg (Int64.not_lt.mpr c1), if_neg (Int64.not_lt.mpr c2)]; done) | (rw [if_neg (Int64.not_lt.mpr c1), if_pos (Int64.not_le.mp c2)]; done)) rfl
    · refine AW.iload_n dX2_cut_18 rfl rfl ?_
      refine AW.goto (tgt := 24) dX2_cut_19 (by decide) ?_
      exact AW.iretE dX2_cut_24 rfl rfl (by (try rw [lg_cmp_ge] at c1); (try rw [lg_cmp_le] at c2); unfold cutL; first | (rw [if_pos (Int64.not_le.mp c1)]; done) | (rw [if_neg (Int64.not_lt.mpr c1), if_neg (Int64.not_lt.mpr c2)]; done) | (rw [if_neg (Int64.not_lt.mpr c1), if_pos (Int64.not_le.mp c2)]; done)) rfl
  · refine AW.iload_n dX2_cut_7 rfl rfl ?_
    refine AW.goto (tgt := 24) dX2_cut_8 (by decide) ?_
    exact AW.iretE dX2_cut_24 rfl rfl (by (try rw [lg_cmp_ge] at c1); (try rw [lg_cmp_le] at c2); unfold cutL; first | (rw [if_pos (Int64.not_le.mp c1)]; done) | (rw [if_neg (Int64.not_lt.mpr c1), if_neg (Int64.not_lt.mpr c2)]; done) | (rw [if_neg (Int64.not_lt.mpr c1), if_pos (Int64.not_le.mp c2)]; done)) rfl
theorem write_tail {s : Sg} (w : Nat) (hw : s.A 626 10 = nI w) (h40 : w < 40) (h z : Int32) (l3 : Option Value) : AW 1 mX2_write (hp s) 59 [some (.ref 625), some (.int (h)), some (.int (z)), l3] [] (.inl none) (hp (s.setA 626 (pageM (s.A 626) w h z))) := by
  refine AW.aload_n dX2_write_59 rfl rfl ?_
  refine AW.get ci2 0 (by decide) q1351 dX2_write_60 gM rfl rfl ?_
  refine AW.sipush (v := 2268) dX2_write_63 (by decide) rfl ?_
  refine AW.aload_n dX2_write_66 rfl rfl ?_
  refine AW.get ci2 0 (by decide) q1351 dX2_write_67 gM rfl rfl ?_
  refine AW.bipush (v := 10) dX2_write_70 (by decide) rfl ?_
  refine AW.iald dX2_write_72 g626 (vp_in_iff.mpr (by decide)) (j := 10) (by decide) rfl ?_
  refine AW.iadd dX2_write_73 rfl ?_
  refine AW.aload_n dX2_write_74 rfl rfl ?_
  refine AW.get ci2 0 (by decide) q1351 dX2_write_75 gM rfl rfl ?_
  refine AW.bipush (v := 8) dX2_write_78 (by decide) rfl ?_
  refine AW.iald dX2_write_80 g626 (vp_in_iff.mpr (by decide)) (j := 8) (by decide) rfl ?_
  refine AW.bipush (v := 16) dX2_write_81 (by decide) rfl ?_
  refine AW.imul dX2_write_83 rfl ?_
  refine AW.iload_n dX2_write_84 rfl rfl ?_
  refine AW.iconst (v := 2) dX2_write_85 (by decide) rfl ?_
  refine AW.imul dX2_write_86 rfl ?_
  refine AW.iadd dX2_write_87 rfl ?_
  refine AW.iload_n dX2_write_88 rfl rfl ?_
  refine AW.iadd dX2_write_89 rfl ?_
  refine AW.iast dX2_write_90 (by decide) g626 (by rw [hw]; exact in1 2268 w (by omega) (by decide)) (j := 2268 + w) (by rw [hw]; exact at1 2268 w (by omega)) s626 rfl ?_
  refine AW.aload_n dX2_write_91 rfl rfl ?_
  refine AW.get ci2 0 (by decide) q1351 dX2_write_92 gM rfl rfl ?_
  refine AW.bipush (v := 10) dX2_write_95 (by decide) rfl ?_
  refine AW.dup2 dX2_write_97 rfl rfl rfl ?_
  refine AW.iald dX2_write_98 g626 (vp_in_iff.mpr (by decide)) (j := 10) (by decide) rfl ?_
  refine AW.iconst (v := 1) dX2_write_99 (by decide) rfl ?_
  refine AW.iadd dX2_write_100 rfl ?_
  refine AW.iast dX2_write_101 (by decide) g626 (vp_in_iff.mpr (by decide)) (j := 10) (by decide) s626 rfl ?_
  exact AW.vretE dX2_write_102 rfl rfl (by rw [setA_at, setA_setA, up_ne (by omega), hw, nI_1]; rfl)
theorem r_X2_write {s : Sg} (w : Nat) (hw : s.A 626 10 = nI w) (h40 : w ≤ 40) (h z : Int32) : Run 1 mX2_write [.ref 625, .int h, .int z] (hp s) (.inl none) (hp (s.setA 626 (writeM (s.A 626) w h z))) := by
  refine Run.of rfl (Nat.le_of_ble_eq_true rfl) rfl ?_
  refine AW.aload_n dX2_write_0 rfl rfl ?_
  refine AW.get ci2 0 (by decide) q1351 dX2_write_1 gM rfl rfl ?_
  refine AW.bipush (v := 10) dX2_write_4 (by decide) rfl ?_
  refine AW.iald dX2_write_6 g626 (vp_in_iff.mpr (by decide)) (j := 10) (by decide) rfl ?_
  refine AW.bipush (v := 40) dX2_write_7 (by decide) rfl ?_
  refine AW.icmp_ne (tgt := 59) dX2_write_9 (by decide) rfl (fun c8 => ?_) (fun c8 => ?_)
  · have h31 : w ≠ 40 := fun q => c8 (by rw [hw, q]; rfl)
    rw [show writeM (s.A 626) w h z = pageM (s.A 626) w h z from if_neg h31]
    exact write_tail w hw (by omega) _ _ _
  · refine AW.iconst (v := 1) dX2_write_12 (by decide) rfl ?_
    refine AW.istore_n (i := 3) dX2_write_13 rfl rfl (Nat.le_of_ble_eq_true rfl) rfl rfl ?_
    refine AW.hp (h2 := (hp (s.setA 626 (mv (s.A 626) 2268 (fun j => s.A 626 (2269 + j)) 0)))) (by rw [mv_0, setA_id]) ?_
    refine loopUp (P := fun k => AW 1 mX2_write (hp (s.setA 626 (mv (s.A 626) 2268 (fun j => s.A 626 (2269 + j)) k))) 14 [some (.ref 625), some (.int (h)), some (.int (z)), some (.int (nI (k + 1)))] [] (.inl none) (hp (s.setA 626 (writeM (s.A 626) w h z)))) 39 ?_ ?_ 0 (by first | exact Nat.zero_le _ | omega)
    · refine AW.iload_n dX2_write_14 rfl rfl ?_
      refine AW.bipush (v := 40) dX2_write_15 (by decide) rfl ?_
      refine AW.icmp_ge (tgt := 48) dX2_write_17 (by decide) rfl (fun _ => ?_) (fun c_ => by first | exact absurd c_ (by decide) | exact absurd (by decide) c_ | exact absurd c_ (not_not_intro (by decide)) | exact Bool.noConfusion (c_.symm.trans (by decide)))
      refine AW.aload_n dX2_write_48 rfl rfl ?_
      refine AW.get ci2 0 (by decide) q1351 dX2_write_49 gM rfl rfl ?_
      refine AW.bipush (v := 10) dX2_write_52 (by decide) rfl ?_
      refine AW.dup2 dX2_write_54 rfl rfl rfl ?_
      refine AW.iald dX2_write_55 g626 (vp_in_iff.mpr (by decide)) (j := 10) (by decide) rfl ?_
      refine AW.iconst (v := 1) dX2_write_56 (by decide) rfl ?_
      refine AW.isub dX2_write_57 rfl ?_
      refine AW.iast dX2_write_58 (by decide) g626 (vp_in_iff.mpr (by decide)) (j := 10) (by decide) s626 rfl ?_
      have h31 : w = 40 := by have := congrArg Int32.toInt (hw.symm.trans c8); rw [nI_t (by omega)] at this; have q : (40 : Int32).toInt = 40 := rfl; omega
      rw [show writeM (s.A 626) w h z = pageM (shiftB (s.A 626)) 39 h z from if_pos h31]
      have e0 : s.A 626 10 = 40 := by rw [hw, h31]; rfl
      refine AW.hp (h2 := hp (s.setA 626 (shiftB (s.A 626)))) (by rw [setA_at, setA_setA, mv_out (by omega), e0]; rfl) ?_
      have := write_tail (s := s.setA 626 (shiftB (s.A 626))) 39 (by rw [setA_at]; unfold shiftB; rw [up_eq]; rfl) (by omega) h z (some (.int (nI (39 + 1))))
      rw [setA_at, setA_setA] at this
      exact this
    · intro k hk ihk
      have e9 : (2268 : Int32) + nI (k + 1) - 1 = 2268 + nI k := by rw [nI_succ k, ← Int32.add_assoc, Int32.add_sub_cancel]
      refine AW.iload_n dX2_write_14 rfl rfl ?_
      refine AW.bipush (v := 40) dX2_write_15 (by decide) rfl ?_
      refine AW.icmp_ge (tgt := 48) dX2_write_17 (by decide) rfl (fun c_ => by first | exact absurd c_ (nle_lit 40 rfl (by omega) (by decide)) | exact absurd (nle_lit 40 rfl (by omega) (by decide)) c_ | exact Bool.noConfusion (c_.symm.trans (nle_lit 40 rfl (by omega) (by decide)))) (fun _ => ?_)
      refine AW.aload_n dX2_write_20 rfl rfl ?_
      refine AW.get ci2 0 (by decide) q1351 dX2_write_21 gM rfl rfl ?_
      refine AW.sipush (v := 2268) dX2_write_24 (by decide) rfl ?_
      refine AW.iload_n dX2_write_27 rfl rfl ?_
      refine AW.iadd dX2_write_28 rfl ?_
      refine AW.iconst (v := 1) dX2_write_29 (by decide) rfl ?_
      refine AW.isub dX2_write_30 rfl ?_
      refine AW.aload_n dX2_write_31 rfl rfl ?_
      refine AW.get ci2 0 (by decide) q1351 dX2_write_32 gM rfl rfl ?_
      refine AW.sipush (v := 2268) dX2_write_35 (by decide) rfl ?_
      refine AW.iload_n dX2_write_38 rfl rfl ?_
      refine AW.iadd dX2_write_39 rfl ?_
      refine AW.iald dX2_write_40 g626 (in1 2268 (k + 1) (by omega) (by decide)) (j := 2268 + (k + 1)) (at1 2268 (k + 1) (by omega)) rfl ?_
      refine AW.iast dX2_write_41 (by decide) g626 (by rw [e9]; exact in1 2268 k (by omega) (by decide)) (j := 2268 + k) (by rw [e9]; exact at1 2268 k (by omega)) s626 rfl ?_
      refine AW.iinc (v := 1) dX2_write_42 rfl (by decide) rfl rfl rfl ?_
      refine AW.goto (tgt := 14) dX2_write_45 (by decide) ?_
      exact AW.hp (by rw [setA_at, setA_setA, mv_out (by omega), show 2268 + (k + 1) = 2269 + k by omega]; exact congrArg (fun q => hp (s.setA 626 q)) mv_s) (AW.ls (by rw [nI_succ (k + 1)]; rfl) ihk)
theorem r_X2_begin {s : Sg} (h : Nat) (hh : h < 7) : Run 2 mX2_begin [.ref 625, .int (nI h)] (hp s) (.inl none) (hp (s.setA 626 (beginM (s.A 626) h))) := by
  refine Run.of rfl (Nat.le_of_ble_eq_true rfl) rfl ?_
  refine AW.iconst (v := 0) dX2_begin_0 (by decide) rfl ?_
  refine AW.istore_n (i := 2) dX2_begin_1 rfl rfl (Nat.le_of_ble_eq_true rfl) rfl rfl ?_
  refine AW.hp (h2 := (hp (s.setA 626 (mv (s.A 626) (12 + 8 * h) (fun j => s.A 626 (12 + 8 * h + 4 + j)) 0)))) (by rw [mv_0, setA_id]) ?_
  refine loopUp (P := fun k => AW 2 mX2_begin (hp (s.setA 626 (mv (s.A 626) (12 + 8 * h) (fun j => s.A 626 (12 + 8 * h + 4 + j)) k))) 2 [some (.ref 625), some (.int (nI h)), some (.int (nI k))] [] (.inl none) (hp (s.setA 626 (beginM (s.A 626) h)))) 3 ?_ ?_ 0 (by first | exact Nat.zero_le _ | omega)
  · refine AW.iload_n dX2_begin_2 rfl rfl ?_
    refine AW.iconst (v := 3) dX2_begin_3 (by decide) rfl ?_
    refine AW.icmp_ge (tgt := 27) dX2_begin_4 (by decide) rfl (fun _ => ?_) (fun c_ => by first | exact absurd c_ (by decide) | exact absurd (by decide) c_ | exact absurd c_ (not_not_intro (by decide)) | exact Bool.noConfusion (c_.symm.trans (by decide)))
    refine AW.aload_n dX2_begin_27 rfl rfl ?_
    refine AW.iload_n dX2_begin_28 rfl rfl ?_
    refine AW.iconst (v := 3) dX2_begin_29 (by decide) rfl ?_
    refine AW.iconst (v := 0) dX2_begin_30 (by decide) rfl ?_
    refine AW.callV (Y := mX2_put) (n := 3) (r_X2_put (s := s.setA 626 _) (nI h) 3 0 (in3 12 8 h 3 (by omega) (by decide))) (by decide) (by decide) rfl gM q1469 q1471 qs61 q141 q1472 dX2_begin_31 (by decide +kernel) rfl rfl (Nat.le_of_ble_eq_true rfl) rfl ?_
    exact AW.vretE dX2_begin_34 rfl rfl (by rw [setA_at, setA_setA, show cI (12 + 8 * nI h + 3) = 12 + 8 * h + 3 from at3 12 8 h 3 (by omega)]; rfl)
  · intro k hk ihk
    have e4 : (4 : Int32) + nI k = nI (4 + k) := by rw [show (4 : Int32) = nI 4 from rfl, nI_add]
    refine AW.iload_n dX2_begin_2 rfl rfl ?_
    refine AW.iconst (v := 3) dX2_begin_3 (by decide) rfl ?_
    refine AW.icmp_ge (tgt := 27) dX2_begin_4 (by decide) rfl (fun c_ => by first | exact absurd c_ (nle_lit 3 rfl hk (by decide)) | exact absurd (nle_lit 3 rfl hk (by decide)) c_ | exact Bool.noConfusion (c_.symm.trans (nle_lit 3 rfl hk (by decide)))) (fun _ => ?_)
    refine AW.aload_n dX2_begin_7 rfl rfl ?_
    refine AW.iload_n dX2_begin_8 rfl rfl ?_
    refine AW.iload_n dX2_begin_9 rfl rfl ?_
    refine AW.aload_n dX2_begin_10 rfl rfl ?_
    refine AW.iload_n dX2_begin_11 rfl rfl ?_
    refine AW.iconst (v := 4) dX2_begin_12 (by decide) rfl ?_
    refine AW.iload_n dX2_begin_13 rfl rfl ?_
    refine AW.iadd dX2_begin_14 rfl ?_
    refine AW.callV (Y := mX2_get) (n := 2) (r_X2_get (s := s.setA 626 _) (nI h) (4 + nI k) (by rw [e4]; exact in3 12 8 h (4 + k) (by omega) (by decide))) (by decide) (by decide) rfl gM q1477 q1479 qs63 q141 q1480 dX2_begin_15 (by decide +kernel) rfl rfl (Nat.le_of_ble_eq_true rfl) rfl ?_
    refine AW.callV (Y := mX2_put) (n := 3) (r_X2_put (s := s.setA 626 _) (nI h) (nI k) _ (in3 12 8 h k (by omega) (by decide))) (by decide) (by decide) rfl gM q1469 q1471 qs61 q141 q1472 dX2_begin_18 (by decide +kernel) rfl rfl (Nat.le_of_ble_eq_true rfl) rfl ?_
    refine AW.iinc (v := 1) dX2_begin_21 rfl (by decide) rfl rfl rfl ?_
    refine AW.goto (tgt := 2) dX2_begin_24 (by decide) ?_
    exact AW.hp (by rw [e4, gtM_n (by omega) (by omega), setA_at, setA_setA, mv_out (by omega), show cI (12 + 8 * nI h + nI k) = 12 + 8 * h + k from at3 12 8 h k (by omega), show 12 + 8 * h + (4 + k) = 12 + 8 * h + 4 + k by omega]; exact congrArg (fun q => hp (s.setA 626 q)) mv_s) (AW.ls (by rw [nI_succ k]; rfl) ihk)
theorem r_X2_hatNow {s : Sg} (h : Int32) (hi : vp_in (12 + 8 * h + 0) 2308) : Run 2 mX2_hatNow [.ref 625, .int h] (hp s) (.inl (some (.int ((hatR h 20 (s.A 626)).1)))) (hp (s.setA 626 (hatR h 20 (s.A 626)).2)) := by
  refine Run.of rfl (Nat.le_of_ble_eq_true rfl) rfl ?_
  refine AW.iconst (v := 0) dX2_hatNow_0 (by decide) rfl ?_
  refine AW.istore_n (i := 2) dX2_hatNow_1 rfl rfl (Nat.le_of_ble_eq_true rfl) rfl rfl ?_
  refine AW.hp (h2 := (hp (s.setA 626 (iter drawN 0 (s.A 626))))) (by show hp s = hp (s.setA 626 (s.A 626)); rw [setA_id]) ?_
  refine loopUp (P := fun k => AW 2 mX2_hatNow (hp (s.setA 626 (iter drawN k (s.A 626)))) 2 [some (.ref 625), some (.int (h)), some (.int (nI k)), none] [] (.inl (some (.int ((hatR h (20 - k) (iter drawN k (s.A 626))).1)))) (hp (s.setA 626 (hatR h (20 - k) (iter drawN k (s.A 626))).2))) 20 ?_ ?_ 0 (by first | exact Nat.zero_le _ | omega)
  · refine AW.iload_n dX2_hatNow_2 rfl rfl ?_
    refine AW.bipush (v := 20) dX2_hatNow_3 (by decide) rfl ?_
    refine AW.icmp_ge (tgt := 63) dX2_hatNow_5 (by decide) rfl (fun _ => ?_) (fun c_ => by first | exact absurd c_ (by decide) | exact absurd (by decide) c_ | exact absurd c_ (not_not_intro (by decide)) | exact Bool.noConfusion (c_.symm.trans (by decide)))
    refine AW.iconst (v := (-1)) dX2_hatNow_63 (by decide) rfl ?_
    exact AW.iretE dX2_hatNow_64 rfl rfl rfl rfl
  · intro k hk ihk
    have eh : hatR h (20 - k) (iter drawN k (s.A 626)) = if hasI (gtM (up (iter drawN k (s.A 626)) 9 (drawM ((iter drawN k (s.A 626)) 9))) h 0) ((iter drawN k (s.A 626)) 9 % 20) then hatR h (20 - (k + 1)) (iter drawN (k + 1) (s.A 626)) else ((iter drawN k (s.A 626)) 9 % 20, ptM (up (iter drawN k (s.A 626)) 9 (drawM ((iter drawN k (s.A 626)) 9))) h 0 (gtM (up (iter drawN k (s.A 626)) 9 (drawM ((iter drawN k (s.A 626)) 9))) h 0 ||| bit ((iter drawN k (s.A 626)) 9 % 20))) := by obtain ⟨j, hj⟩ := Nat.exists_eq_add_of_lt hk; rw [show 20 - k = j + 1 by omega, show 20 - (k + 1) = j by omega]; rfl
    refine AW.iload_n dX2_hatNow_2 rfl rfl ?_
    refine AW.bipush (v := 20) dX2_hatNow_3 (by decide) rfl ?_
    refine AW.icmp_ge (tgt := 63) dX2_hatNow_5 (by decide) rfl (fun c_ => by first | exact absurd c_ (nle_lit 20 rfl hk (by decide)) | exact absurd (nle_lit 20 rfl hk (by decide)) c_ | exact Bool.noConfusion (c_.symm.trans (nle_lit 20 rfl hk (by decide)))) (fun _ => ?_)
    refine AW.aload_n dX2_hatNow_8 rfl rfl ?_
    refine AW.get ci2 0 (by decide) q1351 dX2_hatNow_9 gM rfl rfl ?_
    refine AW.bipush (v := 9) dX2_hatNow_12 (by decide) rfl ?_
    refine AW.iald dX2_hatNow_14 g626 (vp_in_iff.mpr (by decide)) (j := 9) (by decide) rfl ?_
    refine AW.bipush (v := 20) dX2_hatNow_15 (by decide) rfl ?_
    refine AW.irem dX2_hatNow_17 (by decide) rfl ?_
    refine AW.istore_n (i := 3) dX2_hatNow_18 rfl rfl (Nat.le_of_ble_eq_true rfl) rfl rfl ?_
    refine AW.aload_n dX2_hatNow_19 rfl rfl ?_
    refine AW.callV (Y := mX2_anew) (n := 0) (r_X2_anew (s := s.setA 626 _)) (by decide) (by decide) rfl gM q1745 q1747 qs106 q141 q1748 dX2_hatNow_20 (by decide +kernel) rfl rfl (Nat.le_of_ble_eq_true rfl) rfl ?_
    refine AW.aload_n dX2_hatNow_23 rfl rfl ?_
    refine AW.iload_n dX2_hatNow_24 rfl rfl ?_
    refine AW.iconst (v := 0) dX2_hatNow_25 (by decide) rfl ?_
    refine AW.callV (Y := mX2_get) (n := 2) (r_X2_get (s := (s.setA 626 _).setA 626 _) _ _ hi) (by decide) (by decide) rfl gM q1477 q1479 qs63 q141 q1480 dX2_hatNow_26 (by decide +kernel) rfl rfl (Nat.le_of_ble_eq_true rfl) rfl ?_
    refine AW.iload_n dX2_hatNow_29 rfl rfl ?_
    refine AW.callS (Y := mX2_has) (n := 2) (r_X2_has _ _) (by decide) (by decide) q1547 q1548 q141 q1549 dX2_hatNow_30 (by decide +kernel) rfl rfl (Nat.le_of_ble_eq_true rfl) rfl ?_
    refine AW.if_eqB (tgt := 39) dX2_hatNow_33 (by decide) rfl (fun c => ?_) (fun c => ?_)
    · refine AW.aload_n dX2_hatNow_39 rfl rfl ?_
      refine AW.iload_n dX2_hatNow_40 rfl rfl ?_
      refine AW.iconst (v := 0) dX2_hatNow_41 (by decide) rfl ?_
      refine AW.aload_n dX2_hatNow_42 rfl rfl ?_
      refine AW.iload_n dX2_hatNow_43 rfl rfl ?_
      refine AW.iconst (v := 0) dX2_hatNow_44 (by decide) rfl ?_
      refine AW.callV (Y := mX2_get) (n := 2) (r_X2_get (s := (s.setA 626 _).setA 626 _) _ _ hi) (by decide) (by decide) rfl gM q1477 q1479 qs63 q141 q1480 dX2_hatNow_45 (by decide +kernel) rfl rfl (Nat.le_of_ble_eq_true rfl) rfl ?_
      refine AW.iconst (v := 1) dX2_hatNow_48 (by decide) rfl ?_
      refine AW.iload_n dX2_hatNow_49 rfl rfl ?_
      refine AW.ishl dX2_hatNow_50 rfl ?_
      refine AW.ior dX2_hatNow_51 rfl ?_
      refine AW.callV (Y := mX2_put) (n := 3) (r_X2_put (s := (s.setA 626 _).setA 626 _) _ _ _ hi) (by decide) (by decide) rfl gM q1469 q1471 qs61 q141 q1472 dX2_hatNow_52 (by decide +kernel) rfl rfl (Nat.le_of_ble_eq_true rfl) rfl ?_
      refine AW.iload_n dX2_hatNow_55 rfl rfl ?_
      exact AW.iretE dX2_hatNow_56 rfl rfl (by rw [eh, if_neg (by rw [setA_at] at c; rw [setA_at] at c; exact fun q => Bool.noConfusion (q.symm.trans c)), setA_at]) (by rw [eh, if_neg (by rw [setA_at] at c; rw [setA_at] at c; exact fun q => Bool.noConfusion (q.symm.trans c)), setA_setA, setA_setA, setA_at, setA_at]; rfl)
    · refine AW.goto (tgt := 57) dX2_hatNow_36 (by decide) ?_
      refine AW.iinc (v := 1) dX2_hatNow_57 rfl (by decide) rfl rfl rfl ?_
      refine AW.goto (tgt := 2) dX2_hatNow_60 (by decide) ?_
      rw [setA_at] at c
      rw [setA_at] at c
      rw [eh, if_pos c]
      exact AW.hp (by rw [setA_setA, setA_at]; rfl) (AW.fg 3 rfl (AW.ls (by rw [nI_succ k]; rfl) ihk))
