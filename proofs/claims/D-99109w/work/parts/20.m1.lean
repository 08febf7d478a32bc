/-! MODEL 1: leaves (printed by tools/m1.py) -/
set_option maxRecDepth 100000
theorem r_X2_isIn {h : AH} (v lo hi : Int32) : Run 1 mX2_isIn [.int v, .int lo, .int hi] h (.inl (some (.int (b2i (inI v lo hi))))) h := by
  refine Run.of rfl (Nat.le_of_ble_eq_true rfl) rfl ?_
  refine AW.iload_n dX2_isIn_0 rfl rfl ?_
  refine AW.iload_n dX2_isIn_1 rfl rfl ?_
  refine AW.icmp_lt (tgt := 14) dX2_isIn_2 (by decide) rfl (fun c1 => ?_) (fun c1 => ?_)
  · refine AW.iconst (v := 0) dX2_isIn_14 (by decide) rfl ?_
    exact AW.bretE dX2_isIn_15 rfl rfl (by simp_all [inI, b2i, hasI, Int32.lt_iff_toInt_lt, Int32.le_iff_toInt_le]; try (intros; omega)) rfl
  · refine AW.iload_n dX2_isIn_5 rfl rfl ?_
    refine AW.iload_n dX2_isIn_6 rfl rfl ?_
    refine AW.icmp_gt (tgt := 14) dX2_isIn_7 (by decide) rfl (fun c2 => ?_) (fun c2 => ?_)
    · refine AW.iconst (v := 0) dX2_isIn_14 (by decide) rfl ?_
      exact AW.bretE dX2_isIn_15 rfl rfl (by simp_all [inI, b2i, hasI, Int32.lt_iff_toInt_lt, Int32.le_iff_toInt_le]; try (intros; omega)) rfl
    · refine AW.iconst (v := 1) dX2_isIn_10 (by decide) rfl ?_
      refine AW.goto (tgt := 15) dX2_isIn_11 (by decide) ?_
      exact AW.bretE dX2_isIn_15 rfl rfl (by simp_all [inI, b2i, hasI, Int32.lt_iff_toInt_lt, Int32.le_iff_toInt_le]; try (intros; omega)) rfl
theorem r_X2_has {h : AH} (x k : Int32) : Run 1 mX2_has [.int x, .int k] h (.inl (some (.int (b2i (hasI x k))))) h := by
  refine Run.of rfl (Nat.le_of_ble_eq_true rfl) rfl ?_
  refine AW.iload_n dX2_has_0 rfl rfl ?_
  refine AW.iload_n dX2_has_1 rfl rfl ?_
  refine AW.ishr dX2_has_2 rfl ?_
  refine AW.iconst (v := 1) dX2_has_3 (by decide) rfl ?_
  refine AW.iand dX2_has_4 rfl ?_
  refine AW.iconst (v := 1) dX2_has_5 (by decide) rfl ?_
  refine AW.icmp_ne (tgt := 13) dX2_has_6 (by decide) rfl (fun c1 => ?_) (fun c1 => ?_)
  · refine AW.iconst (v := 0) dX2_has_13 (by decide) rfl ?_
    exact AW.bretE dX2_has_14 rfl rfl (by simp_all [inI, b2i, hasI, Int32.lt_iff_toInt_lt, Int32.le_iff_toInt_le]; try (intros; omega)) rfl
  · refine AW.iconst (v := 1) dX2_has_9 (by decide) rfl ?_
    refine AW.goto (tgt := 14) dX2_has_10 (by decide) ?_
    exact AW.bretE dX2_has_14 rfl rfl (by simp_all [inI, b2i, hasI, Int32.lt_iff_toInt_lt, Int32.le_iff_toInt_le]; try (intros; omega)) rfl
theorem r_X2_isHouse {s : Sg} (h : Int32) : Run 2 mX2_isHouse [.ref 625, .int h] (hp s) (.inl (some (.int (b2i ((vwM (s.A 626)).hou h))))) (hp s) := by
  refine Run.of rfl (Nat.le_of_ble_eq_true rfl) rfl ?_
  refine AW.iload_n dX2_isHouse_0 rfl rfl ?_
  refine AW.iconst (v := 0) dX2_isHouse_1 (by decide) rfl ?_
  refine AW.aload_n dX2_isHouse_2 rfl rfl ?_
  refine AW.get ci2 0 (by decide) q1351 dX2_isHouse_3 gM rfl rfl ?_
  refine AW.iconst (v := 0) dX2_isHouse_6 (by decide) rfl ?_
  refine AW.iald dX2_isHouse_7 g626 (vp_in_iff.mpr (by decide)) (j := 0) (by decide) rfl ?_
  refine AW.iconst (v := 1) dX2_isHouse_8 (by decide) rfl ?_
  refine AW.isub dX2_isHouse_9 rfl ?_
  refine AW.callS (Y := mX2_isIn) (n := 3) (r_X2_isIn _ _ _) (by decide) (by decide) q1466 q1467 q141 q1468 dX2_isHouse_10 (by decide +kernel) rfl rfl (Nat.le_of_ble_eq_true rfl) rfl ?_
  exact AW.bretE dX2_isHouse_13 rfl rfl rfl rfl
theorem r_X2_get {s : Sg} (h w : Int32) (hi : vp_in (12 + 8 * h + w) 2308) : Run 1 mX2_get [.ref 625, .int h, .int w] (hp s) (.inl (some (.int (gtM (s.A 626) h w)))) (hp s) := by
  refine Run.of rfl (Nat.le_of_ble_eq_true rfl) rfl ?_
  refine AW.aload_n dX2_get_0 rfl rfl ?_
  refine AW.get ci2 0 (by decide) q1351 dX2_get_1 gM rfl rfl ?_
  refine AW.bipush (v := 12) dX2_get_4 (by decide) rfl ?_
  refine AW.bipush (v := 8) dX2_get_6 (by decide) rfl ?_
  refine AW.iload_n dX2_get_8 rfl rfl ?_
  refine AW.imul dX2_get_9 rfl ?_
  refine AW.iadd dX2_get_10 rfl ?_
  refine AW.iload_n dX2_get_11 rfl rfl ?_
  refine AW.iadd dX2_get_12 rfl ?_
  refine AW.iald dX2_get_13 g626 hi rfl rfl ?_
  exact AW.iretE dX2_get_14 rfl rfl rfl rfl
theorem r_X2_put {s : Sg} (h w v : Int32) (hi : vp_in (12 + 8 * h + w) 2308) : Run 1 mX2_put [.ref 625, .int h, .int w, .int v] (hp s) (.inl none) (hp (s.setA 626 (up (s.A 626) (cI (12 + 8 * h + w)) v))) := by
  refine Run.of rfl (Nat.le_of_ble_eq_true rfl) rfl ?_
  refine AW.aload_n dX2_put_0 rfl rfl ?_
  refine AW.get ci2 0 (by decide) q1351 dX2_put_1 gM rfl rfl ?_
  refine AW.bipush (v := 12) dX2_put_4 (by decide) rfl ?_
  refine AW.bipush (v := 8) dX2_put_6 (by decide) rfl ?_
  refine AW.iload_n dX2_put_8 rfl rfl ?_
  refine AW.imul dX2_put_9 rfl ?_
  refine AW.iadd dX2_put_10 rfl ?_
  refine AW.iload_n dX2_put_11 rfl rfl ?_
  refine AW.iadd dX2_put_12 rfl ?_
  refine AW.iload_n dX2_put_13 rfl rfl ?_
  refine AW.iast dX2_put_14 (by decide) g626 hi rfl s626 rfl ?_
  exact AW.vretE dX2_put_15 rfl rfl rfl
theorem r_X2_isHere {s : Sg} (hn : (vwM (s.A 626)).ok) (h : Int32) : Run 3 mX2_isHere [.ref 625, .int h] (hp s) (.inl (some (.int (b2i ((vwM (s.A 626)).her h))))) (hp s) := by
  refine Run.of rfl (Nat.le_of_ble_eq_true rfl) rfl ?_
  refine AW.aload_n dX2_isHere_0 rfl rfl ?_
  refine AW.iload_n dX2_isHere_1 rfl rfl ?_
  refine AW.callV (Y := mX2_isHouse) (n := 1) (r_X2_isHouse _) (by decide) (by decide) rfl gM q1653 q1655 qs92 q141 q1656 dX2_isHere_2 (by decide +kernel) rfl rfl (Nat.le_of_ble_eq_true rfl) rfl ?_
  refine AW.if_eqB (tgt := 21) dX2_isHere_5 (by decide) rfl (fun c5 => ?_) (fun c5 => ?_)
  · refine AW.iconst (v := 0) dX2_isHere_21 (by decide) rfl ?_
    exact AW.bretE dX2_isHere_22 rfl rfl (by first | (simp [Vw.her, c5, b2i]; done) | (simp [Vw.her, vwM_go c5, c5, c14, b2i]; done)) rfl
  · refine AW.aload_n dX2_isHere_8 rfl rfl ?_
    refine AW.iload_n dX2_isHere_9 rfl rfl ?_
    refine AW.iconst (v := 3) dX2_isHere_10 (by decide) rfl ?_
    refine AW.callV (Y := mX2_get) (n := 2) (r_X2_get _ _ (in_get hn c5 (by decide) (by decide))) (by decide) (by decide) rfl gM q1477 q1479 qs63 q141 q1480 dX2_isHere_11 (by decide +kernel) rfl rfl (Nat.le_of_ble_eq_true rfl) rfl ?_
    refine AW.if_ne (tgt := 21) dX2_isHere_14 (by decide) rfl (fun c14 => ?_) (fun c14 => ?_)
    · refine AW.iconst (v := 0) dX2_isHere_21 (by decide) rfl ?_
      exact AW.bretE dX2_isHere_22 rfl rfl (by first | (simp [Vw.her, c5, b2i]; done) | (simp [Vw.her, vwM_go c5, c5, c14, b2i]; done)) rfl
    · refine AW.iconst (v := 1) dX2_isHere_17 (by decide) rfl ?_
      refine AW.goto (tgt := 22) dX2_isHere_18 (by decide) ?_
      exact AW.bretE dX2_isHere_22 rfl rfl (by first | (simp [Vw.her, c5, b2i]; done) | (simp [Vw.her, vwM_go c5, c5, c14, b2i]; done)) rfl
theorem r_X2_isOpen {s : Sg} (hn : (vwM (s.A 626)).ok) (h dt : Int32) : Run 4 mX2_isOpen [.ref 625, .int h, .int dt] (hp s) (.inl (some (.int (b2i ((vwM (s.A 626)).opn h dt))))) (hp s) := by
  refine Run.of rfl (Nat.le_of_ble_eq_true rfl) rfl ?_
  refine AW.aload_n dX2_isOpen_0 rfl rfl ?_
  refine AW.iload_n dX2_isOpen_1 rfl rfl ?_
  refine AW.callV (Y := mX2_isHere) (n := 1) (r_X2_isHere hn _) (by decide) (by decide) rfl gM q1649 q1651 qs91 q141 q1652 dX2_isOpen_2 (by decide +kernel) rfl rfl (Nat.le_of_ble_eq_true rfl) rfl ?_
  refine AW.if_eqB (tgt := 25) dX2_isOpen_5 (by decide) rfl (fun c5 => ?_) (fun c5 => ?_)
  · refine AW.iconst (v := 0) dX2_isOpen_25 (by decide) rfl ?_
    exact AW.bretE dX2_isOpen_26 rfl rfl (by first | (simp [Vw.opn, c5, b2i]; done) | (simp [Vw.opn, vwM_sh (Vw.her_hou c5), c5, c14, b2i]; done)) rfl
  · refine AW.aload_n dX2_isOpen_8 rfl rfl ?_
    refine AW.iload_n dX2_isOpen_9 rfl rfl ?_
    refine AW.iconst (v := 0) dX2_isOpen_10 (by decide) rfl ?_
    refine AW.callV (Y := mX2_get) (n := 2) (r_X2_get _ _ (in_get hn (Vw.her_hou c5) (by decide) (by decide))) (by decide) (by decide) rfl gM q1477 q1479 qs63 q141 q1480 dX2_isOpen_11 (by decide +kernel) rfl rfl (Nat.le_of_ble_eq_true rfl) rfl ?_
    refine AW.iload_n dX2_isOpen_14 rfl rfl ?_
    refine AW.callS (Y := mX2_has) (n := 2) (r_X2_has _ _) (by decide) (by decide) q1547 q1548 q141 q1549 dX2_isOpen_15 (by decide +kernel) rfl rfl (Nat.le_of_ble_eq_true rfl) rfl ?_
    refine AW.if_neB (tgt := 25) dX2_isOpen_18 (by decide) rfl (fun c14 => ?_) (fun c14 => ?_)
    · refine AW.iconst (v := 0) dX2_isOpen_25 (by decide) rfl ?_
      exact AW.bretE dX2_isOpen_26 rfl rfl (by first | (simp [Vw.opn, c5, b2i]; done) | (simp [Vw.opn, vwM_sh (Vw.her_hou c5), c5, c14, b2i]; done)) rfl
    · refine AW.iconst (v := 1) dX2_isOpen_21 (by decide) rfl ?_
      refine AW.goto (tgt := 26) dX2_isOpen_22 (by decide) ?_
      exact AW.bretE dX2_isOpen_26 rfl rfl (by first | (simp [Vw.opn, c5, b2i]; done) | (simp [Vw.opn, vwM_sh (Vw.her_hou c5), c5, c14, b2i]; done)) rfl
theorem r_X2_date {s : Sg} : Run 1 mX2_date [.ref 625] (hp s) (.inl (some (.int (s.A 626 8 % 20)))) (hp s) := by
  refine Run.of rfl (Nat.le_of_ble_eq_true rfl) rfl ?_
  refine AW.aload_n dX2_date_0 rfl rfl ?_
  refine AW.get ci2 0 (by decide) q1351 dX2_date_1 gM rfl rfl ?_
  refine AW.bipush (v := 8) dX2_date_4 (by decide) rfl ?_
  refine AW.iald dX2_date_6 g626 (vp_in_iff.mpr (by decide)) (j := 8) (by decide) rfl ?_
  refine AW.bipush (v := 20) dX2_date_7 (by decide) rfl ?_
  refine AW.irem dX2_date_9 (by decide) rfl ?_
  exact AW.iretE dX2_date_10 rfl rfl rfl rfl
theorem r_X2_openOn {s : Sg} (hn : (vwM (s.A 626)).ok) (dt : Int32) : Run 5 mX2_openOn [.ref 625, .int dt] (hp s) (.inl (some (.int ((vwM (s.A 626)).openOn dt)))) (hp s) := by
  refine Run.of rfl (Nat.le_of_ble_eq_true rfl) rfl ?_
  refine AW.iconst (v := 0) dX2_openOn_0 (by decide) rfl ?_
  refine AW.istore_n (i := 2) dX2_openOn_1 rfl rfl (Nat.le_of_ble_eq_true rfl) rfl rfl ?_
  refine AW.iconst (v := 0) dX2_openOn_2 (by decide) rfl ?_
  refine AW.istore_n (i := 3) dX2_openOn_3 rfl rfl (Nat.le_of_ble_eq_true rfl) rfl rfl ?_
  refine loopUp (P := fun k => AW 5 mX2_openOn (hp s) 4 [some (.ref 625), some (.int dt), some (.int (sumUp (fun k => b2i ((vwM (s.A 626)).opn (nI k) dt)) k)), some (.int (nI k))] [] (.inl (some (.int ((vwM (s.A 626)).openOn dt)))) (hp s)) (vwM (s.A 626)).n ?_ ?_ 0 (by first | exact Nat.zero_le _ | omega)
  · refine AW.iload_n dX2_openOn_4 rfl rfl ?_
    refine AW.aload_n dX2_openOn_5 rfl rfl ?_
    refine AW.get ci2 0 (by decide) q1351 dX2_openOn_6 gM rfl rfl ?_
    refine AW.iconst (v := 0) dX2_openOn_9 (by decide) rfl ?_
    refine AW.iald dX2_openOn_10 g626 (vp_in_iff.mpr (by decide)) (j := 0) (by decide) rfl ?_
    refine AW.icmp_ge (tgt := 37) dX2_openOn_11 (by decide) rfl (fun _ => ?_) (fun c_ => by first | exact absurd c_ (loop_end (by have := Vw.n7 hn; omega) (Vw.nN hn)) | exact absurd (loop_end (by have := Vw.n7 hn; omega) (Vw.nN hn)) c_ | exact absurd c_ (not_not_intro (loop_end (by have := Vw.n7 hn; omega) (Vw.nN hn))) | exact Bool.noConfusion (c_.symm.trans (loop_end (by have := Vw.n7 hn; omega) (Vw.nN hn))))
    refine AW.iload_n dX2_openOn_37 rfl rfl ?_
    exact AW.iretE dX2_openOn_38 rfl rfl rfl rfl
  · intro k hk ihk
    refine AW.iload_n dX2_openOn_4 rfl rfl ?_
    refine AW.aload_n dX2_openOn_5 rfl rfl ?_
    refine AW.get ci2 0 (by decide) q1351 dX2_openOn_6 gM rfl rfl ?_
    refine AW.iconst (v := 0) dX2_openOn_9 (by decide) rfl ?_
    refine AW.iald dX2_openOn_10 g626 (vp_in_iff.mpr (by decide)) (j := 0) (by decide) rfl ?_
    refine AW.icmp_ge (tgt := 37) dX2_openOn_11 (by decide) rfl (fun c_ => by first | exact absurd c_ (loop_in hk (by have := Vw.n7 hn; omega) (Vw.nN hn)) | exact absurd (loop_in hk (by have := Vw.n7 hn; omega) (Vw.nN hn)) c_ | exact Bool.noConfusion (c_.symm.trans (loop_in hk (by have := Vw.n7 hn; omega) (Vw.nN hn)))) (fun _ => ?_)
    refine AW.iload_n dX2_openOn_14 rfl rfl ?_
    refine AW.aload_n dX2_openOn_15 rfl rfl ?_
    refine AW.iload_n dX2_openOn_16 rfl rfl ?_
    refine AW.iload_n dX2_openOn_17 rfl rfl ?_
    refine AW.callV (Y := mX2_isOpen) (n := 2) (r_X2_isOpen hn _ _) (by decide) (by decide) rfl gM q1692 q1694 qs101 q141 q1695 dX2_openOn_18 (by decide +kernel) rfl rfl (Nat.le_of_ble_eq_true rfl) rfl ?_
    refine AW.if_eqB (tgt := 28) dX2_openOn_21 (by decide) rfl (fun c => ?_) (fun c => ?_)
    · refine AW.iconst (v := 0) dX2_openOn_28 (by decide) rfl ?_
      refine AW.iadd dX2_openOn_29 rfl ?_
      refine AW.istore_n (i := 2) dX2_openOn_30 rfl rfl (Nat.le_of_ble_eq_true rfl) rfl rfl ?_
      refine AW.iinc (v := 1) dX2_openOn_31 rfl (by decide) rfl rfl rfl ?_
      refine AW.goto (tgt := 4) dX2_openOn_34 (by decide) ?_
      exact AW.ls (by simp [sumUp, nI_succ, c, b2i]) ihk
    · refine AW.iconst (v := 1) dX2_openOn_24 (by decide) rfl ?_
      refine AW.goto (tgt := 29) dX2_openOn_25 (by decide) ?_
      refine AW.iadd dX2_openOn_29 rfl ?_
      refine AW.istore_n (i := 2) dX2_openOn_30 rfl rfl (Nat.le_of_ble_eq_true rfl) rfl rfl ?_
      refine AW.iinc (v := 1) dX2_openOn_31 rfl (by decide) rfl rfl rfl ?_
      refine AW.goto (tgt := 4) dX2_openOn_34 (by decide) ?_
      exact AW.ls (by simp [sumUp, nI_succ, c, b2i]) ihk
theorem r_X2_besideOn {s : Sg} (hn : (vwM (s.A 626)).ok) (h dt : Int32) : Run 5 mX2_besideOn [.ref 625, .int h, .int dt] (hp s) (.inl (some (.int ((vwM (s.A 626)).beside h dt)))) (hp s) := by
  refine Run.of rfl (Nat.le_of_ble_eq_true rfl) rfl ?_
  refine AW.aload_n dX2_besideOn_0 rfl rfl ?_
  refine AW.iload_n dX2_besideOn_1 rfl rfl ?_
  refine AW.iconst (v := 1) dX2_besideOn_2 (by decide) rfl ?_
  refine AW.isub dX2_besideOn_3 rfl ?_
  refine AW.iload_n dX2_besideOn_4 rfl rfl ?_
  refine AW.callV (Y := mX2_isOpen) (n := 2) (r_X2_isOpen hn _ _) (by decide) (by decide) rfl gM q1692 q1694 qs101 q141 q1695 dX2_besideOn_5 (by decide +kernel) rfl rfl (Nat.le_of_ble_eq_true rfl) rfl ?_
  refine AW.if_eqB (tgt := 15) dX2_besideOn_8 (by decide) rfl (fun c5 => ?_) (fun c5 => ?_)
  · refine AW.iconst (v := 0) dX2_besideOn_15 (by decide) rfl ?_
    refine AW.aload_n dX2_besideOn_16 rfl rfl ?_
    refine AW.iload_n dX2_besideOn_17 rfl rfl ?_
    refine AW.iconst (v := 1) dX2_besideOn_18 (by decide) rfl ?_
    refine AW.iadd dX2_besideOn_19 rfl ?_
    refine AW.iload_n dX2_besideOn_20 rfl rfl ?_
    refine AW.callV (Y := mX2_isOpen) (n := 2) (r_X2_isOpen hn _ _) (by decide) (by decide) rfl gM q1692 q1694 qs101 q141 q1695 dX2_besideOn_21 (by decide +kernel) rfl rfl (Nat.le_of_ble_eq_true rfl) rfl ?_
    refine AW.if_eqB (tgt := 31) dX2_besideOn_24 (by decide) rfl (fun c14 => ?_) (fun c14 => ?_)
    · refine AW.iconst (v := 0) dX2_besideOn_31 (by decide) rfl ?_
      refine AW.iadd dX2_besideOn_32 rfl ?_
      exact AW.iretE dX2_besideOn_33 rfl rfl (by simp [Vw.beside, c5, c14, b2i]) rfl
    · refine AW.iconst (v := 1) dX2_besideOn_27 (by decide) rfl ?_
      refine AW.goto (tgt := 32) dX2_besideOn_28 (by decide) ?_
      refine AW.iadd dX2_besideOn_32 rfl ?_
      exact AW.iretE dX2_besideOn_33 rfl rfl (by simp [Vw.beside, c5, c14, b2i]) rfl
  · refine AW.iconst (v := 1) dX2_besideOn_11 (by decide) rfl ?_
    refine AW.goto (tgt := 16) dX2_besideOn_12 (by decide) ?_
    refine AW.aload_n dX2_besideOn_16 rfl rfl ?_
    refine AW.iload_n dX2_besideOn_17 rfl rfl ?_
    refine AW.iconst (v := 1) dX2_besideOn_18 (by decide) rfl ?_
    refine AW.iadd dX2_besideOn_19 rfl ?_
    refine AW.iload_n dX2_besideOn_20 rfl rfl ?_
    refine AW.callV (Y := mX2_isOpen) (n := 2) (r_X2_isOpen hn _ _) (by decide) (by decide) rfl gM q1692 q1694 qs101 q141 q1695 dX2_besideOn_21 (by decide +kernel) rfl rfl (Nat.le_of_ble_eq_true rfl) rfl ?_
    refine AW.if_eqB (tgt := 31) dX2_besideOn_24 (by decide) rfl (fun c14 => ?_) (fun c14 => ?_)
    · refine AW.iconst (v := 0) dX2_besideOn_31 (by decide) rfl ?_
      refine AW.iadd dX2_besideOn_32 rfl ?_
      exact AW.iretE dX2_besideOn_33 rfl rfl (by simp [Vw.beside, c5, c14, b2i]) rfl
    · refine AW.iconst (v := 1) dX2_besideOn_27 (by decide) rfl ?_
      refine AW.goto (tgt := 32) dX2_besideOn_28 (by decide) ?_
      refine AW.iadd dX2_besideOn_32 rfl ?_
      exact AW.iretE dX2_besideOn_33 rfl rfl (by simp [Vw.beside, c5, c14, b2i]) rfl
