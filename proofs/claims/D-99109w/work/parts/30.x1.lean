/-! SYSTEM 1: questions of houses and of the book (printed by tools/x1.py) -/
set_option maxRecDepth 100000
theorem r_X0_in {h : AH} (v lo hi : Int32) : Run 1 mX0_in [.int v, .int lo, .int hi] h (.inl (some (.int (b2i (inI v lo hi))))) h := by
  refine Run.of rfl (Nat.le_of_ble_eq_true rfl) rfl ?_
  refine AW.iload_n dX0_in_0 rfl rfl ?_
  refine AW.iload_n dX0_in_1 rfl rfl ?_
  refine AW.icmp_lt (tgt := 14) dX0_in_2 (by decide) rfl (fun c1 => ?_) (fun c1 => ?_)
  · refine AW.iconst (v := 0) dX0_in_14 (by decide) rfl ?_
    exact AW.bretE dX0_in_15 rfl rfl (by simp_all [inI, b2i, hasI, Int32.lt_iff_toInt_lt, Int32.le_iff_toInt_le]; try (intros; omega)) rfl
  · refine AW.iload_n dX0_in_5 rfl rfl ?_
    refine AW.iload_n dX0_in_6 rfl rfl ?_
    refine AW.icmp_gt (tgt := 14) dX0_in_7 (by decide) rfl (fun c2 => ?_) (fun c2 => ?_)
    · refine AW.iconst (v := 0) dX0_in_14 (by decide) rfl ?_
      exact AW.bretE dX0_in_15 rfl rfl (by simp_all [inI, b2i, hasI, Int32.lt_iff_toInt_lt, Int32.le_iff_toInt_le]; try (intros; omega)) rfl
    · refine AW.iconst (v := 1) dX0_in_10 (by decide) rfl ?_
      refine AW.goto (tgt := 15) dX0_in_11 (by decide) ?_
      exact AW.bretE dX0_in_15 rfl rfl (by simp_all [inI, b2i, hasI, Int32.lt_iff_toInt_lt, Int32.le_iff_toInt_le]; try (intros; omega)) rfl
theorem r_X0_has {h : AH} (x k : Int32) : Run 1 mX0_has [.int x, .int k] h (.inl (some (.int (b2i (hasI x k))))) h := by
  refine Run.of rfl (Nat.le_of_ble_eq_true rfl) rfl ?_
  refine AW.iload_n dX0_has_0 rfl rfl ?_
  refine AW.iload_n dX0_has_1 rfl rfl ?_
  refine AW.ishr dX0_has_2 rfl ?_
  refine AW.iconst (v := 1) dX0_has_3 (by decide) rfl ?_
  refine AW.iand dX0_has_4 rfl ?_
  refine AW.iconst (v := 1) dX0_has_5 (by decide) rfl ?_
  refine AW.icmp_ne (tgt := 13) dX0_has_6 (by decide) rfl (fun c1 => ?_) (fun c1 => ?_)
  · refine AW.iconst (v := 0) dX0_has_13 (by decide) rfl ?_
    exact AW.bretE dX0_has_14 rfl rfl (by simp_all [inI, b2i, hasI, Int32.lt_iff_toInt_lt, Int32.le_iff_toInt_le]; try (intros; omega)) rfl
  · refine AW.iconst (v := 1) dX0_has_9 (by decide) rfl ?_
    refine AW.goto (tgt := 14) dX0_has_10 (by decide) ?_
    exact AW.bretE dX0_has_14 rfl rfl (by simp_all [inI, b2i, hasI, Int32.lt_iff_toInt_lt, Int32.le_iff_toInt_le]; try (intros; omega)) rfl
theorem r_X0_isHouse {s : Sg} {r : Nat → Int32} (h : Int32) : Run 2 mX0_isHouse [.ref 512, .int h] (hp s) (.inl (some (.int (b2i ((vwS (s.A 514) r).hou h))))) (hp s) := by
  refine Run.of rfl (Nat.le_of_ble_eq_true rfl) rfl ?_
  refine AW.iload_n dX0_isHouse_0 rfl rfl ?_
  refine AW.iconst (v := 0) dX0_isHouse_1 (by decide) rfl ?_
  refine AW.aload_n dX0_isHouse_2 rfl rfl ?_
  refine AW.get ci0 0 (by decide) q229 dX0_isHouse_3 gX rfl rfl ?_
  refine AW.getN ci1 0 (by decide) q191 dX0_isHouse_6 gN rfl rfl ?_
  refine AW.iconst (v := 0) dX0_isHouse_9 (by decide) rfl ?_
  refine AW.iald dX0_isHouse_10 g514 (vp_in_iff.mpr (by decide)) (j := 0) (by decide) rfl ?_
  refine AW.iconst (v := 1) dX0_isHouse_11 (by decide) rfl ?_
  refine AW.isub dX0_isHouse_12 rfl ?_
  refine AW.callS (Y := mX0_in) (n := 3) (r_X0_in _ _ _) (by decide) (by decide) q271 q272 q138 q273 dX0_isHouse_13 (by decide +kernel) rfl rfl (Nat.le_of_ble_eq_true rfl) rfl ?_
  exact AW.bretE dX0_isHouse_16 rfl rfl rfl rfl
theorem r_X0_isDate {h : AH} (v : Int32) : Run 2 mX0_isDate [.int v] h (.inl (some (.int (b2i (inI v 0 19))))) h := by
  refine Run.of rfl (Nat.le_of_ble_eq_true rfl) rfl ?_
  refine AW.iload_n dX0_isDate_0 rfl rfl ?_
  refine AW.iconst (v := 0) dX0_isDate_1 (by decide) rfl ?_
  refine AW.bipush (v := 19) dX0_isDate_2 (by decide) rfl ?_
  refine AW.callS (Y := mX0_in) (n := 3) (r_X0_in _ _ _) (by decide) (by decide) q271 q272 q138 q273 dX0_isDate_4 (by decide +kernel) rfl rfl (Nat.le_of_ble_eq_true rfl) rfl ?_
  exact AW.bretE dX0_isDate_7 rfl rfl rfl rfl
theorem r_X0_isText {s : Sg} (t : Int32) : Run 2 mX0_isText [.ref 512, .int t] (hp s) (.inl (some (.int (b2i (inI t 0 (s.A 514 1 - 1)))))) (hp s) := by
  refine Run.of rfl (Nat.le_of_ble_eq_true rfl) rfl ?_
  refine AW.iload_n dX0_isText_0 rfl rfl ?_
  refine AW.iconst (v := 0) dX0_isText_1 (by decide) rfl ?_
  refine AW.aload_n dX0_isText_2 rfl rfl ?_
  refine AW.get ci0 0 (by decide) q229 dX0_isText_3 gX rfl rfl ?_
  refine AW.getN ci1 0 (by decide) q191 dX0_isText_6 gN rfl rfl ?_
  refine AW.iconst (v := 1) dX0_isText_9 (by decide) rfl ?_
  refine AW.iald dX0_isText_10 g514 (vp_in_iff.mpr (by decide)) (j := 1) (by decide) rfl ?_
  refine AW.iconst (v := 1) dX0_isText_11 (by decide) rfl ?_
  refine AW.isub dX0_isText_12 rfl ?_
  refine AW.callS (Y := mX0_in) (n := 3) (r_X0_in _ _ _) (by decide) (by decide) q271 q272 q138 q273 dX0_isText_13 (by decide +kernel) rfl rfl (Nat.le_of_ble_eq_true rfl) rfl ?_
  exact AW.bretE dX0_isText_16 rfl rfl rfl rfl
theorem r_X0_bitOf {h : AH} (t : Int32) : Run 1 mX0_bitOf [.int t] h (.inl (some (.int (if t = -1 then 0 else bit t)))) h := by
  refine Run.of rfl (Nat.le_of_ble_eq_true rfl) rfl ?_
  refine AW.iload_n dX0_bitOf_0 rfl rfl ?_
  refine AW.iconst (v := (-1)) dX0_bitOf_1 (by decide) rfl ?_
  refine AW.icmp_ne (tgt := 9) dX0_bitOf_2 (by decide) rfl (fun c1 => ?_) (fun c1 => ?_)
  · refine AW.iconst (v := 1) dX0_bitOf_9 (by decide) rfl ?_
    refine AW.iload_n dX0_bitOf_10 rfl rfl ?_
    refine AW.ishl dX0_bitOf_11 rfl ?_
    exact AW.iretE dX0_bitOf_12 rfl rfl (by simp [bit, *]) rfl
  · refine AW.iconst (v := 0) dX0_bitOf_5 (by decide) rfl ?_
    refine AW.goto (tgt := 12) dX0_bitOf_6 (by decide) ?_
    exact AW.iretE dX0_bitOf_12 rfl rfl (by simp [bit, *]) rfl
theorem r_X0_there {s : Sg} : Run 1 mX0_there [.ref 512] (hp s) (.inl (some (.int ((vwS (s.A 514) (s.A 515)).thereI (s.A 515 2))))) (hp s) := by
  refine Run.of rfl (Nat.le_of_ble_eq_true rfl) rfl ?_
  refine AW.iconst (v := 1) dX0_there_0 (by decide) rfl ?_
  refine AW.aload_n dX0_there_1 rfl rfl ?_
  refine AW.get ci0 0 (by decide) q229 dX0_there_2 gX rfl rfl ?_
  refine AW.getN ci1 0 (by decide) q191 dX0_there_5 gN rfl rfl ?_
  refine AW.iconst (v := 0) dX0_there_8 (by decide) rfl ?_
  refine AW.iald dX0_there_9 g514 (vp_in_iff.mpr (by decide)) (j := 0) (by decide) rfl ?_
  refine AW.ishl dX0_there_10 rfl ?_
  refine AW.iconst (v := 1) dX0_there_11 (by decide) rfl ?_
  refine AW.isub dX0_there_12 rfl ?_
  refine AW.aload_n dX0_there_13 rfl rfl ?_
  refine AW.get ci0 0 (by decide) q229 dX0_there_14 gX rfl rfl ?_
  refine AW.getN ci1 1 (by decide) q193 dX0_there_17 gN rfl rfl ?_
  refine AW.iconst (v := 2) dX0_there_20 (by decide) rfl ?_
  refine AW.iald dX0_there_21 g515 (vp_in_iff.mpr (by decide)) (j := 2) (by decide) rfl ?_
  refine AW.iconst (v := (-1)) dX0_there_22 (by decide) rfl ?_
  refine AW.ixor dX0_there_23 rfl ?_
  refine AW.iand dX0_there_24 rfl ?_
  exact AW.iretE dX0_there_25 rfl rfl rfl rfl
theorem r_X0_date {s : Sg} : Run 1 mX0_date [.ref 515] (hp s) (.inl (some (.int (s.A 515 0 % 20)))) (hp s) := by
  refine Run.of rfl (Nat.le_of_ble_eq_true rfl) rfl ?_
  refine AW.aload_n dX0_date_0 rfl rfl ?_
  refine AW.iconst (v := 0) dX0_date_1 (by decide) rfl ?_
  refine AW.iald dX0_date_2 g515 (vp_in_iff.mpr (by decide)) (j := 0) (by decide) rfl ?_
  refine AW.bipush (v := 20) dX0_date_3 (by decide) rfl ?_
  refine AW.irem dX0_date_5 (by decide) rfl ?_
  exact AW.iretE dX0_date_6 rfl rfl rfl rfl
theorem r_X0_isGone {s : Sg} (h : Int32) : Run 2 mX0_isGone [.ref 515, .int h] (hp s) (.inl (some (.int (b2i (hasI (s.A 515 2) h))))) (hp s) := by
  refine Run.of rfl (Nat.le_of_ble_eq_true rfl) rfl ?_
  refine AW.aload_n dX0_isGone_0 rfl rfl ?_
  refine AW.iconst (v := 2) dX0_isGone_1 (by decide) rfl ?_
  refine AW.iald dX0_isGone_2 g515 (vp_in_iff.mpr (by decide)) (j := 2) (by decide) rfl ?_
  refine AW.iload_n dX0_isGone_3 rfl rfl ?_
  refine AW.callS (Y := mX0_has) (n := 2) (r_X0_has _ _) (by decide) (by decide) q867 q868 q138 q869 dX0_isGone_4 (by decide +kernel) rfl rfl (Nat.le_of_ble_eq_true rfl) rfl ?_
  exact AW.bretE dX0_isGone_7 rfl rfl rfl rfl
theorem r_X0_isOpen {s : Sg} (hn : (vwS (s.A 514) (s.A 515)).ok) (h dt : Int32) : Run 3 mX0_isOpen [.ref 512, .ref 515, .int h, .int dt] (hp s) (.inl (some (.int (b2i ((vwS (s.A 514) (s.A 515)).opn h dt))))) (hp s) := by
  refine Run.of rfl (Nat.le_of_ble_eq_true rfl) rfl ?_
  refine AW.aload_n dX0_isOpen_0 rfl rfl ?_
  refine AW.iload_n dX0_isOpen_1 rfl rfl ?_
  refine AW.callV (Y := mX0_isHouse) (n := 1) (r_X0_isHouse (r := s.A 515) _) (by decide) (by decide) rfl gX q895 q897 qs30 q138 q898 dX0_isOpen_2 (by decide +kernel) rfl rfl (Nat.le_of_ble_eq_true rfl) rfl ?_
  refine AW.if_eqB (tgt := 32) dX0_isOpen_5 (by decide) rfl (fun c5 => ?_) (fun c5 => ?_)
  · refine AW.iconst (v := 0) dX0_isOpen_32 (by decide) rfl ?_
    exact AW.bretE dX0_isOpen_33 rfl rfl (by first | (simp [Vw.opn, Vw.her, c5, b2i]; done) | (simp [Vw.opn, Vw.her, vwS_go c5, vwS_sh c5, *, b2i]; done)) rfl
  · refine AW.aload_n dX0_isOpen_8 rfl rfl ?_
    refine AW.iload_n dX0_isOpen_9 rfl rfl ?_
    refine AW.callS (Y := mX0_isGone) (n := 2) (r_X0_isGone _) (by decide) (by decide) q864 q865 q138 q866 dX0_isOpen_10 (by decide +kernel) rfl rfl (Nat.le_of_ble_eq_true rfl) rfl ?_
    refine AW.if_neB (tgt := 32) dX0_isOpen_13 (by decide) rfl (fun c6 => ?_) (fun c6 => ?_)
    · refine AW.iconst (v := 0) dX0_isOpen_32 (by decide) rfl ?_
      exact AW.bretE dX0_isOpen_33 rfl rfl (by first | (simp [Vw.opn, Vw.her, c5, b2i]; done) | (simp [Vw.opn, Vw.her, vwS_go c5, vwS_sh c5, *, b2i]; done)) rfl
    · refine AW.aload_n dX0_isOpen_16 rfl rfl ?_
      refine AW.iconst (v := 3) dX0_isOpen_17 (by decide) rfl ?_
      refine AW.iload_n dX0_isOpen_18 rfl rfl ?_
      refine AW.iadd dX0_isOpen_19 rfl ?_
      refine AW.iald dX0_isOpen_20 g515 (in_row (v := (vwS (s.A 514) (s.A 515))) hn c5 (by decide) (by decide)) rfl rfl ?_
      refine AW.iload_n dX0_isOpen_21 rfl rfl ?_
      refine AW.callS (Y := mX0_has) (n := 2) (r_X0_has _ _) (by decide) (by decide) q867 q868 q138 q869 dX0_isOpen_22 (by decide +kernel) rfl rfl (Nat.le_of_ble_eq_true rfl) rfl ?_
      refine AW.if_neB (tgt := 32) dX0_isOpen_25 (by decide) rfl (fun c7 => ?_) (fun c7 => ?_)
      · refine AW.iconst (v := 0) dX0_isOpen_32 (by decide) rfl ?_
        exact AW.bretE dX0_isOpen_33 rfl rfl (by first | (simp [Vw.opn, Vw.her, c5, b2i]; done) | (simp [Vw.opn, Vw.her, vwS_go c5, vwS_sh c5, *, b2i]; done)) rfl
      · refine AW.iconst (v := 1) dX0_isOpen_28 (by decide) rfl ?_
        refine AW.goto (tgt := 33) dX0_isOpen_29 (by decide) ?_
        exact AW.bretE dX0_isOpen_33 rfl rfl (by first | (simp [Vw.opn, Vw.her, c5, b2i]; done) | (simp [Vw.opn, Vw.her, vwS_go c5, vwS_sh c5, *, b2i]; done)) rfl
theorem r_X0_openOn {s : Sg} (hn : (vwS (s.A 514) (s.A 515)).ok) (dt : Int32) : Run 4 mX0_openOn [.ref 512, .ref 515, .int dt] (hp s) (.inl (some (.int ((vwS (s.A 514) (s.A 515)).openOn dt)))) (hp s) := by
  refine Run.of rfl (Nat.le_of_ble_eq_true rfl) rfl ?_
  refine AW.iconst (v := 0) dX0_openOn_0 (by decide) rfl ?_
  refine AW.istore_n (i := 3) dX0_openOn_1 rfl rfl (Nat.le_of_ble_eq_true rfl) rfl rfl ?_
  refine AW.iconst (v := 0) dX0_openOn_2 (by decide) rfl ?_
  refine AW.istore dX0_openOn_3 rfl (Nat.le_of_ble_eq_true rfl) rfl rfl ?_
  refine loopUp (P := fun k => AW 4 mX0_openOn (hp s) 5 [some (.ref 512), some (.ref 515), some (.int (dt)), some (.int (sumUp (fun k => b2i ((vwS (s.A 514) (s.A 515)).opn (nI k) dt)) k)), some (.int (nI k))] [] (.inl (some (.int ((vwS (s.A 514) (s.A 515)).openOn dt)))) (hp s)) (vwS (s.A 514) (s.A 515)).n ?_ ?_ 0 (by first | exact Nat.zero_le _ | omega)
  · refine AW.iload dX0_openOn_5 rfl rfl ?_
    refine AW.aload_n dX0_openOn_7 rfl rfl ?_
    refine AW.get ci0 0 (by decide) q229 dX0_openOn_8 gX rfl rfl ?_
    refine AW.getN ci1 0 (by decide) q191 dX0_openOn_11 gN rfl rfl ?_
    refine AW.iconst (v := 0) dX0_openOn_14 (by decide) rfl ?_
    refine AW.iald dX0_openOn_15 g514 (vp_in_iff.mpr (by decide)) (j := 0) (by decide) rfl ?_
    refine AW.icmp_ge (tgt := 44) dX0_openOn_16 (by decide) rfl (fun _ => ?_) (fun c => by first | exact absurd c (loop_end (by have := Vw.n7 hn; omega) (Vw.nN hn)) | exact absurd (loop_end (by have := Vw.n7 hn; omega) (Vw.nN hn)) c | exact absurd c (not_not_intro (loop_end (by have := Vw.n7 hn; omega) (Vw.nN hn))) | exact Bool.noConfusion (c.symm.trans (loop_end (by have := Vw.n7 hn; omega) (Vw.nN hn))))
    refine AW.iload_n dX0_openOn_44 rfl rfl ?_
    exact AW.iretE dX0_openOn_45 rfl rfl rfl rfl
  · intro k hk ihk
    refine AW.iload dX0_openOn_5 rfl rfl ?_
    refine AW.aload_n dX0_openOn_7 rfl rfl ?_
    refine AW.get ci0 0 (by decide) q229 dX0_openOn_8 gX rfl rfl ?_
    refine AW.getN ci1 0 (by decide) q191 dX0_openOn_11 gN rfl rfl ?_
    refine AW.iconst (v := 0) dX0_openOn_14 (by decide) rfl ?_
    refine AW.iald dX0_openOn_15 g514 (vp_in_iff.mpr (by decide)) (j := 0) (by decide) rfl ?_
    refine AW.icmp_ge (tgt := 44) dX0_openOn_16 (by decide) rfl (fun c => by first | exact absurd c (loop_in hk (by have := Vw.n7 hn; omega) (Vw.nN hn)) | exact absurd (loop_in hk (by have := Vw.n7 hn; omega) (Vw.nN hn)) c | exact Bool.noConfusion (c.symm.trans (loop_in hk (by have := Vw.n7 hn; omega) (Vw.nN hn)))) (fun _ => ?_)
    refine AW.iload_n dX0_openOn_19 rfl rfl ?_
    refine AW.aload_n dX0_openOn_20 rfl rfl ?_
    refine AW.aload_n dX0_openOn_21 rfl rfl ?_
    refine AW.iload dX0_openOn_22 rfl rfl ?_
    refine AW.iload_n dX0_openOn_24 rfl rfl ?_
    refine AW.callV (Y := mX0_isOpen) (n := 3) (r_X0_isOpen hn _ _) (by decide) (by decide) rfl gX q891 q893 qs29 q138 q894 dX0_openOn_25 (by decide +kernel) rfl rfl (Nat.le_of_ble_eq_true rfl) rfl ?_
    refine AW.if_eqB (tgt := 35) dX0_openOn_28 (by decide) rfl (fun c => ?_) (fun c => ?_)
    · refine AW.iconst (v := 0) dX0_openOn_35 (by decide) rfl ?_
      refine AW.iadd dX0_openOn_36 rfl ?_
      refine AW.istore_n (i := 3) dX0_openOn_37 rfl rfl (Nat.le_of_ble_eq_true rfl) rfl rfl ?_
      refine AW.iinc (v := 1) dX0_openOn_38 rfl (by decide) rfl rfl rfl ?_
      refine AW.goto (tgt := 5) dX0_openOn_41 (by decide) ?_
      exact AW.ls (by simp [sumUp, nI_succ, c, b2i]) ihk
    · refine AW.iconst (v := 1) dX0_openOn_31 (by decide) rfl ?_
      refine AW.goto (tgt := 36) dX0_openOn_32 (by decide) ?_
      refine AW.iadd dX0_openOn_36 rfl ?_
      refine AW.istore_n (i := 3) dX0_openOn_37 rfl rfl (Nat.le_of_ble_eq_true rfl) rfl rfl ?_
      refine AW.iinc (v := 1) dX0_openOn_38 rfl (by decide) rfl rfl rfl ?_
      refine AW.goto (tgt := 5) dX0_openOn_41 (by decide) ?_
      exact AW.ls (by simp [sumUp, nI_succ, c, b2i]) ihk
theorem r_X0_besideOf {s : Sg} (hn : (vwS (s.A 514) (s.A 515)).ok) (h dt : Int32) : Run 4 mX0_besideOf [.ref 512, .ref 515, .int h, .int dt] (hp s) (.inl (some (.int ((vwS (s.A 514) (s.A 515)).beside h dt)))) (hp s) := by
  refine Run.of rfl (Nat.le_of_ble_eq_true rfl) rfl ?_
  refine AW.aload_n dX0_besideOf_0 rfl rfl ?_
  refine AW.aload_n dX0_besideOf_1 rfl rfl ?_
  refine AW.iload_n dX0_besideOf_2 rfl rfl ?_
  refine AW.iconst (v := 1) dX0_besideOf_3 (by decide) rfl ?_
  refine AW.isub dX0_besideOf_4 rfl ?_
  refine AW.iload_n dX0_besideOf_5 rfl rfl ?_
  refine AW.callV (Y := mX0_isOpen) (n := 3) (r_X0_isOpen hn _ _) (by decide) (by decide) rfl gX q891 q893 qs29 q138 q894 dX0_besideOf_6 (by decide +kernel) rfl rfl (Nat.le_of_ble_eq_true rfl) rfl ?_
  refine AW.if_eqB (tgt := 16) dX0_besideOf_9 (by decide) rfl (fun c5 => ?_) (fun c5 => ?_)
  · refine AW.iconst (v := 0) dX0_besideOf_16 (by decide) rfl ?_
    refine AW.aload_n dX0_besideOf_17 rfl rfl ?_
    refine AW.aload_n dX0_besideOf_18 rfl rfl ?_
    refine AW.iload_n dX0_besideOf_19 rfl rfl ?_
    refine AW.iconst (v := 1) dX0_besideOf_20 (by decide) rfl ?_
    refine AW.iadd dX0_besideOf_21 rfl ?_
    refine AW.iload_n dX0_besideOf_22 rfl rfl ?_
    refine AW.callV (Y := mX0_isOpen) (n := 3) (r_X0_isOpen hn _ _) (by decide) (by decide) rfl gX q891 q893 qs29 q138 q894 dX0_besideOf_23 (by decide +kernel) rfl rfl (Nat.le_of_ble_eq_true rfl) rfl ?_
    refine AW.if_eqB (tgt := 33) dX0_besideOf_26 (by decide) rfl (fun c14 => ?_) (fun c14 => ?_)
    · refine AW.iconst (v := 0) dX0_besideOf_33 (by decide) rfl ?_
      refine AW.iadd dX0_besideOf_34 rfl ?_
      exact AW.iretE dX0_besideOf_35 rfl rfl (by simp [Vw.beside, c5, c14, b2i]) rfl
    · refine AW.iconst (v := 1) dX0_besideOf_29 (by decide) rfl ?_
      refine AW.goto (tgt := 34) dX0_besideOf_30 (by decide) ?_
      refine AW.iadd dX0_besideOf_34 rfl ?_
      exact AW.iretE dX0_besideOf_35 rfl rfl (by simp [Vw.beside, c5, c14, b2i]) rfl
  · refine AW.iconst (v := 1) dX0_besideOf_12 (by decide) rfl ?_
    refine AW.goto (tgt := 17) dX0_besideOf_13 (by decide) ?_
    refine AW.aload_n dX0_besideOf_17 rfl rfl ?_
    refine AW.aload_n dX0_besideOf_18 rfl rfl ?_
    refine AW.iload_n dX0_besideOf_19 rfl rfl ?_
    refine AW.iconst (v := 1) dX0_besideOf_20 (by decide) rfl ?_
    refine AW.iadd dX0_besideOf_21 rfl ?_
    refine AW.iload_n dX0_besideOf_22 rfl rfl ?_
    refine AW.callV (Y := mX0_isOpen) (n := 3) (r_X0_isOpen hn _ _) (by decide) (by decide) rfl gX q891 q893 qs29 q138 q894 dX0_besideOf_23 (by decide +kernel) rfl rfl (Nat.le_of_ble_eq_true rfl) rfl ?_
    refine AW.if_eqB (tgt := 33) dX0_besideOf_26 (by decide) rfl (fun c14 => ?_) (fun c14 => ?_)
    · refine AW.iconst (v := 0) dX0_besideOf_33 (by decide) rfl ?_
      refine AW.iadd dX0_besideOf_34 rfl ?_
      exact AW.iretE dX0_besideOf_35 rfl rfl (by simp [Vw.beside, c5, c14, b2i]) rfl
    · refine AW.iconst (v := 1) dX0_besideOf_29 (by decide) rfl ?_
      refine AW.goto (tgt := 34) dX0_besideOf_30 (by decide) ?_
      refine AW.iadd dX0_besideOf_34 rfl ?_
      exact AW.iretE dX0_besideOf_35 rfl rfl (by simp [Vw.beside, c5, c14, b2i]) rfl
theorem r_X0_date_t {s : Sg} : Run 1 mX0_date [.ref 621] (hp s) (.inl (some (.int (s.A 621 0 % 20)))) (hp s) := by
  refine Run.of rfl (Nat.le_of_ble_eq_true rfl) rfl ?_
  refine AW.aload_n dX0_date_0 rfl rfl ?_
  refine AW.iconst (v := 0) dX0_date_1 (by decide) rfl ?_
  refine AW.iald dX0_date_2 g621 (vp_in_iff.mpr (by decide)) (j := 0) (by decide) rfl ?_
  refine AW.bipush (v := 20) dX0_date_3 (by decide) rfl ?_
  refine AW.irem dX0_date_5 (by decide) rfl ?_
  exact AW.iretE dX0_date_6 rfl rfl rfl rfl
theorem r_X0_isGone_t {s : Sg} (h : Int32) : Run 2 mX0_isGone [.ref 621, .int h] (hp s) (.inl (some (.int (b2i (hasI (s.A 621 2) h))))) (hp s) := by
  refine Run.of rfl (Nat.le_of_ble_eq_true rfl) rfl ?_
  refine AW.aload_n dX0_isGone_0 rfl rfl ?_
  refine AW.iconst (v := 2) dX0_isGone_1 (by decide) rfl ?_
  refine AW.iald dX0_isGone_2 g621 (vp_in_iff.mpr (by decide)) (j := 2) (by decide) rfl ?_
  refine AW.iload_n dX0_isGone_3 rfl rfl ?_
  refine AW.callS (Y := mX0_has) (n := 2) (r_X0_has _ _) (by decide) (by decide) q867 q868 q138 q869 dX0_isGone_4 (by decide +kernel) rfl rfl (Nat.le_of_ble_eq_true rfl) rfl ?_
  exact AW.bretE dX0_isGone_7 rfl rfl rfl rfl
theorem r_X0_isOpen_t {s : Sg} (hn : (vwS (s.A 514) (s.A 621)).ok) (h dt : Int32) : Run 3 mX0_isOpen [.ref 512, .ref 621, .int h, .int dt] (hp s) (.inl (some (.int (b2i ((vwS (s.A 514) (s.A 621)).opn h dt))))) (hp s) := by
  refine Run.of rfl (Nat.le_of_ble_eq_true rfl) rfl ?_
  refine AW.aload_n dX0_isOpen_0 rfl rfl ?_
  refine AW.iload_n dX0_isOpen_1 rfl rfl ?_
  refine AW.callV (Y := mX0_isHouse) (n := 1) (r_X0_isHouse (r := s.A 621) _) (by decide) (by decide) rfl gX q895 q897 qs30 q138 q898 dX0_isOpen_2 (by decide +kernel) rfl rfl (Nat.le_of_ble_eq_true rfl) rfl ?_
  refine AW.if_eqB (tgt := 32) dX0_isOpen_5 (by decide) rfl (fun c5 => ?_) (fun c5 => ?_)
  · refine AW.iconst (v := 0) dX0_isOpen_32 (by decide) rfl ?_
    exact AW.bretE dX0_isOpen_33 rfl rfl (by first | (simp [Vw.opn, Vw.her, c5, b2i]; done) | (simp [Vw.opn, Vw.her, vwS_go c5, vwS_sh c5, *, b2i]; done)) rfl
  · refine AW.aload_n dX0_isOpen_8 rfl rfl ?_
    refine AW.iload_n dX0_isOpen_9 rfl rfl ?_
    refine AW.callS (Y := mX0_isGone) (n := 2) (r_X0_isGone_t _) (by decide) (by decide) q864 q865 q138 q866 dX0_isOpen_10 (by decide +kernel) rfl rfl (Nat.le_of_ble_eq_true rfl) rfl ?_
    refine AW.if_neB (tgt := 32) dX0_isOpen_13 (by decide) rfl (fun c6 => ?_) (fun c6 => ?_)
    · refine AW.iconst (v := 0) dX0_isOpen_32 (by decide) rfl ?_
      exact AW.bretE dX0_isOpen_33 rfl rfl (by first | (simp [Vw.opn, Vw.her, c5, b2i]; done) | (simp [Vw.opn, Vw.her, vwS_go c5, vwS_sh c5, *, b2i]; done)) rfl
    · refine AW.aload_n dX0_isOpen_16 rfl rfl ?_
      refine AW.iconst (v := 3) dX0_isOpen_17 (by decide) rfl ?_
      refine AW.iload_n dX0_isOpen_18 rfl rfl ?_
      refine AW.iadd dX0_isOpen_19 rfl ?_
      refine AW.iald dX0_isOpen_20 g621 (in_row (v := (vwS (s.A 514) (s.A 621))) hn c5 (by decide) (by decide)) rfl rfl ?_
      refine AW.iload_n dX0_isOpen_21 rfl rfl ?_
      refine AW.callS (Y := mX0_has) (n := 2) (r_X0_has _ _) (by decide) (by decide) q867 q868 q138 q869 dX0_isOpen_22 (by decide +kernel) rfl rfl (Nat.le_of_ble_eq_true rfl) rfl ?_
      refine AW.if_neB (tgt := 32) dX0_isOpen_25 (by decide) rfl (fun c7 => ?_) (fun c7 => ?_)
      · refine AW.iconst (v := 0) dX0_isOpen_32 (by decide) rfl ?_
        exact AW.bretE dX0_isOpen_33 rfl rfl (by first | (simp [Vw.opn, Vw.her, c5, b2i]; done) | (simp [Vw.opn, Vw.her, vwS_go c5, vwS_sh c5, *, b2i]; done)) rfl
      · refine AW.iconst (v := 1) dX0_isOpen_28 (by decide) rfl ?_
        refine AW.goto (tgt := 33) dX0_isOpen_29 (by decide) ?_
        exact AW.bretE dX0_isOpen_33 rfl rfl (by first | (simp [Vw.opn, Vw.her, c5, b2i]; done) | (simp [Vw.opn, Vw.her, vwS_go c5, vwS_sh c5, *, b2i]; done)) rfl
theorem r_X0_openOn_t {s : Sg} (hn : (vwS (s.A 514) (s.A 621)).ok) (dt : Int32) : Run 4 mX0_openOn [.ref 512, .ref 621, .int dt] (hp s) (.inl (some (.int ((vwS (s.A 514) (s.A 621)).openOn dt)))) (hp s) := by
  refine Run.of rfl (Nat.le_of_ble_eq_true rfl) rfl ?_
  refine AW.iconst (v := 0) dX0_openOn_0 (by decide) rfl ?_
  refine AW.istore_n (i := 3) dX0_openOn_1 rfl rfl (Nat.le_of_ble_eq_true rfl) rfl rfl ?_
  refine AW.iconst (v := 0) dX0_openOn_2 (by decide) rfl ?_
  refine AW.istore dX0_openOn_3 rfl (Nat.le_of_ble_eq_true rfl) rfl rfl ?_
  refine loopUp (P := fun k => AW 4 mX0_openOn (hp s) 5 [some (.ref 512), some (.ref 621), some (.int (dt)), some (.int (sumUp (fun k => b2i ((vwS (s.A 514) (s.A 621)).opn (nI k) dt)) k)), some (.int (nI k))] [] (.inl (some (.int ((vwS (s.A 514) (s.A 621)).openOn dt)))) (hp s)) (vwS (s.A 514) (s.A 621)).n ?_ ?_ 0 (by first | exact Nat.zero_le _ | omega)
  · refine AW.iload dX0_openOn_5 rfl rfl ?_
    refine AW.aload_n dX0_openOn_7 rfl rfl ?_
    refine AW.get ci0 0 (by decide) q229 dX0_openOn_8 gX rfl rfl ?_
    refine AW.getN ci1 0 (by decide) q191 dX0_openOn_11 gN rfl rfl ?_
    refine AW.iconst (v := 0) dX0_openOn_14 (by decide) rfl ?_
    refine AW.iald dX0_openOn_15 g514 (vp_in_iff.mpr (by decide)) (j := 0) (by decide) rfl ?_
    refine AW.icmp_ge (tgt := 44) dX0_openOn_16 (by decide) rfl (fun _ => ?_) (fun c => by first | exact absurd c (loop_end (by have := Vw.n7 hn; omega) (Vw.nN hn)) | exact absurd (loop_end (by have := Vw.n7 hn; omega) (Vw.nN hn)) c | exact absurd c (not_not_intro (loop_end (by have := Vw.n7 hn; omega) (Vw.nN hn))) | exact Bool.noConfusion (c.symm.trans (loop_end (by have := Vw.n7 hn; omega) (Vw.nN hn))))
    refine AW.iload_n dX0_openOn_44 rfl rfl ?_
    exact AW.iretE dX0_openOn_45 rfl rfl rfl rfl
  · intro k hk ihk
    refine AW.iload dX0_openOn_5 rfl rfl ?_
    refine AW.aload_n dX0_openOn_7 rfl rfl ?_
    refine AW.get ci0 0 (by decide) q229 dX0_openOn_8 gX rfl rfl ?_
    refine AW.getN ci1 0 (by decide) q191 dX0_openOn_11 gN rfl rfl ?_
    refine AW.iconst (v := 0) dX0_openOn_14 (by decide) rfl ?_
    refine AW.iald dX0_openOn_15 g514 (vp_in_iff.mpr (by decide)) (j := 0) (by decide) rfl ?_
    refine AW.icmp_ge (tgt := 44) dX0_openOn_16 (by decide) rfl (fun c => by first | exact absurd c (loop_in hk (by have := Vw.n7 hn; omega) (Vw.nN hn)) | exact absurd (loop_in hk (by have := Vw.n7 hn; omega) (Vw.nN hn)) c | exact Bool.noConfusion (c.symm.trans (loop_in hk (by have := Vw.n7 hn; omega) (Vw.nN hn)))) (fun _ => ?_)
    refine AW.iload_n dX0_openOn_19 rfl rfl ?_
    refine AW.aload_n dX0_openOn_20 rfl rfl ?_
    refine AW.aload_n dX0_openOn_21 rfl rfl ?_
    refine AW.iload dX0_openOn_22 rfl rfl ?_
    refine AW.iload_n dX0_openOn_24 rfl rfl ?_
    refine AW.callV (Y := mX0_isOpen) (n := 3) (r_X0_isOpen_t hn _ _) (by decide) (by decide) rfl gX q891 q893 qs29 q138 q894 dX0_openOn_25 (by decide +kernel) rfl rfl (Nat.le_of_ble_eq_true rfl) rfl ?_
    refine AW.if_eqB (tgt := 35) dX0_openOn_28 (by decide) rfl (fun c => ?_) (fun c => ?_)
    · refine AW.iconst (v := 0) dX0_openOn_35 (by decide) rfl ?_
      refine AW.iadd dX0_openOn_36 rfl ?_
      refine AW.istore_n (i := 3) dX0_openOn_37 rfl rfl (Nat.le_of_ble_eq_true rfl) rfl rfl ?_
      refine AW.iinc (v := 1) dX0_openOn_38 rfl (by decide) rfl rfl rfl ?_
      refine AW.goto (tgt := 5) dX0_openOn_41 (by decide) ?_
      exact AW.ls (by simp [sumUp, nI_succ, c, b2i]) ihk
    · refine AW.iconst (v := 1) dX0_openOn_31 (by decide) rfl ?_
      refine AW.goto (tgt := 36) dX0_openOn_32 (by decide) ?_
      refine AW.iadd dX0_openOn_36 rfl ?_
      refine AW.istore_n (i := 3) dX0_openOn_37 rfl rfl (Nat.le_of_ble_eq_true rfl) rfl rfl ?_
      refine AW.iinc (v := 1) dX0_openOn_38 rfl (by decide) rfl rfl rfl ?_
      refine AW.goto (tgt := 5) dX0_openOn_41 (by decide) ?_
      exact AW.ls (by simp [sumUp, nI_succ, c, b2i]) ihk
theorem r_X0_besideOf_t {s : Sg} (hn : (vwS (s.A 514) (s.A 621)).ok) (h dt : Int32) : Run 4 mX0_besideOf [.ref 512, .ref 621, .int h, .int dt] (hp s) (.inl (some (.int ((vwS (s.A 514) (s.A 621)).beside h dt)))) (hp s) := by
  refine Run.of rfl (Nat.le_of_ble_eq_true rfl) rfl ?_
  refine AW.aload_n dX0_besideOf_0 rfl rfl ?_
  refine AW.aload_n dX0_besideOf_1 rfl rfl ?_
  refine AW.iload_n dX0_besideOf_2 rfl rfl ?_
  refine AW.iconst (v := 1) dX0_besideOf_3 (by decide) rfl ?_
  refine AW.isub dX0_besideOf_4 rfl ?_
  refine AW.iload_n dX0_besideOf_5 rfl rfl ?_
  refine AW.callV (Y := mX0_isOpen) (n := 3) (r_X0_isOpen_t hn _ _) (by decide) (by decide) rfl gX q891 q893 qs29 q138 q894 dX0_besideOf_6 (by decide +kernel) rfl rfl (Nat.le_of_ble_eq_true rfl) rfl ?_
  refine AW.if_eqB (tgt := 16) dX0_besideOf_9 (by decide) rfl (fun c5 => ?_) (fun c5 => ?_)
  · refine AW.iconst (v := 0) dX0_besideOf_16 (by decide) rfl ?_
    refine AW.aload_n dX0_besideOf_17 rfl rfl ?_
    refine AW.aload_n dX0_besideOf_18 rfl rfl ?_
    refine AW.iload_n dX0_besideOf_19 rfl rfl ?_
    refine AW.iconst (v := 1) dX0_besideOf_20 (by decide) rfl ?_
    refine AW.iadd dX0_besideOf_21 rfl ?_
    refine AW.iload_n dX0_besideOf_22 rfl rfl ?_
    refine AW.callV (Y := mX0_isOpen) (n := 3) (r_X0_isOpen_t hn _ _) (by decide) (by decide) rfl gX q891 q893 qs29 q138 q894 dX0_besideOf_23 (by decide +kernel) rfl rfl (Nat.le_of_ble_eq_true rfl) rfl ?_
    refine AW.if_eqB (tgt := 33) dX0_besideOf_26 (by decide) rfl (fun c14 => ?_) (fun c14 => ?_)
    · refine AW.iconst (v := 0) dX0_besideOf_33 (by decide) rfl ?_
      refine AW.iadd dX0_besideOf_34 rfl ?_
      exact AW.iretE dX0_besideOf_35 rfl rfl (by simp [Vw.beside, c5, c14, b2i]) rfl
    · refine AW.iconst (v := 1) dX0_besideOf_29 (by decide) rfl ?_
      refine AW.goto (tgt := 34) dX0_besideOf_30 (by decide) ?_
      refine AW.iadd dX0_besideOf_34 rfl ?_
      exact AW.iretE dX0_besideOf_35 rfl rfl (by simp [Vw.beside, c5, c14, b2i]) rfl
  · refine AW.iconst (v := 1) dX0_besideOf_12 (by decide) rfl ?_
    refine AW.goto (tgt := 17) dX0_besideOf_13 (by decide) ?_
    refine AW.aload_n dX0_besideOf_17 rfl rfl ?_
    refine AW.aload_n dX0_besideOf_18 rfl rfl ?_
    refine AW.iload_n dX0_besideOf_19 rfl rfl ?_
    refine AW.iconst (v := 1) dX0_besideOf_20 (by decide) rfl ?_
    refine AW.iadd dX0_besideOf_21 rfl ?_
    refine AW.iload_n dX0_besideOf_22 rfl rfl ?_
    refine AW.callV (Y := mX0_isOpen) (n := 3) (r_X0_isOpen_t hn _ _) (by decide) (by decide) rfl gX q891 q893 qs29 q138 q894 dX0_besideOf_23 (by decide +kernel) rfl rfl (Nat.le_of_ble_eq_true rfl) rfl ?_
    refine AW.if_eqB (tgt := 33) dX0_besideOf_26 (by decide) rfl (fun c14 => ?_) (fun c14 => ?_)
    · refine AW.iconst (v := 0) dX0_besideOf_33 (by decide) rfl ?_
      refine AW.iadd dX0_besideOf_34 rfl ?_
      exact AW.iretE dX0_besideOf_35 rfl rfl (by simp [Vw.beside, c5, c14, b2i]) rfl
    · refine AW.iconst (v := 1) dX0_besideOf_29 (by decide) rfl ?_
      refine AW.goto (tgt := 34) dX0_besideOf_30 (by decide) ?_
      refine AW.iadd dX0_besideOf_34 rfl ?_
      exact AW.iretE dX0_besideOf_35 rfl rfl (by simp [Vw.beside, c5, c14, b2i]) rfl
theorem r_X0_isThere {s : Sg} (h : Int32) : Run 3 mX0_isThere [.ref 512, .int h] (hp s) (.inl (some (.int (b2i ((vwS (s.A 514) (s.A 515)).her h))))) (hp s) := by
  refine Run.of rfl (Nat.le_of_ble_eq_true rfl) rfl ?_
  refine AW.aload_n dX0_isThere_0 rfl rfl ?_
  refine AW.iload_n dX0_isThere_1 rfl rfl ?_
  refine AW.callV (Y := mX0_isHouse) (n := 1) (r_X0_isHouse (r := s.A 515) _) (by decide) (by decide) rfl gX q895 q897 qs30 q138 q898 dX0_isThere_2 (by decide +kernel) rfl rfl (Nat.le_of_ble_eq_true rfl) rfl ?_
  refine AW.if_eqB (tgt := 26) dX0_isThere_5 (by decide) rfl (fun c5 => ?_) (fun c5 => ?_)
  · refine AW.iconst (v := 0) dX0_isThere_26 (by decide) rfl ?_
    exact AW.bretE dX0_isThere_27 rfl rfl (by first | (simp [Vw.her, c5, b2i]; done) | (simp [Vw.her, vwS_go c5, *, b2i]; done)) rfl
  · refine AW.aload_n dX0_isThere_8 rfl rfl ?_
    refine AW.get ci0 0 (by decide) q229 dX0_isThere_9 gX rfl rfl ?_
    refine AW.getN ci1 1 (by decide) q193 dX0_isThere_12 gN rfl rfl ?_
    refine AW.iload_n dX0_isThere_15 rfl rfl ?_
    refine AW.callS (Y := mX0_isGone) (n := 2) (r_X0_isGone _) (by decide) (by decide) q864 q865 q138 q866 dX0_isThere_16 (by decide +kernel) rfl rfl (Nat.le_of_ble_eq_true rfl) rfl ?_
    refine AW.if_neB (tgt := 26) dX0_isThere_19 (by decide) rfl (fun c6 => ?_) (fun c6 => ?_)
    · refine AW.iconst (v := 0) dX0_isThere_26 (by decide) rfl ?_
      exact AW.bretE dX0_isThere_27 rfl rfl (by first | (simp [Vw.her, c5, b2i]; done) | (simp [Vw.her, vwS_go c5, *, b2i]; done)) rfl
    · refine AW.iconst (v := 1) dX0_isThere_22 (by decide) rfl ?_
      refine AW.goto (tgt := 27) dX0_isThere_23 (by decide) ?_
      exact AW.bretE dX0_isThere_27 rfl rfl (by first | (simp [Vw.her, c5, b2i]; done) | (simp [Vw.her, vwS_go c5, *, b2i]; done)) rfl
theorem r_X0_shutOn {s : Sg} (hn : (vwS (s.A 514) (s.A 515)).ok) (dt : Int32) : Run 4 mX0_shutOn [.ref 512, .int dt] (hp s) (.inl (some (.int ((vwS (s.A 514) (s.A 515)).shutOn dt)))) (hp s) := by
  refine Run.of rfl (Nat.le_of_ble_eq_true rfl) rfl ?_
  refine AW.iconst (v := 0) dX0_shutOn_0 (by decide) rfl ?_
  refine AW.istore_n (i := 2) dX0_shutOn_1 rfl rfl (Nat.le_of_ble_eq_true rfl) rfl rfl ?_
  refine AW.iconst (v := 0) dX0_shutOn_2 (by decide) rfl ?_
  refine AW.istore_n (i := 3) dX0_shutOn_3 rfl rfl (Nat.le_of_ble_eq_true rfl) rfl rfl ?_
  refine loopUp (P := fun k => AW 4 mX0_shutOn (hp s) 4 [some (.ref 512), some (.int (dt)), some (.int (sumUp (fun k => b2i ((vwS (s.A 514) (s.A 515)).her (nI k) && hasI ((vwS (s.A 514) (s.A 515)).sh (nI k)) dt)) k)), some (.int (nI k))] [] (.inl (some (.int ((vwS (s.A 514) (s.A 515)).shutOn dt)))) (hp s)) (vwS (s.A 514) (s.A 515)).n ?_ ?_ 0 (by first | exact Nat.zero_le _ | omega)
  · refine AW.iload_n dX0_shutOn_4 rfl rfl ?_
    refine AW.aload_n dX0_shutOn_5 rfl rfl ?_
    refine AW.get ci0 0 (by decide) q229 dX0_shutOn_6 gX rfl rfl ?_
    refine AW.getN ci1 0 (by decide) q191 dX0_shutOn_9 gN rfl rfl ?_
    refine AW.iconst (v := 0) dX0_shutOn_12 (by decide) rfl ?_
    refine AW.iald dX0_shutOn_13 g514 (vp_in_iff.mpr (by decide)) (j := 0) (by decide) rfl ?_
    refine AW.icmp_ge (tgt := 57) dX0_shutOn_14 (by decide) rfl (fun _ => ?_) (fun c => by first | exact absurd c (loop_end (by have := Vw.n7 hn; omega) (Vw.nN hn)) | exact absurd (loop_end (by have := Vw.n7 hn; omega) (Vw.nN hn)) c | exact absurd c (not_not_intro (loop_end (by have := Vw.n7 hn; omega) (Vw.nN hn))) | exact Bool.noConfusion (c.symm.trans (loop_end (by have := Vw.n7 hn; omega) (Vw.nN hn))))
    refine AW.iload_n dX0_shutOn_57 rfl rfl ?_
    exact AW.iretE dX0_shutOn_58 rfl rfl rfl rfl
  · intro k hk ihk
    have e0 := vwS_sh (Vw.hou_k hn hk)
    refine AW.iload_n dX0_shutOn_4 rfl rfl ?_
    refine AW.aload_n dX0_shutOn_5 rfl rfl ?_
    refine AW.get ci0 0 (by decide) q229 dX0_shutOn_6 gX rfl rfl ?_
    refine AW.getN ci1 0 (by decide) q191 dX0_shutOn_9 gN rfl rfl ?_
    refine AW.iconst (v := 0) dX0_shutOn_12 (by decide) rfl ?_
    refine AW.iald dX0_shutOn_13 g514 (vp_in_iff.mpr (by decide)) (j := 0) (by decide) rfl ?_
    refine AW.icmp_ge (tgt := 57) dX0_shutOn_14 (by decide) rfl (fun c => by first | exact absurd c (loop_in hk (by have := Vw.n7 hn; omega) (Vw.nN hn)) | exact absurd (loop_in hk (by have := Vw.n7 hn; omega) (Vw.nN hn)) c | exact Bool.noConfusion (c.symm.trans (loop_in hk (by have := Vw.n7 hn; omega) (Vw.nN hn)))) (fun _ => ?_)
    refine AW.iload_n dX0_shutOn_17 rfl rfl ?_
    refine AW.aload_n dX0_shutOn_18 rfl rfl ?_
    refine AW.iload_n dX0_shutOn_19 rfl rfl ?_
    refine AW.callV (Y := mX0_isThere) (n := 1) (r_X0_isThere _) (by decide) (by decide) rfl gX q980 q982 qs33 q138 q983 dX0_shutOn_20 (by decide +kernel) rfl rfl (Nat.le_of_ble_eq_true rfl) rfl ?_
    refine AW.if_eqB (tgt := 48) dX0_shutOn_23 (by decide) rfl (fun c1 => ?_) (fun c1 => ?_)
    · refine AW.iconst (v := 0) dX0_shutOn_48 (by decide) rfl ?_
      refine AW.iadd dX0_shutOn_49 rfl ?_
      refine AW.istore_n (i := 2) dX0_shutOn_50 rfl rfl (Nat.le_of_ble_eq_true rfl) rfl rfl ?_
      refine AW.iinc (v := 1) dX0_shutOn_51 rfl (by decide) rfl rfl rfl ?_
      refine AW.goto (tgt := 4) dX0_shutOn_54 (by decide) ?_
      exact AW.ls (by simp_all [sumUp, nI_succ, b2i]) ihk
    · refine AW.aload_n dX0_shutOn_26 rfl rfl ?_
      refine AW.get ci0 0 (by decide) q229 dX0_shutOn_27 gX rfl rfl ?_
      refine AW.getN ci1 1 (by decide) q193 dX0_shutOn_30 gN rfl rfl ?_
      refine AW.iconst (v := 3) dX0_shutOn_33 (by decide) rfl ?_
      refine AW.iload_n dX0_shutOn_34 rfl rfl ?_
      refine AW.iadd dX0_shutOn_35 rfl ?_
      refine AW.iald dX0_shutOn_36 g515 (in_row hn (Vw.hou_k hn hk) (by decide) (by decide)) rfl rfl ?_
      refine AW.iload_n dX0_shutOn_37 rfl rfl ?_
      refine AW.callS (Y := mX0_has) (n := 2) (r_X0_has _ _) (by decide) (by decide) q867 q868 q138 q869 dX0_shutOn_38 (by decide +kernel) rfl rfl (Nat.le_of_ble_eq_true rfl) rfl ?_
      refine AW.if_eqB (tgt := 48) dX0_shutOn_41 (by decide) rfl (fun c2 => ?_) (fun c2 => ?_)
      · refine AW.iconst (v := 0) dX0_shutOn_48 (by decide) rfl ?_
        refine AW.iadd dX0_shutOn_49 rfl ?_
        refine AW.istore_n (i := 2) dX0_shutOn_50 rfl rfl (Nat.le_of_ble_eq_true rfl) rfl rfl ?_
        refine AW.iinc (v := 1) dX0_shutOn_51 rfl (by decide) rfl rfl rfl ?_
        refine AW.goto (tgt := 4) dX0_shutOn_54 (by decide) ?_
        exact AW.ls (by simp_all [sumUp, nI_succ, b2i]) ihk
      · refine AW.iconst (v := 1) dX0_shutOn_44 (by decide) rfl ?_
        refine AW.goto (tgt := 49) dX0_shutOn_45 (by decide) ?_
        refine AW.iadd dX0_shutOn_49 rfl ?_
        refine AW.istore_n (i := 2) dX0_shutOn_50 rfl rfl (Nat.le_of_ble_eq_true rfl) rfl rfl ?_
        refine AW.iinc (v := 1) dX0_shutOn_51 rfl (by decide) rfl rfl rfl ?_
        refine AW.goto (tgt := 4) dX0_shutOn_54 (by decide) ?_
        exact AW.ls (by simp_all [sumUp, nI_succ, b2i]) ihk
theorem r_X0_friendsOn {s : Sg} (hn : (vwS (s.A 514) (s.A 515)).ok) (dt : Int32) : Run 5 mX0_friendsOn [.ref 512, .int dt] (hp s) (.inl (some (.int ((vwS (s.A 514) (s.A 515)).friendsOn dt)))) (hp s) := by
  refine Run.of rfl (Nat.le_of_ble_eq_true rfl) rfl ?_
  refine AW.iconst (v := 0) dX0_friendsOn_0 (by decide) rfl ?_
  refine AW.istore_n (i := 2) dX0_friendsOn_1 rfl rfl (Nat.le_of_ble_eq_true rfl) rfl rfl ?_
  refine AW.iconst (v := 0) dX0_friendsOn_2 (by decide) rfl ?_
  refine AW.istore_n (i := 3) dX0_friendsOn_3 rfl rfl (Nat.le_of_ble_eq_true rfl) rfl rfl ?_
  refine loopUp (P := fun k => AW 5 mX0_friendsOn (hp s) 4 [some (.ref 512), some (.int (dt)), some (.int (sumUp (fun k => if (vwS (s.A 514) (s.A 515)).opn (nI k) dt then (vwS (s.A 514) (s.A 515)).fr (nI k) else 0) k)), some (.int (nI k))] [] (.inl (some (.int ((vwS (s.A 514) (s.A 515)).friendsOn dt)))) (hp s)) (vwS (s.A 514) (s.A 515)).n ?_ ?_ 0 (by first | exact Nat.zero_le _ | omega)
  · refine AW.iload_n dX0_friendsOn_4 rfl rfl ?_
    refine AW.aload_n dX0_friendsOn_5 rfl rfl ?_
    refine AW.get ci0 0 (by decide) q229 dX0_friendsOn_6 gX rfl rfl ?_
    refine AW.getN ci1 0 (by decide) q191 dX0_friendsOn_9 gN rfl rfl ?_
    refine AW.iconst (v := 0) dX0_friendsOn_12 (by decide) rfl ?_
    refine AW.iald dX0_friendsOn_13 g514 (vp_in_iff.mpr (by decide)) (j := 0) (by decide) rfl ?_
    refine AW.icmp_ge (tgt := 58) dX0_friendsOn_14 (by decide) rfl (fun _ => ?_) (fun c => by first | exact absurd c (loop_end (by have := Vw.n7 hn; omega) (Vw.nN hn)) | exact absurd (loop_end (by have := Vw.n7 hn; omega) (Vw.nN hn)) c | exact absurd c (not_not_intro (loop_end (by have := Vw.n7 hn; omega) (Vw.nN hn))) | exact Bool.noConfusion (c.symm.trans (loop_end (by have := Vw.n7 hn; omega) (Vw.nN hn))))
    refine AW.iload_n dX0_friendsOn_58 rfl rfl ?_
    exact AW.iretE dX0_friendsOn_59 rfl rfl rfl rfl
  · intro k hk ihk
    have e0 := vwS_fr (Vw.hou_k hn hk)
    refine AW.iload_n dX0_friendsOn_4 rfl rfl ?_
    refine AW.aload_n dX0_friendsOn_5 rfl rfl ?_
    refine AW.get ci0 0 (by decide) q229 dX0_friendsOn_6 gX rfl rfl ?_
    refine AW.getN ci1 0 (by decide) q191 dX0_friendsOn_9 gN rfl rfl ?_
    refine AW.iconst (v := 0) dX0_friendsOn_12 (by decide) rfl ?_
    refine AW.iald dX0_friendsOn_13 g514 (vp_in_iff.mpr (by decide)) (j := 0) (by decide) rfl ?_
    refine AW.icmp_ge (tgt := 58) dX0_friendsOn_14 (by decide) rfl (fun c => by first | exact absurd c (loop_in hk (by have := Vw.n7 hn; omega) (Vw.nN hn)) | exact absurd (loop_in hk (by have := Vw.n7 hn; omega) (Vw.nN hn)) c | exact Bool.noConfusion (c.symm.trans (loop_in hk (by have := Vw.n7 hn; omega) (Vw.nN hn)))) (fun _ => ?_)
    refine AW.iload_n dX0_friendsOn_17 rfl rfl ?_
    refine AW.aload_n dX0_friendsOn_18 rfl rfl ?_
    refine AW.aload_n dX0_friendsOn_19 rfl rfl ?_
    refine AW.get ci0 0 (by decide) q229 dX0_friendsOn_20 gX rfl rfl ?_
    refine AW.getN ci1 1 (by decide) q193 dX0_friendsOn_23 gN rfl rfl ?_
    refine AW.iload_n dX0_friendsOn_26 rfl rfl ?_
    refine AW.iload_n dX0_friendsOn_27 rfl rfl ?_
    refine AW.callV (Y := mX0_isOpen) (n := 3) (r_X0_isOpen hn _ _) (by decide) (by decide) rfl gX q891 q893 qs29 q138 q894 dX0_friendsOn_28 (by decide +kernel) rfl rfl (Nat.le_of_ble_eq_true rfl) rfl ?_
    refine AW.if_eqB (tgt := 49) dX0_friendsOn_31 (by decide) rfl (fun c1 => ?_) (fun c1 => ?_)
    · refine AW.iconst (v := 0) dX0_friendsOn_49 (by decide) rfl ?_
      refine AW.iadd dX0_friendsOn_50 rfl ?_
      refine AW.istore_n (i := 2) dX0_friendsOn_51 rfl rfl (Nat.le_of_ble_eq_true rfl) rfl rfl ?_
      refine AW.iinc (v := 1) dX0_friendsOn_52 rfl (by decide) rfl rfl rfl ?_
      refine AW.goto (tgt := 4) dX0_friendsOn_55 (by decide) ?_
      exact AW.ls (by simp_all [sumUp, nI_succ, b2i]) ihk
    · refine AW.aload_n dX0_friendsOn_34 rfl rfl ?_
      refine AW.get ci0 0 (by decide) q229 dX0_friendsOn_35 gX rfl rfl ?_
      refine AW.getN ci1 1 (by decide) q193 dX0_friendsOn_38 gN rfl rfl ?_
      refine AW.bipush (v := 17) dX0_friendsOn_41 (by decide) rfl ?_
      refine AW.iload_n dX0_friendsOn_43 rfl rfl ?_
      refine AW.iadd dX0_friendsOn_44 rfl ?_
      refine AW.iald dX0_friendsOn_45 g515 (in_row hn (Vw.hou_k hn hk) (by decide) (by decide)) rfl rfl ?_
      refine AW.goto (tgt := 50) dX0_friendsOn_46 (by decide) ?_
      refine AW.iadd dX0_friendsOn_50 rfl ?_
      refine AW.istore_n (i := 2) dX0_friendsOn_51 rfl rfl (Nat.le_of_ble_eq_true rfl) rfl rfl ?_
      refine AW.iinc (v := 1) dX0_friendsOn_52 rfl (by decide) rfl rfl rfl ?_
      refine AW.goto (tgt := 4) dX0_friendsOn_55 (by decide) ?_
      exact AW.ls (by simp_all [sumUp, nI_succ, b2i]) ihk
theorem r_X0_indoors {s : Sg} (hn : (vwS (s.A 514) (s.A 515)).ok) (h : Int32) : Run 5 mX0_indoors [.ref 512, .int h] (hp s) (.inl (some (.int ((vwS (s.A 514) (s.A 515)).indoors (s.A 515 0) h)))) (hp s) := by
  refine Run.of rfl (Nat.le_of_ble_eq_true rfl) rfl ?_
  refine AW.iload_n dX0_indoors_0 rfl rfl ?_
  refine AW.iconst (v := 1) dX0_indoors_1 (by decide) rfl ?_
  refine AW.bipush (v := 7) dX0_indoors_2 (by decide) rfl ?_
  refine AW.callS (Y := mX0_in) (n := 3) (r_X0_in _ _ _) (by decide) (by decide) q271 q272 q138 q273 dX0_indoors_4 (by decide +kernel) rfl rfl (Nat.le_of_ble_eq_true rfl) rfl ?_
  refine AW.if_neB (tgt := 12) dX0_indoors_7 (by decide) rfl (fun c7 => ?_) (fun c7 => ?_)
  · refine AW.iconst (v := 0) dX0_indoors_12 (by decide) rfl ?_
    refine AW.istore_n (i := 2) dX0_indoors_13 rfl rfl (Nat.le_of_ble_eq_true rfl) rfl rfl ?_
    refine AW.oo (o2 := .inl (some (.int (srch (fun k => decide (h ≤ (vwS (s.A 514) (s.A 515)).shutOn ((s.A 515 0 + nI k) % 20))) nI (-1) (61 - 0) 0)))) (by unfold Vw.indoors; rw [c7]; rfl) ?_
    refine loopUp (P := fun k => AW 5 mX0_indoors (hp s) 14 [some (.ref 512), some (.int (h)), some (.int (nI k))] [] (.inl (some (.int (srch (fun k => decide (h ≤ (vwS (s.A 514) (s.A 515)).shutOn ((s.A 515 0 + nI k) % 20))) nI (-1) (61 - k) k)))) (hp s)) 61 ?_ ?_ 0 (by first | exact Nat.zero_le _ | omega)
    · refine AW.iload_n dX0_indoors_14 rfl rfl ?_
      refine AW.bipush (v := 60) dX0_indoors_15 (by decide) rfl ?_
      refine AW.icmp_gt (tgt := 50) dX0_indoors_17 (by decide) rfl (fun _ => ?_) (fun c => by first | exact absurd c (by decide) | exact absurd (by decide) c | exact absurd c (not_not_intro (by decide)) | exact Bool.noConfusion (c.symm.trans (by decide)))
      refine AW.iconst (v := (-1)) dX0_indoors_50 (by decide) rfl ?_
      exact AW.iretE dX0_indoors_51 rfl rfl (srch_e.symm) rfl
    · intro k hk ihk
      refine AW.iload_n dX0_indoors_14 rfl rfl ?_
      refine AW.bipush (v := 60) dX0_indoors_15 (by decide) rfl ?_
      refine AW.icmp_gt (tgt := 50) dX0_indoors_17 (by decide) rfl (fun c => by first | exact absurd c (nlt_lit 60 rfl (by omega) (by decide)) | exact absurd (nlt_lit 60 rfl (by omega) (by decide)) c | exact Bool.noConfusion (c.symm.trans (nlt_lit 60 rfl (by omega) (by decide)))) (fun _ => ?_)
      refine AW.aload_n dX0_indoors_20 rfl rfl ?_
      refine AW.aload_n dX0_indoors_21 rfl rfl ?_
      refine AW.get ci0 0 (by decide) q229 dX0_indoors_22 gX rfl rfl ?_
      refine AW.getN ci1 1 (by decide) q193 dX0_indoors_25 gN rfl rfl ?_
      refine AW.iconst (v := 0) dX0_indoors_28 (by decide) rfl ?_
      refine AW.iald dX0_indoors_29 g515 (vp_in_iff.mpr (by decide)) (j := 0) (by decide) rfl ?_
      refine AW.iload_n dX0_indoors_30 rfl rfl ?_
      refine AW.iadd dX0_indoors_31 rfl ?_
      refine AW.bipush (v := 20) dX0_indoors_32 (by decide) rfl ?_
      refine AW.irem dX0_indoors_34 (by decide) rfl ?_
      refine AW.callV (Y := mX0_shutOn) (n := 1) (r_X0_shutOn hn _) (by decide) (by decide) rfl gX q1149 q1151 qs46 q138 q1152 dX0_indoors_35 (by decide +kernel) rfl rfl (Nat.le_of_ble_eq_true rfl) rfl ?_
      refine AW.iload_n dX0_indoors_38 rfl rfl ?_
      refine AW.icmp_lt (tgt := 44) dX0_indoors_39 (by decide) rfl (fun c => ?_) (fun c => ?_)
      · refine AW.iinc (v := 1) dX0_indoors_44 rfl (by decide) rfl rfl rfl ?_
        refine AW.goto (tgt := 14) dX0_indoors_47 (by decide) ?_
        exact AW.ls (by rw [nI_succ]; rfl) (AW.oo (by rw [srch_f hk (dec_f (Int32.not_le.mpr c))]) ihk)
      · refine AW.iload_n dX0_indoors_42 rfl rfl ?_
        exact AW.iretE dX0_indoors_43 rfl rfl (srch_t hk (dec_t (Int32.not_lt.mp c))).symm rfl
  · refine AW.iconst (v := (-1)) dX0_indoors_10 (by decide) rfl ?_
    exact AW.iretE dX0_indoors_11 rfl rfl (by unfold Vw.indoors; rw [c7]; rfl) rfl
theorem r_X0_crowded {s : Sg} (hn : (vwS (s.A 514) (s.A 515)).ok) (z : Int32) : Run 6 mX0_crowded [.ref 512, .int z] (hp s) (.inl (some (.int ((vwS (s.A 514) (s.A 515)).crowded z)))) (hp s) := by
  refine Run.of rfl (Nat.le_of_ble_eq_true rfl) rfl ?_
  refine AW.iconst (v := 0) dX0_crowded_0 (by decide) rfl ?_
  refine AW.istore_n (i := 2) dX0_crowded_1 rfl rfl (Nat.le_of_ble_eq_true rfl) rfl rfl ?_
  refine AW.iconst (v := 1) dX0_crowded_2 (by decide) rfl ?_
  refine AW.istore_n (i := 3) dX0_crowded_3 rfl rfl (Nat.le_of_ble_eq_true rfl) rfl rfl ?_
  refine loopUp (P := fun k => AW 6 mX0_crowded (hp s) 4 [some (.ref 512), some (.int (z)), some (.int (bestUp (vwS (s.A 514) (s.A 515)).shutOn k)), some (.int (nI (k + 1)))] [] (.inl (some (.int ((vwS (s.A 514) (s.A 515)).crowded z)))) (hp s)) 19 ?_ ?_ 0 (by first | exact Nat.zero_le _ | omega)
  · refine AW.iload_n dX0_crowded_4 rfl rfl ?_
    refine AW.bipush (v := 20) dX0_crowded_5 (by decide) rfl ?_
    refine AW.icmp_ge (tgt := 31) dX0_crowded_7 (by decide) rfl (fun _ => ?_) (fun c => by first | exact absurd c (by decide) | exact absurd (by decide) c | exact absurd c (not_not_intro (by decide)) | exact Bool.noConfusion (c.symm.trans (by decide)))
    refine AW.iload_n dX0_crowded_31 rfl rfl ?_
    refine AW.if_eq (tgt := 43) dX0_crowded_32 (by decide) rfl (fun c => ?_) (fun c => ?_)
    · refine AW.iload_n dX0_crowded_43 rfl rfl ?_
      exact AW.iretE dX0_crowded_44 rfl rfl (by unfold Vw.crowded; first | rw [if_pos c] | rw [if_neg c]) rfl
    · refine AW.aload_n dX0_crowded_35 rfl rfl ?_
      refine AW.iload_n dX0_crowded_36 rfl rfl ?_
      refine AW.callV (Y := mX0_shutOn) (n := 1) (r_X0_shutOn hn _) (by decide) (by decide) rfl gX q1149 q1151 qs46 q138 q1152 dX0_crowded_37 (by decide +kernel) rfl rfl (Nat.le_of_ble_eq_true rfl) rfl ?_
      refine AW.goto (tgt := 44) dX0_crowded_40 (by decide) ?_
      exact AW.iretE dX0_crowded_44 rfl rfl (by unfold Vw.crowded; first | rw [if_pos c] | rw [if_neg c]) rfl
  · intro k hk ihk
    refine AW.iload_n dX0_crowded_4 rfl rfl ?_
    refine AW.bipush (v := 20) dX0_crowded_5 (by decide) rfl ?_
    refine AW.icmp_ge (tgt := 31) dX0_crowded_7 (by decide) rfl (fun c => by first | exact absurd c (nI_nle20 hk) | exact absurd (nI_nle20 hk) c | exact Bool.noConfusion (c.symm.trans (nI_nle20 hk))) (fun _ => ?_)
    refine AW.aload_n dX0_crowded_10 rfl rfl ?_
    refine AW.iload_n dX0_crowded_11 rfl rfl ?_
    refine AW.callV (Y := mX0_shutOn) (n := 1) (r_X0_shutOn hn _) (by decide) (by decide) rfl gX q1149 q1151 qs46 q138 q1152 dX0_crowded_12 (by decide +kernel) rfl rfl (Nat.le_of_ble_eq_true rfl) rfl ?_
    refine AW.aload_n dX0_crowded_15 rfl rfl ?_
    refine AW.iload_n dX0_crowded_16 rfl rfl ?_
    refine AW.callV (Y := mX0_shutOn) (n := 1) (r_X0_shutOn hn _) (by decide) (by decide) rfl gX q1149 q1151 qs46 q138 q1152 dX0_crowded_17 (by decide +kernel) rfl rfl (Nat.le_of_ble_eq_true rfl) rfl ?_
    refine AW.icmp_le (tgt := 25) dX0_crowded_20 (by decide) rfl (fun c => ?_) (fun c => ?_)
    · refine AW.iinc (v := 1) dX0_crowded_25 rfl (by decide) rfl rfl rfl ?_
      refine AW.goto (tgt := 4) dX0_crowded_28 (by decide) ?_
      exact AW.ls (by (first | rw [bst_f c, nI_succ (k + 1)] | rw [bst_t c, nI_succ (k + 1)]); rfl) ihk
    · refine AW.iload_n dX0_crowded_23 rfl rfl ?_
      refine AW.istore_n (i := 2) dX0_crowded_24 rfl rfl (Nat.le_of_ble_eq_true rfl) rfl rfl ?_
      refine AW.iinc (v := 1) dX0_crowded_25 rfl (by decide) rfl rfl rfl ?_
      refine AW.goto (tgt := 4) dX0_crowded_28 (by decide) ?_
      exact AW.ls (by (first | rw [bst_f c, nI_succ (k + 1)] | rw [bst_t c, nI_succ (k + 1)]); rfl) ihk
theorem r_X0_feast {s : Sg} (hn : (vwS (s.A 514) (s.A 515)).ok) (z : Int32) : Run 6 mX0_feast [.ref 512, .int z] (hp s) (.inl (some (.int ((vwS (s.A 514) (s.A 515)).feast z)))) (hp s) := by
  refine Run.of rfl (Nat.le_of_ble_eq_true rfl) rfl ?_
  refine AW.iconst (v := 0) dX0_feast_0 (by decide) rfl ?_
  refine AW.istore_n (i := 2) dX0_feast_1 rfl rfl (Nat.le_of_ble_eq_true rfl) rfl rfl ?_
  refine AW.iconst (v := 1) dX0_feast_2 (by decide) rfl ?_
  refine AW.istore_n (i := 3) dX0_feast_3 rfl rfl (Nat.le_of_ble_eq_true rfl) rfl rfl ?_
  refine loopUp (P := fun k => AW 6 mX0_feast (hp s) 4 [some (.ref 512), some (.int (z)), some (.int (bestUp (vwS (s.A 514) (s.A 515)).friendsOn k)), some (.int (nI (k + 1)))] [] (.inl (some (.int ((vwS (s.A 514) (s.A 515)).feast z)))) (hp s)) 19 ?_ ?_ 0 (by first | exact Nat.zero_le _ | omega)
  · refine AW.iload_n dX0_feast_4 rfl rfl ?_
    refine AW.bipush (v := 20) dX0_feast_5 (by decide) rfl ?_
    refine AW.icmp_ge (tgt := 31) dX0_feast_7 (by decide) rfl (fun _ => ?_) (fun c => by first | exact absurd c (by decide) | exact absurd (by decide) c | exact absurd c (not_not_intro (by decide)) | exact Bool.noConfusion (c.symm.trans (by decide)))
    refine AW.iload_n dX0_feast_31 rfl rfl ?_
    refine AW.if_eq (tgt := 43) dX0_feast_32 (by decide) rfl (fun c => ?_) (fun c => ?_)
    · refine AW.iload_n dX0_feast_43 rfl rfl ?_
      exact AW.iretE dX0_feast_44 rfl rfl (by unfold Vw.feast; first | rw [if_pos c] | rw [if_neg c]) rfl
    · refine AW.aload_n dX0_feast_35 rfl rfl ?_
      refine AW.iload_n dX0_feast_36 rfl rfl ?_
      refine AW.callV (Y := mX0_friendsOn) (n := 1) (r_X0_friendsOn hn _) (by decide) (by decide) rfl gX q1161 q1163 qs47 q138 q1164 dX0_feast_37 (by decide +kernel) rfl rfl (Nat.le_of_ble_eq_true rfl) rfl ?_
      refine AW.goto (tgt := 44) dX0_feast_40 (by decide) ?_
      exact AW.iretE dX0_feast_44 rfl rfl (by unfold Vw.feast; first | rw [if_pos c] | rw [if_neg c]) rfl
  · intro k hk ihk
    refine AW.iload_n dX0_feast_4 rfl rfl ?_
    refine AW.bipush (v := 20) dX0_feast_5 (by decide) rfl ?_
    refine AW.icmp_ge (tgt := 31) dX0_feast_7 (by decide) rfl (fun c => by first | exact absurd c (nI_nle20 hk) | exact absurd (nI_nle20 hk) c | exact Bool.noConfusion (c.symm.trans (nI_nle20 hk))) (fun _ => ?_)
    refine AW.aload_n dX0_feast_10 rfl rfl ?_
    refine AW.iload_n dX0_feast_11 rfl rfl ?_
    refine AW.callV (Y := mX0_friendsOn) (n := 1) (r_X0_friendsOn hn _) (by decide) (by decide) rfl gX q1161 q1163 qs47 q138 q1164 dX0_feast_12 (by decide +kernel) rfl rfl (Nat.le_of_ble_eq_true rfl) rfl ?_
    refine AW.aload_n dX0_feast_15 rfl rfl ?_
    refine AW.iload_n dX0_feast_16 rfl rfl ?_
    refine AW.callV (Y := mX0_friendsOn) (n := 1) (r_X0_friendsOn hn _) (by decide) (by decide) rfl gX q1161 q1163 qs47 q138 q1164 dX0_feast_17 (by decide +kernel) rfl rfl (Nat.le_of_ble_eq_true rfl) rfl ?_
    refine AW.icmp_le (tgt := 25) dX0_feast_20 (by decide) rfl (fun c => ?_) (fun c => ?_)
    · refine AW.iinc (v := 1) dX0_feast_25 rfl (by decide) rfl rfl rfl ?_
      refine AW.goto (tgt := 4) dX0_feast_28 (by decide) ?_
      exact AW.ls (by (first | rw [bst_f c, nI_succ (k + 1)] | rw [bst_t c, nI_succ (k + 1)]); rfl) ihk
    · refine AW.iload_n dX0_feast_23 rfl rfl ?_
      refine AW.istore_n (i := 2) dX0_feast_24 rfl rfl (Nat.le_of_ble_eq_true rfl) rfl rfl ?_
      refine AW.iinc (v := 1) dX0_feast_25 rfl (by decide) rfl rfl rfl ?_
      refine AW.goto (tgt := 4) dX0_feast_28 (by decide) ?_
      exact AW.ls (by (first | rw [bst_f c, nI_succ (k + 1)] | rw [bst_t c, nI_succ (k + 1)]); rfl) ihk
theorem r_X0_nobodys {s : Sg} (hn : (vwS (s.A 514) (s.A 515)).ok) : Run 6 mX0_nobodys [.ref 512] (hp s) (.inl (some (.int ((vwS (s.A 514) (s.A 515)).nobodys)))) (hp s) := by
  refine Run.of rfl (Nat.le_of_ble_eq_true rfl) rfl ?_
  refine AW.iconst (v := 0) dX0_nobodys_0 (by decide) rfl ?_
  refine AW.istore_n (i := 1) dX0_nobodys_1 rfl rfl (Nat.le_of_ble_eq_true rfl) rfl rfl ?_
  refine AW.iconst (v := 0) dX0_nobodys_2 (by decide) rfl ?_
  refine AW.istore_n (i := 2) dX0_nobodys_3 rfl rfl (Nat.le_of_ble_eq_true rfl) rfl rfl ?_
  refine loopUp (P := fun k => AW 6 mX0_nobodys (hp s) 4 [some (.ref 512), some (.int (orUp (fun k => if (vwS (s.A 514) (s.A 515)).shutOn (nI k) = 0 then bit (nI k) else 0) k)), some (.int (nI k))] [] (.inl (some (.int ((vwS (s.A 514) (s.A 515)).nobodys)))) (hp s)) 20 ?_ ?_ 0 (by first | exact Nat.zero_le _ | omega)
  · refine AW.iload_n dX0_nobodys_4 rfl rfl ?_
    refine AW.bipush (v := 20) dX0_nobodys_5 (by decide) rfl ?_
    refine AW.icmp_ge (tgt := 34) dX0_nobodys_7 (by decide) rfl (fun _ => ?_) (fun c => by first | exact absurd c (by decide) | exact absurd (by decide) c | exact absurd c (not_not_intro (by decide)) | exact Bool.noConfusion (c.symm.trans (by decide)))
    refine AW.iload_n dX0_nobodys_34 rfl rfl ?_
    exact AW.iretE dX0_nobodys_35 rfl rfl rfl rfl
  · intro k hk ihk
    refine AW.iload_n dX0_nobodys_4 rfl rfl ?_
    refine AW.bipush (v := 20) dX0_nobodys_5 (by decide) rfl ?_
    refine AW.icmp_ge (tgt := 34) dX0_nobodys_7 (by decide) rfl (fun c => by first | exact absurd c (nI_nle20' hk) | exact absurd (nI_nle20' hk) c | exact Bool.noConfusion (c.symm.trans (nI_nle20' hk))) (fun _ => ?_)
    refine AW.iload_n dX0_nobodys_10 rfl rfl ?_
    refine AW.aload_n dX0_nobodys_11 rfl rfl ?_
    refine AW.iload_n dX0_nobodys_12 rfl rfl ?_
    refine AW.callV (Y := mX0_shutOn) (n := 1) (r_X0_shutOn hn _) (by decide) (by decide) rfl gX q1149 q1151 qs46 q138 q1152 dX0_nobodys_13 (by decide +kernel) rfl rfl (Nat.le_of_ble_eq_true rfl) rfl ?_
    refine AW.if_ne (tgt := 25) dX0_nobodys_16 (by decide) rfl (fun c => ?_) (fun c => ?_)
    · refine AW.iconst (v := 0) dX0_nobodys_25 (by decide) rfl ?_
      refine AW.ior dX0_nobodys_26 rfl ?_
      refine AW.istore_n (i := 1) dX0_nobodys_27 rfl rfl (Nat.le_of_ble_eq_true rfl) rfl rfl ?_
      refine AW.iinc (v := 1) dX0_nobodys_28 rfl (by decide) rfl rfl rfl ?_
      refine AW.goto (tgt := 4) dX0_nobodys_31 (by decide) ?_
      exact AW.ls (by simp [orUp, nI_succ, c, bit]) ihk
    · refine AW.iconst (v := 1) dX0_nobodys_19 (by decide) rfl ?_
      refine AW.iload_n dX0_nobodys_20 rfl rfl ?_
      refine AW.ishl dX0_nobodys_21 rfl ?_
      refine AW.goto (tgt := 26) dX0_nobodys_22 (by decide) ?_
      refine AW.ior dX0_nobodys_26 rfl ?_
      refine AW.istore_n (i := 1) dX0_nobodys_27 rfl rfl (Nat.le_of_ble_eq_true rfl) rfl rfl ?_
      refine AW.iinc (v := 1) dX0_nobodys_28 rfl (by decide) rfl rfl rfl ?_
      refine AW.goto (tgt := 4) dX0_nobodys_31 (by decide) ?_
      exact AW.ls (by simp [orUp, nI_succ, c, bit]) ihk
theorem r_X0_twins {s : Sg} (hn : (vwS (s.A 514) (s.A 515)).ok) : Run 5 mX0_twins [.ref 512] (hp s) (.inl (some (.int ((vwS (s.A 514) (s.A 515)).twins)))) (hp s) := by
  refine Run.of rfl (Nat.le_of_ble_eq_true rfl) rfl ?_
  refine AW.iconst (v := 0) dX0_twins_0 (by decide) rfl ?_
  refine AW.istore_n (i := 1) dX0_twins_1 rfl rfl (Nat.le_of_ble_eq_true rfl) rfl rfl ?_
  refine AW.iconst (v := 0) dX0_twins_2 (by decide) rfl ?_
  refine AW.istore_n (i := 2) dX0_twins_3 rfl rfl (Nat.le_of_ble_eq_true rfl) rfl rfl ?_
  refine loopUp (P := fun k => AW 5 mX0_twins (hp s) 4 [some (.ref 512), some (.int (sumUp (fun k => sumUp (fun e => b2i ((vwS (s.A 514) (s.A 515)).her (nI k) && ((vwS (s.A 514) (s.A 515)).her (nI e) && decide ((vwS (s.A 514) (s.A 515)).sh (nI k) = (vwS (s.A 514) (s.A 515)).sh (nI e))))) k) k)), some (.int (nI k)), none] [] (.inl (some (.int ((vwS (s.A 514) (s.A 515)).twins)))) (hp s)) (vwS (s.A 514) (s.A 515)).n ?_ ?_ 0 (by first | exact Nat.zero_le _ | omega)
  · refine AW.iload_n dX0_twins_4 rfl rfl ?_
    refine AW.aload_n dX0_twins_5 rfl rfl ?_
    refine AW.get ci0 0 (by decide) q229 dX0_twins_6 gX rfl rfl ?_
    refine AW.getN ci1 0 (by decide) q191 dX0_twins_9 gN rfl rfl ?_
    refine AW.iconst (v := 0) dX0_twins_12 (by decide) rfl ?_
    refine AW.iald dX0_twins_13 g514 (vp_in_iff.mpr (by decide)) (j := 0) (by decide) rfl ?_
    refine AW.icmp_ge (tgt := 85) dX0_twins_14 (by decide) rfl (fun _ => ?_) (fun c => by first | exact absurd c (loop_end (by have := Vw.n7 hn; omega) (Vw.nN hn)) | exact absurd (loop_end (by have := Vw.n7 hn; omega) (Vw.nN hn)) c | exact absurd c (not_not_intro (loop_end (by have := Vw.n7 hn; omega) (Vw.nN hn))) | exact Bool.noConfusion (c.symm.trans (loop_end (by have := Vw.n7 hn; omega) (Vw.nN hn))))
    refine AW.iload_n dX0_twins_85 rfl rfl ?_
    exact AW.iretE dX0_twins_86 rfl rfl rfl rfl
  · intro k hk ihk
    have e0 := vwS_sh (Vw.hou_k hn hk)
    refine AW.iload_n dX0_twins_4 rfl rfl ?_
    refine AW.aload_n dX0_twins_5 rfl rfl ?_
    refine AW.get ci0 0 (by decide) q229 dX0_twins_6 gX rfl rfl ?_
    refine AW.getN ci1 0 (by decide) q191 dX0_twins_9 gN rfl rfl ?_
    refine AW.iconst (v := 0) dX0_twins_12 (by decide) rfl ?_
    refine AW.iald dX0_twins_13 g514 (vp_in_iff.mpr (by decide)) (j := 0) (by decide) rfl ?_
    refine AW.icmp_ge (tgt := 85) dX0_twins_14 (by decide) rfl (fun c => by first | exact absurd c (loop_in hk (by have := Vw.n7 hn; omega) (Vw.nN hn)) | exact absurd (loop_in hk (by have := Vw.n7 hn; omega) (Vw.nN hn)) c | exact Bool.noConfusion (c.symm.trans (loop_in hk (by have := Vw.n7 hn; omega) (Vw.nN hn)))) (fun _ => ?_)
    refine AW.iconst (v := 0) dX0_twins_17 (by decide) rfl ?_
    refine AW.istore_n (i := 3) dX0_twins_18 rfl rfl (Nat.le_of_ble_eq_true rfl) rfl rfl ?_
    refine AW.ls (ls' := [some (.ref 512), some (.int (sumUp (fun k => sumUp (fun e => b2i ((vwS (s.A 514) (s.A 515)).her (nI k) && ((vwS (s.A 514) (s.A 515)).her (nI e) && decide ((vwS (s.A 514) (s.A 515)).sh (nI k) = (vwS (s.A 514) (s.A 515)).sh (nI e))))) k) k + sumUp (fun e => b2i ((vwS (s.A 514) (s.A 515)).her (nI k) && ((vwS (s.A 514) (s.A 515)).her (nI e) && decide ((vwS (s.A 514) (s.A 515)).sh (nI k) = (vwS (s.A 514) (s.A 515)).sh (nI e))))) 0)), some (.int (nI k)), some (.int (nI 0))]) (by show [_, _, _, _] = [_, _, _, _]; simp [sumUp, nI_0]) ?_
    refine loopUp (P := fun e => AW 5 mX0_twins (hp s) 19 [some (.ref 512), some (.int (sumUp (fun k => sumUp (fun e => b2i ((vwS (s.A 514) (s.A 515)).her (nI k) && ((vwS (s.A 514) (s.A 515)).her (nI e) && decide ((vwS (s.A 514) (s.A 515)).sh (nI k) = (vwS (s.A 514) (s.A 515)).sh (nI e))))) k) k + sumUp (fun e => b2i ((vwS (s.A 514) (s.A 515)).her (nI k) && ((vwS (s.A 514) (s.A 515)).her (nI e) && decide ((vwS (s.A 514) (s.A 515)).sh (nI k) = (vwS (s.A 514) (s.A 515)).sh (nI e))))) e)), some (.int (nI k)), some (.int (nI e))] [] (.inl (some (.int ((vwS (s.A 514) (s.A 515)).twins)))) (hp s)) k ?_ ?_ 0 (by first | exact Nat.zero_le _ | omega)
    · refine AW.iload_n dX0_twins_19 rfl rfl ?_
      refine AW.iload_n dX0_twins_20 rfl rfl ?_
      refine AW.icmp_ge (tgt := 79) dX0_twins_21 (by decide) rfl (fun _ => ?_) (fun c => by first | exact absurd c (Int32.le_refl _) | exact absurd (Int32.le_refl _) c | exact absurd c (not_not_intro (Int32.le_refl _)) | exact Bool.noConfusion (c.symm.trans (Int32.le_refl _)))
      refine AW.iinc (v := 1) dX0_twins_79 rfl (by decide) rfl rfl rfl ?_
      refine AW.goto (tgt := 4) dX0_twins_82 (by decide) ?_
      exact AW.fg 3 rfl (AW.ls (by simp [sumUp, nI_succ]) ihk)
    · intro e he ihe
      have e1 := vwS_sh (Vw.hou_k hn (Nat.lt_trans he hk))
      refine AW.iload_n dX0_twins_19 rfl rfl ?_
      refine AW.iload_n dX0_twins_20 rfl rfl ?_
      refine AW.icmp_ge (tgt := 79) dX0_twins_21 (by decide) rfl (fun c => by first | exact absurd c (loop_in he (by have := Vw.n7 hn; omega) rfl) | exact absurd (loop_in he (by have := Vw.n7 hn; omega) rfl) c | exact Bool.noConfusion (c.symm.trans (loop_in he (by have := Vw.n7 hn; omega) rfl))) (fun _ => ?_)
      refine AW.iload_n dX0_twins_24 rfl rfl ?_
      refine AW.aload_n dX0_twins_25 rfl rfl ?_
      refine AW.iload_n dX0_twins_26 rfl rfl ?_
      refine AW.callV (Y := mX0_isThere) (n := 1) (r_X0_isThere _) (by decide) (by decide) rfl gX q980 q982 qs33 q138 q983 dX0_twins_27 (by decide +kernel) rfl rfl (Nat.le_of_ble_eq_true rfl) rfl ?_
      refine AW.if_eqB (tgt := 70) dX0_twins_30 (by decide) rfl (fun c1 => ?_) (fun c1 => ?_)
      · refine AW.iconst (v := 0) dX0_twins_70 (by decide) rfl ?_
        refine AW.iadd dX0_twins_71 rfl ?_
        refine AW.istore_n (i := 1) dX0_twins_72 rfl rfl (Nat.le_of_ble_eq_true rfl) rfl rfl ?_
        refine AW.iinc (v := 1) dX0_twins_73 rfl (by decide) rfl rfl rfl ?_
        refine AW.goto (tgt := 19) dX0_twins_76 (by decide) ?_
        exact AW.ls (by simp_all [sumUp, nI_succ, b2i, Int32.add_assoc]) ihe
      · refine AW.aload_n dX0_twins_33 rfl rfl ?_
        refine AW.iload_n dX0_twins_34 rfl rfl ?_
        refine AW.callV (Y := mX0_isThere) (n := 1) (r_X0_isThere _) (by decide) (by decide) rfl gX q980 q982 qs33 q138 q983 dX0_twins_35 (by decide +kernel) rfl rfl (Nat.le_of_ble_eq_true rfl) rfl ?_
        refine AW.if_eqB (tgt := 70) dX0_twins_38 (by decide) rfl (fun c2 => ?_) (fun c2 => ?_)
        · refine AW.iconst (v := 0) dX0_twins_70 (by decide) rfl ?_
          refine AW.iadd dX0_twins_71 rfl ?_
          refine AW.istore_n (i := 1) dX0_twins_72 rfl rfl (Nat.le_of_ble_eq_true rfl) rfl rfl ?_
          refine AW.iinc (v := 1) dX0_twins_73 rfl (by decide) rfl rfl rfl ?_
          refine AW.goto (tgt := 19) dX0_twins_76 (by decide) ?_
          exact AW.ls (by simp_all [sumUp, nI_succ, b2i, Int32.add_assoc]) ihe
        · refine AW.aload_n dX0_twins_41 rfl rfl ?_
          refine AW.get ci0 0 (by decide) q229 dX0_twins_42 gX rfl rfl ?_
          refine AW.getN ci1 1 (by decide) q193 dX0_twins_45 gN rfl rfl ?_
          refine AW.iconst (v := 3) dX0_twins_48 (by decide) rfl ?_
          refine AW.iload_n dX0_twins_49 rfl rfl ?_
          refine AW.iadd dX0_twins_50 rfl ?_
          refine AW.iald dX0_twins_51 g515 (in_row hn (Vw.hou_k hn hk) (by decide) (by decide)) rfl rfl ?_
          refine AW.aload_n dX0_twins_52 rfl rfl ?_
          refine AW.get ci0 0 (by decide) q229 dX0_twins_53 gX rfl rfl ?_
          refine AW.getN ci1 1 (by decide) q193 dX0_twins_56 gN rfl rfl ?_
          refine AW.iconst (v := 3) dX0_twins_59 (by decide) rfl ?_
          refine AW.iload_n dX0_twins_60 rfl rfl ?_
          refine AW.iadd dX0_twins_61 rfl ?_
          refine AW.iald dX0_twins_62 g515 (in_row hn (Vw.hou_k hn (Nat.lt_trans he hk)) (by decide) (by decide)) rfl rfl ?_
          refine AW.icmp_ne (tgt := 70) dX0_twins_63 (by decide) rfl (fun c3 => ?_) (fun c3 => ?_)
          · refine AW.iconst (v := 0) dX0_twins_70 (by decide) rfl ?_
            refine AW.iadd dX0_twins_71 rfl ?_
            refine AW.istore_n (i := 1) dX0_twins_72 rfl rfl (Nat.le_of_ble_eq_true rfl) rfl rfl ?_
            refine AW.iinc (v := 1) dX0_twins_73 rfl (by decide) rfl rfl rfl ?_
            refine AW.goto (tgt := 19) dX0_twins_76 (by decide) ?_
            exact AW.ls (by simp_all [sumUp, nI_succ, b2i, Int32.add_assoc]) ihe
          · refine AW.iconst (v := 1) dX0_twins_66 (by decide) rfl ?_
            refine AW.goto (tgt := 71) dX0_twins_67 (by decide) ?_
            refine AW.iadd dX0_twins_71 rfl ?_
            refine AW.istore_n (i := 1) dX0_twins_72 rfl rfl (Nat.le_of_ble_eq_true rfl) rfl rfl ?_
            refine AW.iinc (v := 1) dX0_twins_73 rfl (by decide) rfl rfl rfl ?_
            refine AW.goto (tgt := 19) dX0_twins_76 (by decide) ?_
            exact AW.ls (by simp_all [sumUp, nI_succ, b2i, Int32.add_assoc]) ihe
theorem r_X0_isRound {s : Sg} (hn : (vwS (s.A 514) (s.A 515)).ok) (set : Int32) : Run 5 mX0_isRound [.ref 512, .int set] (hp s) (.inl (some (.int ((vwS (s.A 514) (s.A 515)).isRound set)))) (hp s) := by
  refine Run.of rfl (Nat.le_of_ble_eq_true rfl) rfl ?_
  refine AW.iconst (v := 0) dX0_isRound_0 (by decide) rfl ?_
  refine AW.istore_n (i := 2) dX0_isRound_1 rfl rfl (Nat.le_of_ble_eq_true rfl) rfl rfl ?_
  refine loopUp (P := fun k => AW 5 mX0_isRound (hp s) 2 [some (.ref 512), some (.int (set)), some (.int (nI k))] [] (.inl (some (.int (srch (fun k => (vwS (s.A 514) (s.A 515)).her (nI k) && decide (set &&& ((vwS (s.A 514) (s.A 515)).sh (nI k) ^^^ -1) = 0)) (fun _ => 0) 1 ((vwS (s.A 514) (s.A 515)).n - k) k)))) (hp s)) (vwS (s.A 514) (s.A 515)).n ?_ ?_ 0 (by first | exact Nat.zero_le _ | omega)
  · refine AW.iload_n dX0_isRound_2 rfl rfl ?_
    refine AW.aload_n dX0_isRound_3 rfl rfl ?_
    refine AW.get ci0 0 (by decide) q229 dX0_isRound_4 gX rfl rfl ?_
    refine AW.getN ci1 0 (by decide) q191 dX0_isRound_7 gN rfl rfl ?_
    refine AW.iconst (v := 0) dX0_isRound_10 (by decide) rfl ?_
    refine AW.iald dX0_isRound_11 g514 (vp_in_iff.mpr (by decide)) (j := 0) (by decide) rfl ?_
    refine AW.icmp_ge (tgt := 49) dX0_isRound_12 (by decide) rfl (fun _ => ?_) (fun c => by first | exact absurd c (loop_end (by have := Vw.n7 hn; omega) (Vw.nN hn)) | exact absurd (loop_end (by have := Vw.n7 hn; omega) (Vw.nN hn)) c | exact absurd c (not_not_intro (loop_end (by have := Vw.n7 hn; omega) (Vw.nN hn))) | exact Bool.noConfusion (c.symm.trans (loop_end (by have := Vw.n7 hn; omega) (Vw.nN hn))))
    refine AW.iconst (v := 1) dX0_isRound_49 (by decide) rfl ?_
    exact AW.zretE dX0_isRound_50 rfl rfl srch_e.symm (Or.inr srch_e) rfl
  · intro k hk ihk
    have e0 := vwS_sh (Vw.hou_k hn hk)
    refine AW.iload_n dX0_isRound_2 rfl rfl ?_
    refine AW.aload_n dX0_isRound_3 rfl rfl ?_
    refine AW.get ci0 0 (by decide) q229 dX0_isRound_4 gX rfl rfl ?_
    refine AW.getN ci1 0 (by decide) q191 dX0_isRound_7 gN rfl rfl ?_
    refine AW.iconst (v := 0) dX0_isRound_10 (by decide) rfl ?_
    refine AW.iald dX0_isRound_11 g514 (vp_in_iff.mpr (by decide)) (j := 0) (by decide) rfl ?_
    refine AW.icmp_ge (tgt := 49) dX0_isRound_12 (by decide) rfl (fun c => by first | exact absurd c (loop_in hk (by have := Vw.n7 hn; omega) (Vw.nN hn)) | exact absurd (loop_in hk (by have := Vw.n7 hn; omega) (Vw.nN hn)) c | exact Bool.noConfusion (c.symm.trans (loop_in hk (by have := Vw.n7 hn; omega) (Vw.nN hn)))) (fun _ => ?_)
    refine AW.aload_n dX0_isRound_15 rfl rfl ?_
    refine AW.iload_n dX0_isRound_16 rfl rfl ?_
    refine AW.callV (Y := mX0_isThere) (n := 1) (r_X0_isThere _) (by decide) (by decide) rfl gX q980 q982 qs33 q138 q983 dX0_isRound_17 (by decide +kernel) rfl rfl (Nat.le_of_ble_eq_true rfl) rfl ?_
    refine AW.if_eqB (tgt := 43) dX0_isRound_20 (by decide) rfl (fun c => ?_) (fun c => ?_)
    · refine AW.iinc (v := 1) dX0_isRound_43 rfl (by decide) rfl rfl rfl ?_
      refine AW.goto (tgt := 2) dX0_isRound_46 (by decide) ?_
      exact AW.ls (by rw [nI_succ]; rfl) (AW.oo (by rw [srch_f hk (by simp_all)]) ihk)
    · refine AW.iload_n dX0_isRound_23 rfl rfl ?_
      refine AW.aload_n dX0_isRound_24 rfl rfl ?_
      refine AW.get ci0 0 (by decide) q229 dX0_isRound_25 gX rfl rfl ?_
      refine AW.getN ci1 1 (by decide) q193 dX0_isRound_28 gN rfl rfl ?_
      refine AW.iconst (v := 3) dX0_isRound_31 (by decide) rfl ?_
      refine AW.iload_n dX0_isRound_32 rfl rfl ?_
      refine AW.iadd dX0_isRound_33 rfl ?_
      refine AW.iald dX0_isRound_34 g515 (in_row hn (Vw.hou_k hn hk) (by decide) (by decide)) rfl rfl ?_
      refine AW.iconst (v := (-1)) dX0_isRound_35 (by decide) rfl ?_
      refine AW.ixor dX0_isRound_36 rfl ?_
      refine AW.iand dX0_isRound_37 rfl ?_
      refine AW.if_ne (tgt := 43) dX0_isRound_38 (by decide) rfl (fun c2 => ?_) (fun c2 => ?_)
      · refine AW.iinc (v := 1) dX0_isRound_43 rfl (by decide) rfl rfl rfl ?_
        refine AW.goto (tgt := 2) dX0_isRound_46 (by decide) ?_
        exact AW.ls (by rw [nI_succ]; rfl) (AW.oo (by rw [srch_f hk (by simp_all)]) ihk)
      · refine AW.iconst (v := 0) dX0_isRound_41 (by decide) rfl ?_
        have hq : (fun k => (vwS (s.A 514) (s.A 515)).her (nI k) && decide (set &&& ((vwS (s.A 514) (s.A 515)).sh (nI k) ^^^ -1) = 0)) k = true := by show ((vwS (s.A 514) (s.A 515)).her (nI k) && decide (set &&& ((vwS (s.A 514) (s.A 515)).sh (nI k) ^^^ -1) = 0)) = true; rw [e0, c, dec_t c2]; rfl
        exact AW.zretE dX0_isRound_42 rfl rfl (srch_t (f := fun _ => 0) hk hq).symm (Or.inl (srch_t (f := fun _ => 0) hk hq)) rfl
theorem r_X0_book {s : Sg} (hb : (bkS (s.A 515)).ok) (i w : Int32) : Run 3 mX0_book [.ref 512, .int i, .int w] (hp s) (.inl (some (.int ((bkS (s.A 515)).book i w)))) (hp s) := by
  refine Run.of rfl (Nat.le_of_ble_eq_true rfl) rfl ?_
  refine AW.iload_n dX0_book_0 rfl rfl ?_
  refine AW.iconst (v := (-1)) dX0_book_1 (by decide) rfl ?_
  refine AW.icmp_ne (tgt := 16) dX0_book_2 (by decide) rfl (fun c => ?_) (fun c => ?_)
  · refine AW.iload_n dX0_book_16 rfl rfl ?_
    refine AW.iconst (v := 0) dX0_book_17 (by decide) rfl ?_
    refine AW.aload_n dX0_book_18 rfl rfl ?_
    refine AW.get ci0 0 (by decide) q229 dX0_book_19 gX rfl rfl ?_
    refine AW.getN ci1 1 (by decide) q193 dX0_book_22 gN rfl rfl ?_
    refine AW.bipush (v := 24) dX0_book_25 (by decide) rfl ?_
    refine AW.iald dX0_book_27 g515 (vp_in_iff.mpr (by decide)) (j := 24) (by decide) rfl ?_
    refine AW.iconst (v := 1) dX0_book_28 (by decide) rfl ?_
    refine AW.isub dX0_book_29 rfl ?_
    refine AW.callS (Y := mX0_in) (n := 3) (r_X0_in _ _ _) (by decide) (by decide) q271 q272 q138 q273 dX0_book_30 (by decide +kernel) rfl rfl (Nat.le_of_ble_eq_true rfl) rfl ?_
    refine AW.if_eqB (tgt := 64) dX0_book_33 (by decide) rfl (fun c2 => ?_) (fun c2 => ?_)
    · refine AW.bipush (v := (-2)) dX0_book_64 (by decide) rfl ?_
      have e : (bkS (s.A 515)).N = s.A 515 24 := rfl
      exact AW.iretE dX0_book_66 rfl rfl (by first | (unfold Bw.book; rw [if_pos c]; rfl) | (unfold Bw.book; rw [if_neg c, e, c2]; rfl) | (unfold Bw.book; rw [if_neg c, e, c2, c3]; rfl) | (unfold Bw.book; rw [if_neg c, e, c2, c3]; unfold Bw.entry; rw [bkS_d hi, bkS_h hi, bkS_s hi]; have q1 := cI_of hw0; have hw9 : w.toInt ≤ 2 := hw2.2; by_cases w0 : w = 0; (subst w0; rfl); by_cases w1 : w = 1; (subst w1; rfl); have w2 : w = 2 := Int32.toInt_inj.mp (by have z0 : ¬ w.toInt = 0 := fun q => w0 (Int32.toInt_inj.mp q); have z1 : ¬ w.toInt = 1 := fun q => w1 (Int32.toInt_inj.mp q); show w.toInt = 2; omega); subst w2; rfl)) rfl
    · refine AW.iload_n dX0_book_36 rfl rfl ?_
      refine AW.iconst (v := 0) dX0_book_37 (by decide) rfl ?_
      refine AW.iconst (v := 2) dX0_book_38 (by decide) rfl ?_
      refine AW.callS (Y := mX0_in) (n := 3) (r_X0_in _ _ _) (by decide) (by decide) q271 q272 q138 q273 dX0_book_39 (by decide +kernel) rfl rfl (Nat.le_of_ble_eq_true rfl) rfl ?_
      refine AW.if_eqB (tgt := 64) dX0_book_42 (by decide) rfl (fun c3 => ?_) (fun c3 => ?_)
      · refine AW.bipush (v := (-2)) dX0_book_64 (by decide) rfl ?_
        have e : (bkS (s.A 515)).N = s.A 515 24 := rfl
        exact AW.iretE dX0_book_66 rfl rfl (by first | (unfold Bw.book; rw [if_pos c]; rfl) | (unfold Bw.book; rw [if_neg c, e, c2]; rfl) | (unfold Bw.book; rw [if_neg c, e, c2, c3]; rfl) | (unfold Bw.book; rw [if_neg c, e, c2, c3]; unfold Bw.entry; rw [bkS_d hi, bkS_h hi, bkS_s hi]; have q1 := cI_of hw0; have hw9 : w.toInt ≤ 2 := hw2.2; by_cases w0 : w = 0; (subst w0; rfl); by_cases w1 : w = 1; (subst w1; rfl); have w2 : w = 2 := Int32.toInt_inj.mp (by have z0 : ¬ w.toInt = 0 := fun q => w0 (Int32.toInt_inj.mp q); have z1 : ¬ w.toInt = 1 := fun q => w1 (Int32.toInt_inj.mp q); show w.toInt = 2; omega); subst w2; rfl)) rfl
      · have hi2 := inI_iff.mp c2
        have hi0 : 0 ≤ i.toInt := hi2.1
        have h3 : ((bkS (s.A 515)).N - 1).toInt = (bkS (s.A 515)).N.toInt - 1 := by have := hb.1; have := hb.2; rw [subI] <;> (try simp) <;> omega
        have hi3 : i.toInt ≤ (bkS (s.A 515)).N.toInt - 1 := by rw [← h3]; exact hi2.2
        have hi : cI i < (bkS (s.A 515)).n := by have q1 := cI_of hi0; have q2 : ((bkS (s.A 515)).n : Int) = (bkS (s.A 515)).N.toInt := cI_of hb.1; omega
        have h40 : cI i < 40 := Nat.lt_of_lt_of_le hi (Bw.n40 hb)
        have hw2 := inI_iff.mp c3
        have hw0 : 0 ≤ w.toInt := hw2.1
        have hw1 : cI w < 3 := by have q1 := cI_of hw0; have : w.toInt ≤ 2 := hw2.2; omega
        have ei : (25 : Int32) + 3 * i = nI (25 + 3 * cI i) := by rw [← pg, nI_cI hi0]
        have ew : w = nI (cI w) := (nI_cI hw0).symm
        have ex : (25 : Int32) + 3 * i + w = nI (25 + 3 * cI i) + nI (cI w) := by rw [ei, ← ew]
        refine AW.aload_n dX0_book_45 rfl rfl ?_
        refine AW.get ci0 0 (by decide) q229 dX0_book_46 gX rfl rfl ?_
        refine AW.getN ci1 1 (by decide) q193 dX0_book_49 gN rfl rfl ?_
        refine AW.bipush (v := 25) dX0_book_52 (by decide) rfl ?_
        refine AW.iconst (v := 3) dX0_book_54 (by decide) rfl ?_
        refine AW.iload_n dX0_book_55 rfl rfl ?_
        refine AW.imul dX0_book_56 rfl ?_
        refine AW.iadd dX0_book_57 rfl ?_
        refine AW.iload_n dX0_book_58 rfl rfl ?_
        refine AW.iadd dX0_book_59 rfl ?_
        refine AW.iald dX0_book_60 g515 (by rw [ex]; exact pg_in h40 hw1) (j := 25 + cI w + 3 * cI i) (by rw [ex]; exact pg_at h40 hw1) rfl ?_
        refine AW.goto (tgt := 66) dX0_book_61 (by decide) ?_
        have e : (bkS (s.A 515)).N = s.A 515 24 := rfl
        exact AW.iretE dX0_book_66 rfl rfl (by first | (unfold Bw.book; rw [if_pos c]; rfl) | (unfold Bw.book; rw [if_neg c, e, c2]; rfl) | (unfold Bw.book; rw [if_neg c, e, c2, c3]; rfl) | (unfold Bw.book; rw [if_neg c, e, c2, c3]; unfold Bw.entry; rw [bkS_d hi, bkS_h hi, bkS_s hi]; have q1 := cI_of hw0; have hw9 : w.toInt ≤ 2 := hw2.2; by_cases w0 : w = 0; (subst w0; rfl); by_cases w1 : w = 1; (subst w1; rfl); have w2 : w = 2 := Int32.toInt_inj.mp (by have z0 : ¬ w.toInt = 0 := fun q => w0 (Int32.toInt_inj.mp q); have z1 : ¬ w.toInt = 1 := fun q => w1 (Int32.toInt_inj.mp q); show w.toInt = 2; omega); subst w2; rfl)) rfl
  · refine AW.aload_n dX0_book_5 rfl rfl ?_
    refine AW.get ci0 0 (by decide) q229 dX0_book_6 gX rfl rfl ?_
    refine AW.getN ci1 1 (by decide) q193 dX0_book_9 gN rfl rfl ?_
    refine AW.bipush (v := 24) dX0_book_12 (by decide) rfl ?_
    refine AW.iald dX0_book_14 g515 (vp_in_iff.mpr (by decide)) (j := 24) (by decide) rfl ?_
    have e : (bkS (s.A 515)).N = s.A 515 24 := rfl
    exact AW.iretE dX0_book_15 rfl rfl (by first | (unfold Bw.book; rw [if_pos c]; rfl) | (unfold Bw.book; rw [if_neg c, e, c2]; rfl) | (unfold Bw.book; rw [if_neg c, e, c2, c3]; rfl) | (unfold Bw.book; rw [if_neg c, e, c2, c3]; unfold Bw.entry; rw [bkS_d hi, bkS_h hi, bkS_s hi]; have q1 := cI_of hw0; have hw9 : w.toInt ≤ 2 := hw2.2; by_cases w0 : w = 0; (subst w0; rfl); by_cases w1 : w = 1; (subst w1; rfl); have w2 : w = 2 := Int32.toInt_inj.mp (by have z0 : ¬ w.toInt = 0 := fun q => w0 (Int32.toInt_inj.mp q); have z1 : ¬ w.toInt = 1 := fun q => w1 (Int32.toInt_inj.mp q); show w.toInt = 2; omega); subst w2; rfl)) rfl
theorem r_X0_knocksAt {s : Sg} (hb : (bkS (s.A 515)).ok) (h z : Int32) : Run 3 mX0_knocksAt [.ref 512, .int h, .int z] (hp s) (.inl (some (.int ((bkS (s.A 515)).knocksAt h z)))) (hp s) := by
  refine Run.of rfl (Nat.le_of_ble_eq_true rfl) rfl ?_
  refine AW.iconst (v := 0) dX0_knocksAt_0 (by decide) rfl ?_
  refine AW.istore_n (i := 3) dX0_knocksAt_1 rfl rfl (Nat.le_of_ble_eq_true rfl) rfl rfl ?_
  refine AW.iconst (v := 0) dX0_knocksAt_2 (by decide) rfl ?_
  refine AW.istore dX0_knocksAt_3 rfl (Nat.le_of_ble_eq_true rfl) rfl rfl ?_
  refine loopUp (P := fun k => AW 3 mX0_knocksAt (hp s) 5 [some (.ref 512), some (.int (h)), some (.int (z)), some (.int (sumUp (fun i => b2i (decide ((bkS (s.A 515)).s i = z) && (decide (h = -1) || decide ((bkS (s.A 515)).h i = h)))) k)), some (.int (nI k)), none] [] (.inl (some (.int ((bkS (s.A 515)).knocksAt h z)))) (hp s)) (bkS (s.A 515)).n ?_ ?_ 0 (by first | exact Nat.zero_le _ | omega)
  · refine AW.iload dX0_knocksAt_5 rfl rfl ?_
    refine AW.aload_n dX0_knocksAt_7 rfl rfl ?_
    refine AW.get ci0 0 (by decide) q229 dX0_knocksAt_8 gX rfl rfl ?_
    refine AW.getN ci1 1 (by decide) q193 dX0_knocksAt_11 gN rfl rfl ?_
    refine AW.bipush (v := 24) dX0_knocksAt_14 (by decide) rfl ?_
    refine AW.iald dX0_knocksAt_16 g515 (vp_in_iff.mpr (by decide)) (j := 24) (by decide) rfl ?_
    refine AW.icmp_ge (tgt := 80) dX0_knocksAt_17 (by decide) rfl (fun _ => ?_) (fun c => by first | exact absurd c (loop_end (by have := Bw.n40 hb; omega) (Bw.nN hb)) | exact absurd (loop_end (by have := Bw.n40 hb; omega) (Bw.nN hb)) c | exact absurd c (not_not_intro (loop_end (by have := Bw.n40 hb; omega) (Bw.nN hb))) | exact Bool.noConfusion (c.symm.trans (loop_end (by have := Bw.n40 hb; omega) (Bw.nN hb))))
    refine AW.iload_n dX0_knocksAt_80 rfl rfl ?_
    exact AW.iretE dX0_knocksAt_81 rfl rfl rfl rfl
  · intro k hk ihk
    have h40 : k < 40 := Nat.lt_of_lt_of_le hk (Bw.n40 hb)
    have e1 := bkS_h hk
    have e2 := bkS_s hk
    refine AW.iload dX0_knocksAt_5 rfl rfl ?_
    refine AW.aload_n dX0_knocksAt_7 rfl rfl ?_
    refine AW.get ci0 0 (by decide) q229 dX0_knocksAt_8 gX rfl rfl ?_
    refine AW.getN ci1 1 (by decide) q193 dX0_knocksAt_11 gN rfl rfl ?_
    refine AW.bipush (v := 24) dX0_knocksAt_14 (by decide) rfl ?_
    refine AW.iald dX0_knocksAt_16 g515 (vp_in_iff.mpr (by decide)) (j := 24) (by decide) rfl ?_
    refine AW.icmp_ge (tgt := 80) dX0_knocksAt_17 (by decide) rfl (fun c => by first | exact absurd c (loop_in hk (by have := Bw.n40 hb; omega) (Bw.nN hb)) | exact absurd (loop_in hk (by have := Bw.n40 hb; omega) (Bw.nN hb)) c | exact Bool.noConfusion (c.symm.trans (loop_in hk (by have := Bw.n40 hb; omega) (Bw.nN hb)))) (fun _ => ?_)
    refine AW.bipush (v := 25) dX0_knocksAt_20 (by decide) rfl ?_
    refine AW.iconst (v := 3) dX0_knocksAt_22 (by decide) rfl ?_
    refine AW.iload dX0_knocksAt_23 rfl rfl ?_
    refine AW.imul dX0_knocksAt_25 rfl ?_
    refine AW.iadd dX0_knocksAt_26 rfl ?_
    refine AW.istore dX0_knocksAt_27 rfl (Nat.le_of_ble_eq_true rfl) rfl rfl ?_
    refine AW.iload_n dX0_knocksAt_29 rfl rfl ?_
    refine AW.iload_n dX0_knocksAt_30 rfl rfl ?_
    refine AW.iconst (v := (-1)) dX0_knocksAt_31 (by decide) rfl ?_
    refine AW.icmp_eq (tgt := 51) dX0_knocksAt_32 (by decide) rfl (fun c1 => ?_) (fun c1 => ?_)
    · refine AW.aload_n dX0_knocksAt_51 rfl rfl ?_
      refine AW.get ci0 0 (by decide) q229 dX0_knocksAt_52 gX rfl rfl ?_
      refine AW.getN ci1 1 (by decide) q193 dX0_knocksAt_55 gN rfl rfl ?_
      refine AW.iload dX0_knocksAt_58 rfl rfl ?_
      refine AW.iconst (v := 2) dX0_knocksAt_60 (by decide) rfl ?_
      refine AW.iadd dX0_knocksAt_61 rfl ?_
      refine AW.iald dX0_knocksAt_62 g515 (by rw [pg]; exact pg_in (w := 2) h40 (by decide)) (j := 27 + 3 * k) (by rw [pg]; exact pg_at (w := 2) h40 (by decide)) rfl ?_
      refine AW.iload_n dX0_knocksAt_63 rfl rfl ?_
      refine AW.icmp_ne (tgt := 71) dX0_knocksAt_64 (by decide) rfl (fun c3 => ?_) (fun c3 => ?_)
      · refine AW.iconst (v := 0) dX0_knocksAt_71 (by decide) rfl ?_
        refine AW.iadd dX0_knocksAt_72 rfl ?_
        refine AW.istore_n (i := 3) dX0_knocksAt_73 rfl rfl (Nat.le_of_ble_eq_true rfl) rfl rfl ?_
        refine AW.iinc (v := 1) dX0_knocksAt_74 rfl (by decide) rfl rfl rfl ?_
        refine AW.goto (tgt := 5) dX0_knocksAt_77 (by decide) ?_
        exact AW.fg 5 rfl (AW.ls (by simp [sumUp, nI_succ, b2i, e1, e2, *]) ihk)
      · refine AW.iconst (v := 1) dX0_knocksAt_67 (by decide) rfl ?_
        refine AW.goto (tgt := 72) dX0_knocksAt_68 (by decide) ?_
        refine AW.iadd dX0_knocksAt_72 rfl ?_
        refine AW.istore_n (i := 3) dX0_knocksAt_73 rfl rfl (Nat.le_of_ble_eq_true rfl) rfl rfl ?_
        refine AW.iinc (v := 1) dX0_knocksAt_74 rfl (by decide) rfl rfl rfl ?_
        refine AW.goto (tgt := 5) dX0_knocksAt_77 (by decide) ?_
        exact AW.fg 5 rfl (AW.ls (by simp [sumUp, nI_succ, b2i, e1, e2, *]) ihk)
    · refine AW.aload_n dX0_knocksAt_35 rfl rfl ?_
      refine AW.get ci0 0 (by decide) q229 dX0_knocksAt_36 gX rfl rfl ?_
      refine AW.getN ci1 1 (by decide) q193 dX0_knocksAt_39 gN rfl rfl ?_
      refine AW.iload dX0_knocksAt_42 rfl rfl ?_
      refine AW.iconst (v := 1) dX0_knocksAt_44 (by decide) rfl ?_
      refine AW.iadd dX0_knocksAt_45 rfl ?_
      refine AW.iald dX0_knocksAt_46 g515 (by rw [pg]; exact pg_in (w := 1) h40 (by decide)) (j := 26 + 3 * k) (by rw [pg]; exact pg_at (w := 1) h40 (by decide)) rfl ?_
      refine AW.iload_n dX0_knocksAt_47 rfl rfl ?_
      refine AW.icmp_ne (tgt := 71) dX0_knocksAt_48 (by decide) rfl (fun c2 => ?_) (fun c2 => ?_)
      · refine AW.iconst (v := 0) dX0_knocksAt_71 (by decide) rfl ?_
        refine AW.iadd dX0_knocksAt_72 rfl ?_
        refine AW.istore_n (i := 3) dX0_knocksAt_73 rfl rfl (Nat.le_of_ble_eq_true rfl) rfl rfl ?_
        refine AW.iinc (v := 1) dX0_knocksAt_74 rfl (by decide) rfl rfl rfl ?_
        refine AW.goto (tgt := 5) dX0_knocksAt_77 (by decide) ?_
        exact AW.fg 5 rfl (AW.ls (by simp [sumUp, nI_succ, b2i, e1, e2, *]) ihk)
      · refine AW.aload_n dX0_knocksAt_51 rfl rfl ?_
        refine AW.get ci0 0 (by decide) q229 dX0_knocksAt_52 gX rfl rfl ?_
        refine AW.getN ci1 1 (by decide) q193 dX0_knocksAt_55 gN rfl rfl ?_
        refine AW.iload dX0_knocksAt_58 rfl rfl ?_
        refine AW.iconst (v := 2) dX0_knocksAt_60 (by decide) rfl ?_
        refine AW.iadd dX0_knocksAt_61 rfl ?_
        refine AW.iald dX0_knocksAt_62 g515 (by rw [pg]; exact pg_in (w := 2) h40 (by decide)) (j := 27 + 3 * k) (by rw [pg]; exact pg_at (w := 2) h40 (by decide)) rfl ?_
        refine AW.iload_n dX0_knocksAt_63 rfl rfl ?_
        refine AW.icmp_ne (tgt := 71) dX0_knocksAt_64 (by decide) rfl (fun c3 => ?_) (fun c3 => ?_)
        · refine AW.iconst (v := 0) dX0_knocksAt_71 (by decide) rfl ?_
          refine AW.iadd dX0_knocksAt_72 rfl ?_
          refine AW.istore_n (i := 3) dX0_knocksAt_73 rfl rfl (Nat.le_of_ble_eq_true rfl) rfl rfl ?_
          refine AW.iinc (v := 1) dX0_knocksAt_74 rfl (by decide) rfl rfl rfl ?_
          refine AW.goto (tgt := 5) dX0_knocksAt_77 (by decide) ?_
          exact AW.fg 5 rfl (AW.ls (by simp [sumUp, nI_succ, b2i, e1, e2, *]) ihk)
        · refine AW.iconst (v := 1) dX0_knocksAt_67 (by decide) rfl ?_
          refine AW.goto (tgt := 72) dX0_knocksAt_68 (by decide) ?_
          refine AW.iadd dX0_knocksAt_72 rfl ?_
          refine AW.istore_n (i := 3) dX0_knocksAt_73 rfl rfl (Nat.le_of_ble_eq_true rfl) rfl rfl ?_
          refine AW.iinc (v := 1) dX0_knocksAt_74 rfl (by decide) rfl rfl rfl ?_
          refine AW.goto (tgt := 5) dX0_knocksAt_77 (by decide) ?_
          exact AW.fg 5 rfl (AW.ls (by simp [sumUp, nI_succ, b2i, e1, e2, *]) ihk)
theorem r_X0_knocks {s : Sg} (hb : (bkS (s.A 515)).ok) (h z : Int32) : Run 4 mX0_knocks [.ref 512, .int h, .int z] (hp s) (.inl (some (.int ((bkS (s.A 515)).knocks (vwS (s.A 514) (s.A 515)) h z)))) (hp s) := by
  refine Run.of rfl (Nat.le_of_ble_eq_true rfl) rfl ?_
  refine AW.iload_n dX0_knocks_0 rfl rfl ?_
  refine AW.iconst (v := (-1)) dX0_knocks_1 (by decide) rfl ?_
  refine AW.icmp_eq (tgt := 13) dX0_knocks_2 (by decide) rfl (fun c => ?_) (fun c => ?_)
  · refine AW.aload_n dX0_knocks_13 rfl rfl ?_
    refine AW.iload_n dX0_knocks_14 rfl rfl ?_
    refine AW.iload_n dX0_knocks_15 rfl rfl ?_
    refine AW.if_eq (tgt := 23) dX0_knocks_16 (by decide) rfl (fun c3 => ?_) (fun c3 => ?_)
    · refine AW.iconst (v := 0) dX0_knocks_23 (by decide) rfl ?_
      refine AW.callV (Y := mX0_knocksAt) (n := 2) (r_X0_knocksAt hb _ _) (by decide) (by decide) rfl gX q1317 q1319 qs60 q138 q1320 dX0_knocks_24 (by decide +kernel) rfl rfl (Nat.le_of_ble_eq_true rfl) rfl ?_
      refine AW.goto (tgt := 32) dX0_knocks_27 (by decide) ?_
      exact AW.iretE dX0_knocks_32 rfl rfl (by simp [Bw.knocks, *]) rfl
    · refine AW.iconst (v := 1) dX0_knocks_19 (by decide) rfl ?_
      refine AW.goto (tgt := 24) dX0_knocks_20 (by decide) ?_
      refine AW.callV (Y := mX0_knocksAt) (n := 2) (r_X0_knocksAt hb _ _) (by decide) (by decide) rfl gX q1317 q1319 qs60 q138 q1320 dX0_knocks_24 (by decide +kernel) rfl rfl (Nat.le_of_ble_eq_true rfl) rfl ?_
      refine AW.goto (tgt := 32) dX0_knocks_27 (by decide) ?_
      exact AW.iretE dX0_knocks_32 rfl rfl (by simp [Bw.knocks, *]) rfl
  · refine AW.aload_n dX0_knocks_5 rfl rfl ?_
    refine AW.iload_n dX0_knocks_6 rfl rfl ?_
    refine AW.callV (Y := mX0_isHouse) (n := 1) (r_X0_isHouse (r := s.A 515) _) (by decide) (by decide) rfl gX q895 q897 qs30 q138 q898 dX0_knocks_7 (by decide +kernel) rfl rfl (Nat.le_of_ble_eq_true rfl) rfl ?_
    refine AW.if_eqB (tgt := 30) dX0_knocks_10 (by decide) rfl (fun c2 => ?_) (fun c2 => ?_)
    · refine AW.bipush (v := (-2)) dX0_knocks_30 (by decide) rfl ?_
      exact AW.iretE dX0_knocks_32 rfl rfl (by simp [Bw.knocks, *]) rfl
    · refine AW.aload_n dX0_knocks_13 rfl rfl ?_
      refine AW.iload_n dX0_knocks_14 rfl rfl ?_
      refine AW.iload_n dX0_knocks_15 rfl rfl ?_
      refine AW.if_eq (tgt := 23) dX0_knocks_16 (by decide) rfl (fun c3 => ?_) (fun c3 => ?_)
      · refine AW.iconst (v := 0) dX0_knocks_23 (by decide) rfl ?_
        refine AW.callV (Y := mX0_knocksAt) (n := 2) (r_X0_knocksAt hb _ _) (by decide) (by decide) rfl gX q1317 q1319 qs60 q138 q1320 dX0_knocks_24 (by decide +kernel) rfl rfl (Nat.le_of_ble_eq_true rfl) rfl ?_
        refine AW.goto (tgt := 32) dX0_knocks_27 (by decide) ?_
        exact AW.iretE dX0_knocks_32 rfl rfl (by simp [Bw.knocks, *]) rfl
      · refine AW.iconst (v := 1) dX0_knocks_19 (by decide) rfl ?_
        refine AW.goto (tgt := 24) dX0_knocks_20 (by decide) ?_
        refine AW.callV (Y := mX0_knocksAt) (n := 2) (r_X0_knocksAt hb _ _) (by decide) (by decide) rfl gX q1317 q1319 qs60 q138 q1320 dX0_knocks_24 (by decide +kernel) rfl rfl (Nat.le_of_ble_eq_true rfl) rfl ?_
        refine AW.goto (tgt := 32) dX0_knocks_27 (by decide) ?_
        exact AW.iretE dX0_knocks_32 rfl rfl (by simp [Bw.knocks, *]) rfl
theorem r_X0_offended {s : Sg} (hn : (vwS (s.A 514) (s.A 515)).ok) (hb : (bkS (s.A 515)).ok) : Run 4 mX0_offended [.ref 512] (hp s) (.inl (some (.int ((bkS (s.A 515)).offS (vwS (s.A 514) (s.A 515)).n)))) (hp s) := by
  refine Run.of rfl (Nat.le_of_ble_eq_true rfl) rfl ?_
  refine AW.iconst (v := (-1)) dX0_offended_0 (by decide) rfl ?_
  refine AW.istore_n (i := 1) dX0_offended_1 rfl rfl (Nat.le_of_ble_eq_true rfl) rfl rfl ?_
  refine AW.iconst (v := 0) dX0_offended_2 (by decide) rfl ?_
  refine AW.istore_n (i := 2) dX0_offended_3 rfl rfl (Nat.le_of_ble_eq_true rfl) rfl rfl ?_
  refine loopUp (P := fun k => AW 4 mX0_offended (hp s) 4 [some (.ref 512), some (.int ((bkS (s.A 515)).offS k)), some (.int (nI k))] [] (.inl (some (.int ((bkS (s.A 515)).offS (vwS (s.A 514) (s.A 515)).n)))) (hp s)) (vwS (s.A 514) (s.A 515)).n ?_ ?_ 0 (by first | exact Nat.zero_le _ | omega)
  · refine AW.iload_n dX0_offended_4 rfl rfl ?_
    refine AW.aload_n dX0_offended_5 rfl rfl ?_
    refine AW.get ci0 0 (by decide) q229 dX0_offended_6 gX rfl rfl ?_
    refine AW.getN ci1 0 (by decide) q191 dX0_offended_9 gN rfl rfl ?_
    refine AW.iconst (v := 0) dX0_offended_12 (by decide) rfl ?_
    refine AW.iald dX0_offended_13 g514 (vp_in_iff.mpr (by decide)) (j := 0) (by decide) rfl ?_
    refine AW.icmp_ge (tgt := 49) dX0_offended_14 (by decide) rfl (fun _ => ?_) (fun c => by first | exact absurd c (loop_end (by have := Vw.n7 hn; omega) (Vw.nN hn)) | exact absurd (loop_end (by have := Vw.n7 hn; omega) (Vw.nN hn)) c | exact absurd c (not_not_intro (loop_end (by have := Vw.n7 hn; omega) (Vw.nN hn))) | exact Bool.noConfusion (c.symm.trans (loop_end (by have := Vw.n7 hn; omega) (Vw.nN hn))))
    refine AW.iload_n dX0_offended_49 rfl rfl ?_
    exact AW.iretE dX0_offended_50 rfl rfl rfl rfl
  · intro k hk ihk
    refine AW.iload_n dX0_offended_4 rfl rfl ?_
    refine AW.aload_n dX0_offended_5 rfl rfl ?_
    refine AW.get ci0 0 (by decide) q229 dX0_offended_6 gX rfl rfl ?_
    refine AW.getN ci1 0 (by decide) q191 dX0_offended_9 gN rfl rfl ?_
    refine AW.iconst (v := 0) dX0_offended_12 (by decide) rfl ?_
    refine AW.iald dX0_offended_13 g514 (vp_in_iff.mpr (by decide)) (j := 0) (by decide) rfl ?_
    refine AW.icmp_ge (tgt := 49) dX0_offended_14 (by decide) rfl (fun c => by first | exact absurd c (loop_in hk (by have := Vw.n7 hn; omega) (Vw.nN hn)) | exact absurd (loop_in hk (by have := Vw.n7 hn; omega) (Vw.nN hn)) c | exact Bool.noConfusion (c.symm.trans (loop_in hk (by have := Vw.n7 hn; omega) (Vw.nN hn)))) (fun _ => ?_)
    refine AW.aload_n dX0_offended_17 rfl rfl ?_
    refine AW.iload_n dX0_offended_18 rfl rfl ?_
    refine AW.iconst (v := 1) dX0_offended_19 (by decide) rfl ?_
    refine AW.callV (Y := mX0_knocksAt) (n := 2) (r_X0_knocksAt hb _ _) (by decide) (by decide) rfl gX q1317 q1319 qs60 q138 q1320 dX0_offended_20 (by decide +kernel) rfl rfl (Nat.le_of_ble_eq_true rfl) rfl ?_
    refine AW.iload_n dX0_offended_23 rfl rfl ?_
    refine AW.iconst (v := (-1)) dX0_offended_24 (by decide) rfl ?_
    refine AW.icmp_ne (tgt := 32) dX0_offended_25 (by decide) rfl (fun c1 => ?_) (fun c1 => ?_)
    · refine AW.aload_n dX0_offended_32 rfl rfl ?_
      refine AW.iload_n dX0_offended_33 rfl rfl ?_
      refine AW.iconst (v := 1) dX0_offended_34 (by decide) rfl ?_
      refine AW.callV (Y := mX0_knocksAt) (n := 2) (r_X0_knocksAt hb _ _) (by decide) (by decide) rfl gX q1317 q1319 qs60 q138 q1320 dX0_offended_35 (by decide +kernel) rfl rfl (Nat.le_of_ble_eq_true rfl) rfl ?_
      refine AW.icmp_le (tgt := 43) dX0_offended_38 (by decide) rfl (fun c2 => ?_) (fun c2 => ?_)
      · refine AW.iinc (v := 1) dX0_offended_43 rfl (by decide) rfl rfl rfl ?_
        refine AW.goto (tgt := 4) dX0_offended_46 (by decide) ?_
        exact AW.ls (by have e : (bkS (s.A 515)).offS (k + 1) = if (if (bkS (s.A 515)).offS k = -1 then 0 else (bkS (s.A 515)).knocksAt ((bkS (s.A 515)).offS k) 1) < (bkS (s.A 515)).knocksAt (nI k) 1 then nI k else (bkS (s.A 515)).offS k := rfl; (try have c3 := Int32.not_lt.mpr c2); simp_all [nI_succ]) ihk
      · refine AW.iload_n dX0_offended_41 rfl rfl ?_
        refine AW.istore_n (i := 1) dX0_offended_42 rfl rfl (Nat.le_of_ble_eq_true rfl) rfl rfl ?_
        refine AW.iinc (v := 1) dX0_offended_43 rfl (by decide) rfl rfl rfl ?_
        refine AW.goto (tgt := 4) dX0_offended_46 (by decide) ?_
        exact AW.ls (by have e : (bkS (s.A 515)).offS (k + 1) = if (if (bkS (s.A 515)).offS k = -1 then 0 else (bkS (s.A 515)).knocksAt ((bkS (s.A 515)).offS k) 1) < (bkS (s.A 515)).knocksAt (nI k) 1 then nI k else (bkS (s.A 515)).offS k := rfl; (try have c3 := Int32.not_lt.mpr c2); simp_all [nI_succ]) ihk
    · refine AW.iconst (v := 0) dX0_offended_28 (by decide) rfl ?_
      refine AW.goto (tgt := 38) dX0_offended_29 (by decide) ?_
      refine AW.icmp_le (tgt := 43) dX0_offended_38 (by decide) rfl (fun c2 => ?_) (fun c2 => ?_)
      · refine AW.iinc (v := 1) dX0_offended_43 rfl (by decide) rfl rfl rfl ?_
        refine AW.goto (tgt := 4) dX0_offended_46 (by decide) ?_
        exact AW.ls (by have e : (bkS (s.A 515)).offS (k + 1) = if (if (bkS (s.A 515)).offS k = -1 then 0 else (bkS (s.A 515)).knocksAt ((bkS (s.A 515)).offS k) 1) < (bkS (s.A 515)).knocksAt (nI k) 1 then nI k else (bkS (s.A 515)).offS k := rfl; (try have c3 := Int32.not_lt.mpr c2); simp_all [nI_succ]) ihk
      · refine AW.iload_n dX0_offended_41 rfl rfl ?_
        refine AW.istore_n (i := 1) dX0_offended_42 rfl rfl (Nat.le_of_ble_eq_true rfl) rfl rfl ?_
        refine AW.iinc (v := 1) dX0_offended_43 rfl (by decide) rfl rfl rfl ?_
        refine AW.goto (tgt := 4) dX0_offended_46 (by decide) ?_
        exact AW.ls (by have e : (bkS (s.A 515)).offS (k + 1) = if (if (bkS (s.A 515)).offS k = -1 then 0 else (bkS (s.A 515)).knocksAt ((bkS (s.A 515)).offS k) 1) < (bkS (s.A 515)).knocksAt (nI k) 1 then nI k else (bkS (s.A 515)).offS k := rfl; (try have c3 := Int32.not_lt.mpr c2); simp_all [nI_succ]) ihk
theorem r_X0_fault {s : Sg} (w : Int32) : Run 1 mX0_fault [.ref 512, .int w] (hp s) (.inl (some (.int (faultI w (s.S 101) (s.S 102))))) (hp s) := by
  refine Run.of rfl (Nat.le_of_ble_eq_true rfl) rfl ?_
  refine AW.iload_n dX0_fault_0 rfl rfl ?_
  refine AW.if_ne (tgt := 11) dX0_fault_1 (by decide) rfl (fun c1 => ?_) (fun c1 => ?_)
  · refine AW.iload_n dX0_fault_11 rfl rfl ?_
    refine AW.iconst (v := 1) dX0_fault_12 (by decide) rfl ?_
    refine AW.icmp_ne (tgt := 23) dX0_fault_13 (by decide) rfl (fun c2 => ?_) (fun c2 => ?_)
    · refine AW.iconst (v := (-1)) dX0_fault_23 (by decide) rfl ?_
      exact AW.iretE dX0_fault_24 rfl rfl (by simp [faultI, *]) rfl
    · refine AW.aload_n dX0_fault_16 rfl rfl ?_
      refine AW.get ci0 5 (by decide) q234 dX0_fault_17 gX rfl rfl ?_
      refine AW.goto (tgt := 24) dX0_fault_20 (by decide) ?_
      exact AW.iretE dX0_fault_24 rfl rfl (by simp [faultI, *]) rfl
  · refine AW.aload_n dX0_fault_4 rfl rfl ?_
    refine AW.get ci0 4 (by decide) q233 dX0_fault_5 gX rfl rfl ?_
    refine AW.goto (tgt := 24) dX0_fault_8 (by decide) ?_
    exact AW.iretE dX0_fault_24 rfl rfl (by simp [faultI, *]) rfl
theorem r_X0_end_t {s : Sg} (n : Int32) (h : inI n 0 (s.S 100) = true) : Run 2 mX0_end [.ref 512, .int n] (hp s) (.inl (some (.int (n)))) (hp (s.setS 100 n)) := by
  refine Run.of rfl (Nat.le_of_ble_eq_true rfl) rfl ?_
  refine AW.iload_n dX0_end_0 rfl rfl ?_
  refine AW.iconst (v := 0) dX0_end_1 (by decide) rfl ?_
  refine AW.aload_n dX0_end_2 rfl rfl ?_
  refine AW.get ci0 3 (by decide) q232 dX0_end_3 gX rfl rfl ?_
  refine AW.callS (Y := mX0_in) (n := 3) (r_X0_in _ _ _) (by decide) (by decide) q271 q272 q138 q273 dX0_end_6 (by decide +kernel) rfl rfl (Nat.le_of_ble_eq_true rfl) rfl ?_
  refine AW.if_neB (tgt := 14) dX0_end_9 (by decide) rfl (fun _ => ?_) (fun c => by first | exact absurd c h | exact absurd h c | exact absurd c (not_not_intro h) | exact Bool.noConfusion (c.symm.trans h))
  refine AW.aload_n dX0_end_14 rfl rfl ?_
  refine AW.iload_n dX0_end_15 rfl rfl ?_
  refine AW.put ci0 3 (by decide) q232 dX0_end_16 (by decide) gX rfl (fun _ => rfl) (fun _ => rfl) (Nat.le_of_ble_eq_true rfl) sX3 rfl ?_
  refine AW.iload_n dX0_end_19 rfl rfl ?_
  exact AW.iretE dX0_end_20 rfl rfl rfl rfl
theorem r_X0_end_f {s : Sg} (n : Int32) (h : inI n 0 (s.S 100) = false) : Run 2 mX0_end [.ref 512, .int n] (hp s) (.inl (some (.int (-1)))) (hp s) := by
  refine Run.of rfl (Nat.le_of_ble_eq_true rfl) rfl ?_
  refine AW.iload_n dX0_end_0 rfl rfl ?_
  refine AW.iconst (v := 0) dX0_end_1 (by decide) rfl ?_
  refine AW.aload_n dX0_end_2 rfl rfl ?_
  refine AW.get ci0 3 (by decide) q232 dX0_end_3 gX rfl rfl ?_
  refine AW.callS (Y := mX0_in) (n := 3) (r_X0_in _ _ _) (by decide) (by decide) q271 q272 q138 q273 dX0_end_6 (by decide +kernel) rfl rfl (Nat.le_of_ble_eq_true rfl) rfl ?_
  refine AW.if_neB (tgt := 14) dX0_end_9 (by decide) rfl (fun c => by first | exact absurd c h | exact absurd h c | exact Bool.noConfusion (c.symm.trans h)) (fun _ => ?_)
  refine AW.iconst (v := (-1)) dX0_end_12 (by decide) rfl ?_
  exact AW.iretE dX0_end_13 rfl rfl rfl rfl
theorem r_X0_by_t {s : Sg} (n : Int32) (h : n = -1 ∨ inI n 0 (s.A 514 1 - 1) = true) : Run 3 mX0_by [.ref 512, .int n] (hp s) (.inl (some (.int (b2i true)))) (hp (s.setA 514 (up (s.A 514) 2 n))) := by
  refine Run.of rfl (Nat.le_of_ble_eq_true rfl) rfl ?_
  refine AW.iload_n dX0_by_0 rfl rfl ?_
  refine AW.iconst (v := (-1)) dX0_by_1 (by decide) rfl ?_
  refine AW.icmp_eq (tgt := 15) dX0_by_2 (by decide) rfl (fun c1 => ?_) (fun c1 => ?_)
  · refine AW.aload_n dX0_by_15 rfl rfl ?_
    refine AW.get ci0 0 (by decide) q229 dX0_by_16 gX rfl rfl ?_
    refine AW.getN ci1 0 (by decide) q191 dX0_by_19 gN rfl rfl ?_
    refine AW.iconst (v := 2) dX0_by_22 (by decide) rfl ?_
    refine AW.iload_n dX0_by_23 rfl rfl ?_
    refine AW.iast dX0_by_24 (by decide) g514 (vp_in_iff.mpr (by decide)) (j := 2) (by decide) s514 rfl ?_
    refine AW.iconst (v := 1) dX0_by_25 (by decide) rfl ?_
    exact AW.bretE dX0_by_26 rfl rfl rfl rfl
  · refine AW.aload_n dX0_by_5 rfl rfl ?_
    refine AW.iload_n dX0_by_6 rfl rfl ?_
    refine AW.callV (Y := mX0_isText) (n := 1) (r_X0_isText _) (by decide) (by decide) rfl gX q842 q844 qs23 q138 q845 dX0_by_7 (by decide +kernel) rfl rfl (Nat.le_of_ble_eq_true rfl) rfl ?_
    refine AW.if_neB (tgt := 15) dX0_by_10 (by decide) rfl (fun _ => ?_) (fun c => by first | exact absurd c (h.resolve_left c1) | exact absurd (h.resolve_left c1) c | exact absurd c (not_not_intro (h.resolve_left c1)) | exact Bool.noConfusion (c.symm.trans (h.resolve_left c1)))
    refine AW.aload_n dX0_by_15 rfl rfl ?_
    refine AW.get ci0 0 (by decide) q229 dX0_by_16 gX rfl rfl ?_
    refine AW.getN ci1 0 (by decide) q191 dX0_by_19 gN rfl rfl ?_
    refine AW.iconst (v := 2) dX0_by_22 (by decide) rfl ?_
    refine AW.iload_n dX0_by_23 rfl rfl ?_
    refine AW.iast dX0_by_24 (by decide) g514 (vp_in_iff.mpr (by decide)) (j := 2) (by decide) s514 rfl ?_
    refine AW.iconst (v := 1) dX0_by_25 (by decide) rfl ?_
    exact AW.bretE dX0_by_26 rfl rfl rfl rfl
theorem r_X0_by_f {s : Sg} (n : Int32) (h1 : ¬ n = -1) (h : inI n 0 (s.A 514 1 - 1) = false) : Run 3 mX0_by [.ref 512, .int n] (hp s) (.inl (some (.int (b2i false)))) (hp s) := by
  refine Run.of rfl (Nat.le_of_ble_eq_true rfl) rfl ?_
  refine AW.iload_n dX0_by_0 rfl rfl ?_
  refine AW.iconst (v := (-1)) dX0_by_1 (by decide) rfl ?_
  refine AW.icmp_eq (tgt := 15) dX0_by_2 (by decide) rfl (fun c => by first | exact absurd c h1 | exact absurd h1 c | exact Bool.noConfusion (c.symm.trans h1)) (fun _ => ?_)
  refine AW.aload_n dX0_by_5 rfl rfl ?_
  refine AW.iload_n dX0_by_6 rfl rfl ?_
  refine AW.callV (Y := mX0_isText) (n := 1) (r_X0_isText _) (by decide) (by decide) rfl gX q842 q844 qs23 q138 q845 dX0_by_7 (by decide +kernel) rfl rfl (Nat.le_of_ble_eq_true rfl) rfl ?_
  refine AW.if_neB (tgt := 15) dX0_by_10 (by decide) rfl (fun c => by first | exact absurd c h | exact absurd h c | exact Bool.noConfusion (c.symm.trans h)) (fun _ => ?_)
  refine AW.iconst (v := 0) dX0_by_13 (by decide) rfl ?_
  exact AW.bretE dX0_by_14 rfl rfl rfl rfl
def aboutS (n : Nat → Int32) (taped w : Int32) : Int32 := if w = 0 then n 0 else if w = 1 then n 1 else if w = 2 then n 2 else if w = 3 then n 3 else if w = 4 then n 4 else if w = 5 then n 5 else if w = 6 then taped else -2
theorem r_X0_about {s : Sg} (w : Int32) : Run 1 mX0_about [.ref 512, .int w] (hp s) (.inl (some (.int (aboutS (s.A 514) (s.S 100) w)))) (hp s) := by
  refine Run.of rfl (Nat.le_of_ble_eq_true rfl) rfl ?_
  refine AW.iload_n dX0_about_0 rfl rfl ?_
  by_cases s1_0 : w = 0
  · refine AW.tableIn (off := 43) (tgt := 44) dX0_about_1 (by rw [s1_0]; decide) (by rw [s1_0]; decide) (by rw [s1_0]; rfl) (by decide) ?_
    refine AW.aload_n dX0_about_44 rfl rfl ?_
    refine AW.get ci0 0 (by decide) q229 dX0_about_45 gX rfl rfl ?_
    refine AW.getN ci1 0 (by decide) q191 dX0_about_48 gN rfl rfl ?_
    refine AW.iconst (v := 0) dX0_about_51 (by decide) rfl ?_
    refine AW.iald dX0_about_52 g514 (vp_in_iff.mpr (by decide)) (j := 0) (by decide) rfl ?_
    exact AW.iretE dX0_about_53 rfl rfl (by simp [aboutS, *]) rfl
  by_cases s1_1 : w = 1
  · refine AW.tableIn (off := 53) (tgt := 54) dX0_about_1 (by rw [s1_1]; decide) (by rw [s1_1]; decide) (by rw [s1_1]; rfl) (by decide) ?_
    refine AW.aload_n dX0_about_54 rfl rfl ?_
    refine AW.get ci0 0 (by decide) q229 dX0_about_55 gX rfl rfl ?_
    refine AW.getN ci1 0 (by decide) q191 dX0_about_58 gN rfl rfl ?_
    refine AW.iconst (v := 1) dX0_about_61 (by decide) rfl ?_
    refine AW.iald dX0_about_62 g514 (vp_in_iff.mpr (by decide)) (j := 1) (by decide) rfl ?_
    exact AW.iretE dX0_about_63 rfl rfl (by simp [aboutS, *]) rfl
  by_cases s1_2 : w = 2
  · refine AW.tableIn (off := 63) (tgt := 64) dX0_about_1 (by rw [s1_2]; decide) (by rw [s1_2]; decide) (by rw [s1_2]; rfl) (by decide) ?_
    refine AW.aload_n dX0_about_64 rfl rfl ?_
    refine AW.get ci0 0 (by decide) q229 dX0_about_65 gX rfl rfl ?_
    refine AW.getN ci1 0 (by decide) q191 dX0_about_68 gN rfl rfl ?_
    refine AW.iconst (v := 2) dX0_about_71 (by decide) rfl ?_
    refine AW.iald dX0_about_72 g514 (vp_in_iff.mpr (by decide)) (j := 2) (by decide) rfl ?_
    exact AW.iretE dX0_about_73 rfl rfl (by simp [aboutS, *]) rfl
  by_cases s1_3 : w = 3
  · refine AW.tableIn (off := 73) (tgt := 74) dX0_about_1 (by rw [s1_3]; decide) (by rw [s1_3]; decide) (by rw [s1_3]; rfl) (by decide) ?_
    refine AW.aload_n dX0_about_74 rfl rfl ?_
    refine AW.get ci0 0 (by decide) q229 dX0_about_75 gX rfl rfl ?_
    refine AW.getN ci1 0 (by decide) q191 dX0_about_78 gN rfl rfl ?_
    refine AW.iconst (v := 3) dX0_about_81 (by decide) rfl ?_
    refine AW.iald dX0_about_82 g514 (vp_in_iff.mpr (by decide)) (j := 3) (by decide) rfl ?_
    exact AW.iretE dX0_about_83 rfl rfl (by simp [aboutS, *]) rfl
  by_cases s1_4 : w = 4
  · refine AW.tableIn (off := 83) (tgt := 84) dX0_about_1 (by rw [s1_4]; decide) (by rw [s1_4]; decide) (by rw [s1_4]; rfl) (by decide) ?_
    refine AW.aload_n dX0_about_84 rfl rfl ?_
    refine AW.get ci0 0 (by decide) q229 dX0_about_85 gX rfl rfl ?_
    refine AW.getN ci1 0 (by decide) q191 dX0_about_88 gN rfl rfl ?_
    refine AW.iconst (v := 4) dX0_about_91 (by decide) rfl ?_
    refine AW.iald dX0_about_92 g514 (vp_in_iff.mpr (by decide)) (j := 4) (by decide) rfl ?_
    exact AW.iretE dX0_about_93 rfl rfl (by simp [aboutS, *]) rfl
  by_cases s1_5 : w = 5
  · refine AW.tableIn (off := 93) (tgt := 94) dX0_about_1 (by rw [s1_5]; decide) (by rw [s1_5]; decide) (by rw [s1_5]; rfl) (by decide) ?_
    refine AW.aload_n dX0_about_94 rfl rfl ?_
    refine AW.get ci0 0 (by decide) q229 dX0_about_95 gX rfl rfl ?_
    refine AW.getN ci1 0 (by decide) q191 dX0_about_98 gN rfl rfl ?_
    refine AW.iconst (v := 5) dX0_about_101 (by decide) rfl ?_
    refine AW.iald dX0_about_102 g514 (vp_in_iff.mpr (by decide)) (j := 5) (by decide) rfl ?_
    exact AW.iretE dX0_about_103 rfl rfl (by simp [aboutS, *]) rfl
  by_cases s1_6 : w = 6
  · refine AW.tableIn (off := 103) (tgt := 104) dX0_about_1 (by rw [s1_6]; decide) (by rw [s1_6]; decide) (by rw [s1_6]; rfl) (by decide) ?_
    refine AW.aload_n dX0_about_104 rfl rfl ?_
    refine AW.get ci0 3 (by decide) q232 dX0_about_105 gX rfl rfl ?_
    exact AW.iretE dX0_about_108 rfl rfl (by simp [aboutS, *]) rfl
  refine AW.tableOut (tgt := 109) dX0_about_1 (by have q0 : ¬ (w).toInt = 0 := fun q => s1_0 (Int32.toInt_inj.mp q); have q1 : ¬ (w).toInt = 1 := fun q => s1_1 (Int32.toInt_inj.mp q); have q2 : ¬ (w).toInt = 2 := fun q => s1_2 (Int32.toInt_inj.mp q); have q3 : ¬ (w).toInt = 3 := fun q => s1_3 (Int32.toInt_inj.mp q); have q4 : ¬ (w).toInt = 4 := fun q => s1_4 (Int32.toInt_inj.mp q); have q5 : ¬ (w).toInt = 5 := fun q => s1_5 (Int32.toInt_inj.mp q); have q6 : ¬ (w).toInt = 6 := fun q => s1_6 (Int32.toInt_inj.mp q); omega) (by decide) ?_
  refine AW.bipush (v := (-2)) dX0_about_109 (by decide) rfl ?_
  exact AW.iretE dX0_about_111 rfl rfl (by simp [aboutS, *]) rfl
theorem r_X0_is {s : Sg} (hn : (vwS (s.A 514) (s.A 515)).ok) (w : Int32) : Run 6 mX0_is [.ref 512, .int w] (hp s) (.inl (some (.int ((vwS (s.A 514) (s.A 515)).isI (s.A 515 0) (s.A 515 1) w)))) (hp s) := by
  refine Run.of rfl (Nat.le_of_ble_eq_true rfl) rfl ?_
  refine AW.iload_n dX0_is_0 rfl rfl ?_
  by_cases s1_0 : w = 0
  · refine AW.tableIn (off := 31) (tgt := 32) dX0_is_1 (by rw [s1_0]; decide) (by rw [s1_0]; decide) (by rw [s1_0]; rfl) (by decide) ?_
    refine AW.aload_n dX0_is_32 rfl rfl ?_
    refine AW.get ci0 0 (by decide) q229 dX0_is_33 gX rfl rfl ?_
    refine AW.getN ci1 1 (by decide) q193 dX0_is_36 gN rfl rfl ?_
    refine AW.iconst (v := 0) dX0_is_39 (by decide) rfl ?_
    refine AW.iald dX0_is_40 g515 (vp_in_iff.mpr (by decide)) (j := 0) (by decide) rfl ?_
    exact AW.iretE dX0_is_41 rfl rfl (by simp [Vw.isI, *]) rfl
  by_cases s1_1 : w = 1
  · refine AW.tableIn (off := 41) (tgt := 42) dX0_is_1 (by rw [s1_1]; decide) (by rw [s1_1]; decide) (by rw [s1_1]; rfl) (by decide) ?_
    refine AW.aload_n dX0_is_42 rfl rfl ?_
    refine AW.get ci0 0 (by decide) q229 dX0_is_43 gX rfl rfl ?_
    refine AW.getN ci1 1 (by decide) q193 dX0_is_46 gN rfl rfl ?_
    refine AW.callS (Y := mX0_date) (n := 1) (r_X0_date) (by decide) (by decide) q870 q871 q138 q872 dX0_is_49 (by decide +kernel) rfl rfl (Nat.le_of_ble_eq_true rfl) rfl ?_
    exact AW.iretE dX0_is_52 rfl rfl (by simp [Vw.isI, *]) rfl
  by_cases s1_2 : w = 2
  · refine AW.tableIn (off := 52) (tgt := 53) dX0_is_1 (by rw [s1_2]; decide) (by rw [s1_2]; decide) (by rw [s1_2]; rfl) (by decide) ?_
    refine AW.aload_n dX0_is_53 rfl rfl ?_
    refine AW.get ci0 0 (by decide) q229 dX0_is_54 gX rfl rfl ?_
    refine AW.getN ci1 1 (by decide) q193 dX0_is_57 gN rfl rfl ?_
    refine AW.iconst (v := 1) dX0_is_60 (by decide) rfl ?_
    refine AW.iald dX0_is_61 g515 (vp_in_iff.mpr (by decide)) (j := 1) (by decide) rfl ?_
    exact AW.iretE dX0_is_62 rfl rfl (by simp [Vw.isI, *]) rfl
  by_cases s1_3 : w = 3
  · refine AW.tableIn (off := 62) (tgt := 63) dX0_is_1 (by rw [s1_3]; decide) (by rw [s1_3]; decide) (by rw [s1_3]; rfl) (by decide) ?_
    refine AW.aload_n dX0_is_63 rfl rfl ?_
    refine AW.aload_n dX0_is_64 rfl rfl ?_
    refine AW.get ci0 0 (by decide) q229 dX0_is_65 gX rfl rfl ?_
    refine AW.getN ci1 1 (by decide) q193 dX0_is_68 gN rfl rfl ?_
    refine AW.aload_n dX0_is_71 rfl rfl ?_
    refine AW.get ci0 0 (by decide) q229 dX0_is_72 gX rfl rfl ?_
    refine AW.getN ci1 1 (by decide) q193 dX0_is_75 gN rfl rfl ?_
    refine AW.callS (Y := mX0_date) (n := 1) (r_X0_date) (by decide) (by decide) q870 q871 q138 q872 dX0_is_78 (by decide +kernel) rfl rfl (Nat.le_of_ble_eq_true rfl) rfl ?_
    refine AW.callV (Y := mX0_openOn) (n := 2) (r_X0_openOn hn _) (by decide) (by decide) rfl gX q887 q889 qs28 q138 q890 dX0_is_81 (by decide +kernel) rfl rfl (Nat.le_of_ble_eq_true rfl) rfl ?_
    exact AW.iretE dX0_is_84 rfl rfl (by simp [Vw.isI, *]) rfl
  refine AW.tableOut (tgt := 85) dX0_is_1 (by have q0 : ¬ (w).toInt = 0 := fun q => s1_0 (Int32.toInt_inj.mp q); have q1 : ¬ (w).toInt = 1 := fun q => s1_1 (Int32.toInt_inj.mp q); have q2 : ¬ (w).toInt = 2 := fun q => s1_2 (Int32.toInt_inj.mp q); have q3 : ¬ (w).toInt = 3 := fun q => s1_3 (Int32.toInt_inj.mp q); omega) (by decide) ?_
  refine AW.bipush (v := (-2)) dX0_is_85 (by decide) rfl ?_
  exact AW.iretE dX0_is_87 rfl rfl (by simp [Vw.isI, *]) rfl
