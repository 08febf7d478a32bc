/-! MODEL 3: the book, small questions (printed by tools/m3.py) -/
set_option maxRecDepth 100000
theorem in_bk {i : Nat} (h : i < 40) : vp_in (2268 + nI i) 2308 := by
  rw [show (2268 : Int32) = nI 2268 from rfl, nI_add]
  exact vp_in_nI (by omega) (by omega)
theorem at_bk {i : Nat} (h : i < 40) : cI (2268 + nI i) = 2268 + i := by
  rw [show (2268 : Int32) = nI 2268 from rfl, nI_add, cI_nI (by omega)]
theorem bkM_d {a : Nat → Int32} {i : Nat} (h : i < (bkM a).n) : (bkM a).d i = a (2268 + i) / 16 := if_pos h
theorem bkM_h {a : Nat → Int32} {i : Nat} (h : i < (bkM a).n) : (bkM a).h i = a (2268 + i) / 2 % 8 := if_pos h
theorem bkM_s {a : Nat → Int32} {i : Nat} (h : i < (bkM a).n) : (bkM a).s i = a (2268 + i) % 2 := if_pos h
def Bw.entry (b : Bw) (i : Nat) (w : Int32) : Int32 := if w = 0 then b.d i else if w = 1 then b.h i else b.s i
def Bw.book (b : Bw) (i w : Int32) : Int32 := if i = -1 then b.N else if inI i 0 (b.N - 1) && inI w 0 2 then b.entry (cI i) w else -2
def Bw.knocks (b : Bw) (v : Vw) (h z : Int32) : Int32 := if h = -1 then b.knocksAt h (if z = 0 then 0 else 1) else if v.hou h then b.knocksAt h (if z = 0 then 0 else 1) else -2
theorem r_X2_entry {s : Sg} (hb : (bkM (s.A 626)).ok) (i : Nat) (hi : i < (bkM (s.A 626)).n) (w : Int32) : Run 1 mX2_entry [.ref 625, .int (nI i), .int w] (hp s) (.inl (some (.int ((bkM (s.A 626)).entry i w)))) (hp s) := by
  have h40 : i < 40 := Nat.lt_of_lt_of_le hi (Bw.n40 hb)
  refine Run.of rfl (Nat.le_of_ble_eq_true rfl) rfl ?_
  refine AW.iload_n dX2_entry_0 rfl rfl ?_
  refine AW.if_ne (tgt := 20) dX2_entry_1 (by decide) rfl (fun c => ?_) (fun c => ?_)
  · refine AW.iload_n dX2_entry_20 rfl rfl ?_
    refine AW.iconst (v := 1) dX2_entry_21 (by decide) rfl ?_
    refine AW.icmp_ne (tgt := 43) dX2_entry_22 (by decide) rfl (fun c2 => ?_) (fun c2 => ?_)
    · refine AW.aload_n dX2_entry_43 rfl rfl ?_
      refine AW.get ci2 0 (by decide) q1351 dX2_entry_44 gM rfl rfl ?_
      refine AW.sipush (v := 2268) dX2_entry_47 (by decide) rfl ?_
      refine AW.iload_n dX2_entry_50 rfl rfl ?_
      refine AW.iadd dX2_entry_51 rfl ?_
      refine AW.iald dX2_entry_52 g626 (in_bk h40) (at_bk h40) rfl ?_
      refine AW.iconst (v := 2) dX2_entry_53 (by decide) rfl ?_
      refine AW.irem dX2_entry_54 (by decide) rfl ?_
      exact AW.iretE dX2_entry_55 rfl rfl (by simp [Bw.entry, bkM_d hi, bkM_h hi, bkM_s hi, *]) rfl
    · refine AW.aload_n dX2_entry_25 rfl rfl ?_
      refine AW.get ci2 0 (by decide) q1351 dX2_entry_26 gM rfl rfl ?_
      refine AW.sipush (v := 2268) dX2_entry_29 (by decide) rfl ?_
      refine AW.iload_n dX2_entry_32 rfl rfl ?_
      refine AW.iadd dX2_entry_33 rfl ?_
      refine AW.iald dX2_entry_34 g626 (in_bk h40) (at_bk h40) rfl ?_
      refine AW.iconst (v := 2) dX2_entry_35 (by decide) rfl ?_
      refine AW.idiv dX2_entry_36 (by decide) rfl ?_
      refine AW.bipush (v := 8) dX2_entry_37 (by decide) rfl ?_
      refine AW.irem dX2_entry_39 (by decide) rfl ?_
      refine AW.goto (tgt := 55) dX2_entry_40 (by decide) ?_
      exact AW.iretE dX2_entry_55 rfl rfl (by simp [Bw.entry, bkM_d hi, bkM_h hi, bkM_s hi, *]) rfl
  · refine AW.aload_n dX2_entry_4 rfl rfl ?_
    refine AW.get ci2 0 (by decide) q1351 dX2_entry_5 gM rfl rfl ?_
    refine AW.sipush (v := 2268) dX2_entry_8 (by decide) rfl ?_
    refine AW.iload_n dX2_entry_11 rfl rfl ?_
    refine AW.iadd dX2_entry_12 rfl ?_
    refine AW.iald dX2_entry_13 g626 (in_bk h40) (at_bk h40) rfl ?_
    refine AW.bipush (v := 16) dX2_entry_14 (by decide) rfl ?_
    refine AW.idiv dX2_entry_16 (by decide) rfl ?_
    refine AW.goto (tgt := 55) dX2_entry_17 (by decide) ?_
    exact AW.iretE dX2_entry_55 rfl rfl (by simp [Bw.entry, bkM_d hi, bkM_h hi, bkM_s hi, *]) rfl
theorem r_X2_book {s : Sg} (hb : (bkM (s.A 626)).ok) (i w : Int32) : Run 3 mX2_book [.ref 625, .int i, .int w] (hp s) (.inl (some (.int ((bkM (s.A 626)).book i w)))) (hp s) := by
  refine Run.of rfl (Nat.le_of_ble_eq_true rfl) rfl ?_
  refine AW.iload_n dX2_book_0 rfl rfl ?_
  refine AW.iconst (v := (-1)) dX2_book_1 (by decide) rfl ?_
  refine AW.icmp_ne (tgt := 13) dX2_book_2 (by decide) rfl (fun c => ?_) (fun c => ?_)
  · refine AW.iload_n dX2_book_13 rfl rfl ?_
    refine AW.iconst (v := 0) dX2_book_14 (by decide) rfl ?_
    refine AW.aload_n dX2_book_15 rfl rfl ?_
    refine AW.get ci2 0 (by decide) q1351 dX2_book_16 gM rfl rfl ?_
    refine AW.bipush (v := 10) dX2_book_19 (by decide) rfl ?_
    refine AW.iald dX2_book_21 g626 (vp_in_iff.mpr (by decide)) (j := 10) (by decide) rfl ?_
    refine AW.iconst (v := 1) dX2_book_22 (by decide) rfl ?_
    refine AW.isub dX2_book_23 rfl ?_
    refine AW.callS (Y := mX2_isIn) (n := 3) (r_X2_isIn _ _ _) (by decide) (by decide) q1466 q1467 q141 q1468 dX2_book_24 (by decide +kernel) rfl rfl (Nat.le_of_ble_eq_true rfl) rfl ?_
    refine AW.if_eqB (tgt := 48) dX2_book_27 (by decide) rfl (fun c2 => ?_) (fun c2 => ?_)
    · refine AW.bipush (v := (-2)) dX2_book_48 (by decide) rfl ?_
      exact AW.iretE dX2_book_50 rfl rfl (by have e : (bkM (s.A 626)).N = s.A 626 10 := rfl; simp [Bw.book, e, *]) rfl
    · refine AW.iload_n dX2_book_30 rfl rfl ?_
      refine AW.iconst (v := 0) dX2_book_31 (by decide) rfl ?_
      refine AW.iconst (v := 2) dX2_book_32 (by decide) rfl ?_
      refine AW.callS (Y := mX2_isIn) (n := 3) (r_X2_isIn _ _ _) (by decide) (by decide) q1466 q1467 q141 q1468 dX2_book_33 (by decide +kernel) rfl rfl (Nat.le_of_ble_eq_true rfl) rfl ?_
      refine AW.if_eqB (tgt := 48) dX2_book_36 (by decide) rfl (fun c3 => ?_) (fun c3 => ?_)
      · refine AW.bipush (v := (-2)) dX2_book_48 (by decide) rfl ?_
        exact AW.iretE dX2_book_50 rfl rfl (by have e : (bkM (s.A 626)).N = s.A 626 10 := rfl; simp [Bw.book, e, *]) rfl
      · refine AW.aload_n dX2_book_39 rfl rfl ?_
        refine AW.iload_n dX2_book_40 rfl rfl ?_
        refine AW.iload_n dX2_book_41 rfl rfl ?_
        have hi2 := inI_iff.mp c2
        have hi0 : 0 ≤ i.toInt := hi2.1
        have h3 : ((bkM (s.A 626)).N - 1).toInt = (bkM (s.A 626)).N.toInt - 1 := by have := hb.1; have := hb.2; rw [subI] <;> (try simp) <;> omega
        have hi3 : i.toInt ≤ (bkM (s.A 626)).N.toInt - 1 := by rw [← h3]; exact hi2.2
        have hi : cI i < (bkM (s.A 626)).n := by have q1 := cI_of hi0; have q2 : ((bkM (s.A 626)).n : Int) = (bkM (s.A 626)).N.toInt := cI_of hb.1; omega
        refine AW.st (st' := [.int w, .int (nI (cI i)), .ref 625]) (by rw [nI_cI hi0]; rfl) ?_
        refine AW.callV (Y := mX2_entry) (n := 2) (r_X2_entry hb (cI i) hi _) (by decide) (by decide) rfl gM q1821 q1823 qs116 q141 q1824 dX2_book_42 (by decide +kernel) rfl rfl (Nat.le_of_ble_eq_true rfl) rfl ?_
        refine AW.goto (tgt := 50) dX2_book_45 (by decide) ?_
        exact AW.iretE dX2_book_50 rfl rfl (by have e : (bkM (s.A 626)).N = s.A 626 10 := rfl; simp [Bw.book, e, *]) rfl
  · refine AW.aload_n dX2_book_5 rfl rfl ?_
    refine AW.get ci2 0 (by decide) q1351 dX2_book_6 gM rfl rfl ?_
    refine AW.bipush (v := 10) dX2_book_9 (by decide) rfl ?_
    refine AW.iald dX2_book_11 g626 (vp_in_iff.mpr (by decide)) (j := 10) (by decide) rfl ?_
    exact AW.iretE dX2_book_12 rfl rfl (by have e : (bkM (s.A 626)).N = s.A 626 10 := rfl; simp [Bw.book, e, *]) rfl
theorem r_X2_knocksAt {s : Sg} (hb : (bkM (s.A 626)).ok) (h z : Int32) : Run 3 mX2_knocksAt [.ref 625, .int h, .int z] (hp s) (.inl (some (.int ((bkM (s.A 626)).knocksAt h z)))) (hp s) := by
  refine Run.of rfl (Nat.le_of_ble_eq_true rfl) rfl ?_
  refine AW.iconst (v := 0) dX2_knocksAt_0 (by decide) rfl ?_
  refine AW.istore_n (i := 3) dX2_knocksAt_1 rfl rfl (Nat.le_of_ble_eq_true rfl) rfl rfl ?_
  refine AW.iconst (v := 0) dX2_knocksAt_2 (by decide) rfl ?_
  refine AW.istore dX2_knocksAt_3 rfl (Nat.le_of_ble_eq_true rfl) rfl rfl ?_
  refine loopUp (P := fun k => AW 3 mX2_knocksAt (hp s) 5 [some (.ref 625), some (.int (h)), some (.int (z)), some (.int (sumUp (fun i => b2i (decide ((bkM (s.A 626)).s i = z) && (decide (h = -1) || decide ((bkM (s.A 626)).h i = h)))) k)), some (.int (nI k))] [] (.inl (some (.int ((bkM (s.A 626)).knocksAt h z)))) (hp s)) (bkM (s.A 626)).n ?_ ?_ 0 (by first | exact Nat.zero_le _ | omega)
  · refine AW.iload dX2_knocksAt_5 rfl rfl ?_
    refine AW.aload_n dX2_knocksAt_7 rfl rfl ?_
    refine AW.get ci2 0 (by decide) q1351 dX2_knocksAt_8 gM rfl rfl ?_
    refine AW.bipush (v := 10) dX2_knocksAt_11 (by decide) rfl ?_
    refine AW.iald dX2_knocksAt_13 g626 (vp_in_iff.mpr (by decide)) (j := 10) (by decide) rfl ?_
    refine AW.icmp_ge (tgt := 58) dX2_knocksAt_14 (by decide) rfl (fun _ => ?_) (fun c_ => by first | exact absurd c_ (loop_end (by have := Bw.n40 hb; omega) (Bw.nN hb)) | exact absurd (loop_end (by have := Bw.n40 hb; omega) (Bw.nN hb)) c_ | exact absurd c_ (not_not_intro (loop_end (by have := Bw.n40 hb; omega) (Bw.nN hb))) | exact Bool.noConfusion (c_.symm.trans (loop_end (by have := Bw.n40 hb; omega) (Bw.nN hb))))
    refine AW.iload_n dX2_knocksAt_58 rfl rfl ?_
    exact AW.iretE dX2_knocksAt_59 rfl rfl rfl rfl
  · intro k hk ihk
    refine AW.iload dX2_knocksAt_5 rfl rfl ?_
    refine AW.aload_n dX2_knocksAt_7 rfl rfl ?_
    refine AW.get ci2 0 (by decide) q1351 dX2_knocksAt_8 gM rfl rfl ?_
    refine AW.bipush (v := 10) dX2_knocksAt_11 (by decide) rfl ?_
    refine AW.iald dX2_knocksAt_13 g626 (vp_in_iff.mpr (by decide)) (j := 10) (by decide) rfl ?_
    refine AW.icmp_ge (tgt := 58) dX2_knocksAt_14 (by decide) rfl (fun c_ => by first | exact absurd c_ (loop_in hk (by have := Bw.n40 hb; omega) (Bw.nN hb)) | exact absurd (loop_in hk (by have := Bw.n40 hb; omega) (Bw.nN hb)) c_ | exact Bool.noConfusion (c_.symm.trans (loop_in hk (by have := Bw.n40 hb; omega) (Bw.nN hb)))) (fun _ => ?_)
    refine AW.iload_n dX2_knocksAt_17 rfl rfl ?_
    refine AW.aload_n dX2_knocksAt_18 rfl rfl ?_
    refine AW.iload dX2_knocksAt_19 rfl rfl ?_
    refine AW.iconst (v := 2) dX2_knocksAt_21 (by decide) rfl ?_
    refine AW.callV (Y := mX2_entry) (n := 2) (r_X2_entry hb k hk _) (by decide) (by decide) rfl gM q1821 q1823 qs116 q141 q1824 dX2_knocksAt_22 (by decide +kernel) rfl rfl (Nat.le_of_ble_eq_true rfl) rfl ?_
    refine AW.iload_n dX2_knocksAt_25 rfl rfl ?_
    refine AW.icmp_ne (tgt := 49) dX2_knocksAt_26 (by decide) rfl (fun c => ?_) (fun c => ?_)
    · refine AW.iconst (v := 0) dX2_knocksAt_49 (by decide) rfl ?_
      refine AW.iadd dX2_knocksAt_50 rfl ?_
      refine AW.istore_n (i := 3) dX2_knocksAt_51 rfl rfl (Nat.le_of_ble_eq_true rfl) rfl rfl ?_
      refine AW.iinc (v := 1) dX2_knocksAt_52 rfl (by decide) rfl rfl rfl ?_
      refine AW.goto (tgt := 5) dX2_knocksAt_55 (by decide) ?_
      exact AW.ls (by have e1 : (bkM (s.A 626)).entry k 2 = (bkM (s.A 626)).s k := rfl; have e2 : (bkM (s.A 626)).entry k 1 = (bkM (s.A 626)).h k := rfl; (try rw [e1] at c); (try rw [e2] at c3); simp [sumUp, nI_succ, b2i, *]) ihk
    · refine AW.iload_n dX2_knocksAt_29 rfl rfl ?_
      refine AW.iconst (v := (-1)) dX2_knocksAt_30 (by decide) rfl ?_
      refine AW.icmp_eq (tgt := 45) dX2_knocksAt_31 (by decide) rfl (fun c2 => ?_) (fun c2 => ?_)
      · refine AW.iconst (v := 1) dX2_knocksAt_45 (by decide) rfl ?_
        refine AW.goto (tgt := 50) dX2_knocksAt_46 (by decide) ?_
        refine AW.iadd dX2_knocksAt_50 rfl ?_
        refine AW.istore_n (i := 3) dX2_knocksAt_51 rfl rfl (Nat.le_of_ble_eq_true rfl) rfl rfl ?_
        refine AW.iinc (v := 1) dX2_knocksAt_52 rfl (by decide) rfl rfl rfl ?_
        refine AW.goto (tgt := 5) dX2_knocksAt_55 (by decide) ?_
        exact AW.ls (by have e1 : (bkM (s.A 626)).entry k 2 = (bkM (s.A 626)).s k := rfl; have e2 : (bkM (s.A 626)).entry k 1 = (bkM (s.A 626)).h k := rfl; (try rw [e1] at c); (try rw [e2] at c3); simp [sumUp, nI_succ, b2i, *]) ihk
      · refine AW.aload_n dX2_knocksAt_34 rfl rfl ?_
        refine AW.iload dX2_knocksAt_35 rfl rfl ?_
        refine AW.iconst (v := 1) dX2_knocksAt_37 (by decide) rfl ?_
        refine AW.callV (Y := mX2_entry) (n := 2) (r_X2_entry hb k hk _) (by decide) (by decide) rfl gM q1821 q1823 qs116 q141 q1824 dX2_knocksAt_38 (by decide +kernel) rfl rfl (Nat.le_of_ble_eq_true rfl) rfl ?_
        refine AW.iload_n dX2_knocksAt_41 rfl rfl ?_
        refine AW.icmp_ne (tgt := 49) dX2_knocksAt_42 (by decide) rfl (fun c3 => ?_) (fun c3 => ?_)
        · refine AW.iconst (v := 0) dX2_knocksAt_49 (by decide) rfl ?_
          refine AW.iadd dX2_knocksAt_50 rfl ?_
          refine AW.istore_n (i := 3) dX2_knocksAt_51 rfl rfl (Nat.le_of_ble_eq_true rfl) rfl rfl ?_
          refine AW.iinc (v := 1) dX2_knocksAt_52 rfl (by decide) rfl rfl rfl ?_
          refine AW.goto (tgt := 5) dX2_knocksAt_55 (by decide) ?_
          exact AW.ls (by have e1 : (bkM (s.A 626)).entry k 2 = (bkM (s.A 626)).s k := rfl; have e2 : (bkM (s.A 626)).entry k 1 = (bkM (s.A 626)).h k := rfl; (try rw [e1] at c); (try rw [e2] at c3); simp [sumUp, nI_succ, b2i, *]) ihk
        · refine AW.iconst (v := 1) dX2_knocksAt_45 (by decide) rfl ?_
          refine AW.goto (tgt := 50) dX2_knocksAt_46 (by decide) ?_
          refine AW.iadd dX2_knocksAt_50 rfl ?_
          refine AW.istore_n (i := 3) dX2_knocksAt_51 rfl rfl (Nat.le_of_ble_eq_true rfl) rfl rfl ?_
          refine AW.iinc (v := 1) dX2_knocksAt_52 rfl (by decide) rfl rfl rfl ?_
          refine AW.goto (tgt := 5) dX2_knocksAt_55 (by decide) ?_
          exact AW.ls (by have e1 : (bkM (s.A 626)).entry k 2 = (bkM (s.A 626)).s k := rfl; have e2 : (bkM (s.A 626)).entry k 1 = (bkM (s.A 626)).h k := rfl; (try rw [e1] at c); (try rw [e2] at c3); simp [sumUp, nI_succ, b2i, *]) ihk
theorem r_X2_knocks {s : Sg} (hb : (bkM (s.A 626)).ok) (h z : Int32) : Run 4 mX2_knocks [.ref 625, .int h, .int z] (hp s) (.inl (some (.int ((bkM (s.A 626)).knocks (vwM (s.A 626)) h z)))) (hp s) := by
  refine Run.of rfl (Nat.le_of_ble_eq_true rfl) rfl ?_
  refine AW.iload_n dX2_knocks_0 rfl rfl ?_
  refine AW.iconst (v := (-1)) dX2_knocks_1 (by decide) rfl ?_
  refine AW.icmp_eq (tgt := 13) dX2_knocks_2 (by decide) rfl (fun c => ?_) (fun c => ?_)
  · refine AW.aload_n dX2_knocks_13 rfl rfl ?_
    refine AW.iload_n dX2_knocks_14 rfl rfl ?_
    refine AW.iload_n dX2_knocks_15 rfl rfl ?_
    refine AW.if_eq (tgt := 23) dX2_knocks_16 (by decide) rfl (fun c3 => ?_) (fun c3 => ?_)
    · refine AW.iconst (v := 0) dX2_knocks_23 (by decide) rfl ?_
      refine AW.callV (Y := mX2_knocksAt) (n := 2) (r_X2_knocksAt hb _ _) (by decide) (by decide) rfl gM q1829 q1831 qs117 q141 q1832 dX2_knocks_24 (by decide +kernel) rfl rfl (Nat.le_of_ble_eq_true rfl) rfl ?_
      refine AW.goto (tgt := 32) dX2_knocks_27 (by decide) ?_
      exact AW.iretE dX2_knocks_32 rfl rfl (by simp [Bw.knocks, *]) rfl
    · refine AW.iconst (v := 1) dX2_knocks_19 (by decide) rfl ?_
      refine AW.goto (tgt := 24) dX2_knocks_20 (by decide) ?_
      refine AW.callV (Y := mX2_knocksAt) (n := 2) (r_X2_knocksAt hb _ _) (by decide) (by decide) rfl gM q1829 q1831 qs117 q141 q1832 dX2_knocks_24 (by decide +kernel) rfl rfl (Nat.le_of_ble_eq_true rfl) rfl ?_
      refine AW.goto (tgt := 32) dX2_knocks_27 (by decide) ?_
      exact AW.iretE dX2_knocks_32 rfl rfl (by simp [Bw.knocks, *]) rfl
  · refine AW.aload_n dX2_knocks_5 rfl rfl ?_
    refine AW.iload_n dX2_knocks_6 rfl rfl ?_
    refine AW.callV (Y := mX2_isHouse) (n := 1) (r_X2_isHouse _) (by decide) (by decide) rfl gM q1653 q1655 qs92 q141 q1656 dX2_knocks_7 (by decide +kernel) rfl rfl (Nat.le_of_ble_eq_true rfl) rfl ?_
    refine AW.if_eqB (tgt := 30) dX2_knocks_10 (by decide) rfl (fun c2 => ?_) (fun c2 => ?_)
    · refine AW.bipush (v := (-2)) dX2_knocks_30 (by decide) rfl ?_
      exact AW.iretE dX2_knocks_32 rfl rfl (by simp [Bw.knocks, *]) rfl
    · refine AW.aload_n dX2_knocks_13 rfl rfl ?_
      refine AW.iload_n dX2_knocks_14 rfl rfl ?_
      refine AW.iload_n dX2_knocks_15 rfl rfl ?_
      refine AW.if_eq (tgt := 23) dX2_knocks_16 (by decide) rfl (fun c3 => ?_) (fun c3 => ?_)
      · refine AW.iconst (v := 0) dX2_knocks_23 (by decide) rfl ?_
        refine AW.callV (Y := mX2_knocksAt) (n := 2) (r_X2_knocksAt hb _ _) (by decide) (by decide) rfl gM q1829 q1831 qs117 q141 q1832 dX2_knocks_24 (by decide +kernel) rfl rfl (Nat.le_of_ble_eq_true rfl) rfl ?_
        refine AW.goto (tgt := 32) dX2_knocks_27 (by decide) ?_
        exact AW.iretE dX2_knocks_32 rfl rfl (by simp [Bw.knocks, *]) rfl
      · refine AW.iconst (v := 1) dX2_knocks_19 (by decide) rfl ?_
        refine AW.goto (tgt := 24) dX2_knocks_20 (by decide) ?_
        refine AW.callV (Y := mX2_knocksAt) (n := 2) (r_X2_knocksAt hb _ _) (by decide) (by decide) rfl gM q1829 q1831 qs117 q141 q1832 dX2_knocks_24 (by decide +kernel) rfl rfl (Nat.le_of_ble_eq_true rfl) rfl ?_
        refine AW.goto (tgt := 32) dX2_knocks_27 (by decide) ?_
        exact AW.iretE dX2_knocks_32 rfl rfl (by simp [Bw.knocks, *]) rfl
theorem r_X2_offended {s : Sg} (hn : (vwM (s.A 626)).ok) (hb : (bkM (s.A 626)).ok) : Run 4 mX2_offended [.ref 625] (hp s) (.inl (some (.int (((bkM (s.A 626)).offended (vwM (s.A 626)).n).1)))) (hp s) := by
  refine Run.of rfl (Nat.le_of_ble_eq_true rfl) rfl ?_
  refine AW.iconst (v := (-1)) dX2_offended_0 (by decide) rfl ?_
  refine AW.istore_n (i := 1) dX2_offended_1 rfl rfl (Nat.le_of_ble_eq_true rfl) rfl rfl ?_
  refine AW.iconst (v := 0) dX2_offended_2 (by decide) rfl ?_
  refine AW.istore_n (i := 2) dX2_offended_3 rfl rfl (Nat.le_of_ble_eq_true rfl) rfl rfl ?_
  refine AW.iconst (v := 0) dX2_offended_4 (by decide) rfl ?_
  refine AW.istore_n (i := 3) dX2_offended_5 rfl rfl (Nat.le_of_ble_eq_true rfl) rfl rfl ?_
  refine loopUp (P := fun k => AW 4 mX2_offended (hp s) 6 [some (.ref 625), some (.int (((bkM (s.A 626)).offended k).1)), some (.int (((bkM (s.A 626)).offended k).2)), some (.int (nI k))] [] (.inl (some (.int (((bkM (s.A 626)).offended (vwM (s.A 626)).n).1)))) (hp s)) (vwM (s.A 626)).n ?_ ?_ 0 (by first | exact Nat.zero_le _ | omega)
  · refine AW.iload_n dX2_offended_6 rfl rfl ?_
    refine AW.aload_n dX2_offended_7 rfl rfl ?_
    refine AW.get ci2 0 (by decide) q1351 dX2_offended_8 gM rfl rfl ?_
    refine AW.iconst (v := 0) dX2_offended_11 (by decide) rfl ?_
    refine AW.iald dX2_offended_12 g626 (vp_in_iff.mpr (by decide)) (j := 0) (by decide) rfl ?_
    refine AW.icmp_ge (tgt := 44) dX2_offended_13 (by decide) rfl (fun _ => ?_) (fun c_ => by first | exact absurd c_ (loop_end (by have := Vw.n7 hn; omega) (Vw.nN hn)) | exact absurd (loop_end (by have := Vw.n7 hn; omega) (Vw.nN hn)) c_ | exact absurd c_ (not_not_intro (loop_end (by have := Vw.n7 hn; omega) (Vw.nN hn))) | exact Bool.noConfusion (c_.symm.trans (loop_end (by have := Vw.n7 hn; omega) (Vw.nN hn))))
    refine AW.iload_n dX2_offended_44 rfl rfl ?_
    exact AW.iretE dX2_offended_45 rfl rfl rfl rfl
  · intro k hk ihk
    refine AW.iload_n dX2_offended_6 rfl rfl ?_
    refine AW.aload_n dX2_offended_7 rfl rfl ?_
    refine AW.get ci2 0 (by decide) q1351 dX2_offended_8 gM rfl rfl ?_
    refine AW.iconst (v := 0) dX2_offended_11 (by decide) rfl ?_
    refine AW.iald dX2_offended_12 g626 (vp_in_iff.mpr (by decide)) (j := 0) (by decide) rfl ?_
    refine AW.icmp_ge (tgt := 44) dX2_offended_13 (by decide) rfl (fun c_ => by first | exact absurd c_ (loop_in hk (by have := Vw.n7 hn; omega) (Vw.nN hn)) | exact absurd (loop_in hk (by have := Vw.n7 hn; omega) (Vw.nN hn)) c_ | exact Bool.noConfusion (c_.symm.trans (loop_in hk (by have := Vw.n7 hn; omega) (Vw.nN hn)))) (fun _ => ?_)
    refine AW.aload_n dX2_offended_16 rfl rfl ?_
    refine AW.iload_n dX2_offended_17 rfl rfl ?_
    refine AW.iconst (v := 1) dX2_offended_18 (by decide) rfl ?_
    refine AW.callV (Y := mX2_knocksAt) (n := 2) (r_X2_knocksAt hb _ _) (by decide) (by decide) rfl gM q1829 q1831 qs117 q141 q1832 dX2_offended_19 (by decide +kernel) rfl rfl (Nat.le_of_ble_eq_true rfl) rfl ?_
    refine AW.iload_n dX2_offended_22 rfl rfl ?_
    refine AW.icmp_gt (tgt := 29) dX2_offended_23 (by decide) rfl (fun c => ?_) (fun c => ?_)
    · refine AW.aload_n dX2_offended_29 rfl rfl ?_
      refine AW.iload_n dX2_offended_30 rfl rfl ?_
      refine AW.iconst (v := 1) dX2_offended_31 (by decide) rfl ?_
      refine AW.callV (Y := mX2_knocksAt) (n := 2) (r_X2_knocksAt hb _ _) (by decide) (by decide) rfl gM q1829 q1831 qs117 q141 q1832 dX2_offended_32 (by decide +kernel) rfl rfl (Nat.le_of_ble_eq_true rfl) rfl ?_
      refine AW.istore_n (i := 2) dX2_offended_35 rfl rfl (Nat.le_of_ble_eq_true rfl) rfl rfl ?_
      refine AW.iload_n dX2_offended_36 rfl rfl ?_
      refine AW.istore_n (i := 1) dX2_offended_37 rfl rfl (Nat.le_of_ble_eq_true rfl) rfl rfl ?_
      refine AW.iinc (v := 1) dX2_offended_38 rfl (by decide) rfl rfl rfl ?_
      refine AW.goto (tgt := 6) dX2_offended_41 (by decide) ?_
      exact AW.ls (by have e : (bkM (s.A 626)).offended (k + 1) = if ((bkM (s.A 626)).offended k).2 < (bkM (s.A 626)).knocksAt (nI k) 1 then (nI k, (bkM (s.A 626)).knocksAt (nI k) 1) else (bkM (s.A 626)).offended k := rfl; simp [e, nI_succ, c]) ihk
    · refine AW.goto (tgt := 38) dX2_offended_26 (by decide) ?_
      refine AW.iinc (v := 1) dX2_offended_38 rfl (by decide) rfl rfl rfl ?_
      refine AW.goto (tgt := 6) dX2_offended_41 (by decide) ?_
      exact AW.ls (by have e : (bkM (s.A 626)).offended (k + 1) = if ((bkM (s.A 626)).offended k).2 < (bkM (s.A 626)).knocksAt (nI k) 1 then (nI k, (bkM (s.A 626)).knocksAt (nI k) 1) else (bkM (s.A 626)).offended k := rfl; simp [e, nI_succ, c]) ihk
def laterI (set days : Int32) : Int32 := orUp (fun k => if hasI set (nI k) then bit ((nI k + days) % 20) else 0) 20
def Vw.leapM (v : Vw) (h e : Int32) : Int32 := if v.hou h && v.hou e then srch (fun k => decide (laterI (v.sh h) (nI k) = v.sh e)) nI (-1) (21 - 0) 0 else -1
theorem r_X2_later {h : AH} (set days : Int32) : Run 2 mX2_later [.int set, .int days] h (.inl (some (.int (laterI set days)))) h := by
  refine Run.of rfl (Nat.le_of_ble_eq_true rfl) rfl ?_
  refine AW.iconst (v := 0) dX2_later_0 (by decide) rfl ?_
  refine AW.istore_n (i := 2) dX2_later_1 rfl rfl (Nat.le_of_ble_eq_true rfl) rfl rfl ?_
  refine AW.iconst (v := 0) dX2_later_2 (by decide) rfl ?_
  refine AW.istore_n (i := 3) dX2_later_3 rfl rfl (Nat.le_of_ble_eq_true rfl) rfl rfl ?_
  refine loopUp (P := fun k => AW 2 mX2_later h 4 [some (.int (set)), some (.int (days)), some (.int (orUp (fun k => if hasI set (nI k) then bit ((nI k + days) % 20) else 0) k)), some (.int (nI k))] [] (.inl (some (.int (laterI set days)))) h) 20 ?_ ?_ 0 (by first | exact Nat.zero_le _ | omega)
  · refine AW.iload_n dX2_later_4 rfl rfl ?_
    refine AW.bipush (v := 20) dX2_later_5 (by decide) rfl ?_
    refine AW.icmp_ge (tgt := 39) dX2_later_7 (by decide) rfl (fun _ => ?_) (fun c_ => by first | exact absurd c_ (by decide) | exact absurd (by decide) c_ | exact absurd c_ (not_not_intro (by decide)) | exact Bool.noConfusion (c_.symm.trans (by decide)))
    refine AW.iload_n dX2_later_39 rfl rfl ?_
    exact AW.iretE dX2_later_40 rfl rfl rfl rfl
  · intro k hk ihk
    refine AW.iload_n dX2_later_4 rfl rfl ?_
    refine AW.bipush (v := 20) dX2_later_5 (by decide) rfl ?_
    refine AW.icmp_ge (tgt := 39) dX2_later_7 (by decide) rfl (fun c_ => by first | exact absurd c_ (nle_lit 20 rfl hk (by decide)) | exact absurd (nle_lit 20 rfl hk (by decide)) c_ | exact Bool.noConfusion (c_.symm.trans (nle_lit 20 rfl hk (by decide)))) (fun _ => ?_)
    refine AW.iload_n dX2_later_10 rfl rfl ?_
    refine AW.iload_n dX2_later_11 rfl rfl ?_
    refine AW.iload_n dX2_later_12 rfl rfl ?_
    refine AW.callS (Y := mX2_has) (n := 2) (r_X2_has _ _) (by decide) (by decide) q1547 q1548 q141 q1549 dX2_later_13 (by decide +kernel) rfl rfl (Nat.le_of_ble_eq_true rfl) rfl ?_
    refine AW.if_eqB (tgt := 30) dX2_later_16 (by decide) rfl (fun c => ?_) (fun c => ?_)
    · refine AW.iconst (v := 0) dX2_later_30 (by decide) rfl ?_
      refine AW.ior dX2_later_31 rfl ?_
      refine AW.istore_n (i := 2) dX2_later_32 rfl rfl (Nat.le_of_ble_eq_true rfl) rfl rfl ?_
      refine AW.iinc (v := 1) dX2_later_33 rfl (by decide) rfl rfl rfl ?_
      refine AW.goto (tgt := 4) dX2_later_36 (by decide) ?_
      exact AW.ls (by simp [orUp, nI_succ, c, bit]) ihk
    · refine AW.iconst (v := 1) dX2_later_19 (by decide) rfl ?_
      refine AW.iload_n dX2_later_20 rfl rfl ?_
      refine AW.iload_n dX2_later_21 rfl rfl ?_
      refine AW.iadd dX2_later_22 rfl ?_
      refine AW.bipush (v := 20) dX2_later_23 (by decide) rfl ?_
      refine AW.irem dX2_later_25 (by decide) rfl ?_
      refine AW.ishl dX2_later_26 rfl ?_
      refine AW.goto (tgt := 31) dX2_later_27 (by decide) ?_
      refine AW.ior dX2_later_31 rfl ?_
      refine AW.istore_n (i := 2) dX2_later_32 rfl rfl (Nat.le_of_ble_eq_true rfl) rfl rfl ?_
      refine AW.iinc (v := 1) dX2_later_33 rfl (by decide) rfl rfl rfl ?_
      refine AW.goto (tgt := 4) dX2_later_36 (by decide) ?_
      exact AW.ls (by simp [orUp, nI_succ, c, bit]) ihk
theorem r_X2_leap {s : Sg} (hn : (vwM (s.A 626)).ok) (h e : Int32) : Run 3 mX2_leap [.ref 625, .int h, .int e] (hp s) (.inl (some (.int ((vwM (s.A 626)).leapM h e)))) (hp s) := by
  refine Run.of rfl (Nat.le_of_ble_eq_true rfl) rfl ?_
  refine AW.aload_n dX2_leap_0 rfl rfl ?_
  refine AW.iload_n dX2_leap_1 rfl rfl ?_
  refine AW.callV (Y := mX2_isHouse) (n := 1) (r_X2_isHouse _) (by decide) (by decide) rfl gM q1653 q1655 qs92 q141 q1656 dX2_leap_2 (by decide +kernel) rfl rfl (Nat.le_of_ble_eq_true rfl) rfl ?_
  refine AW.if_eqB (tgt := 16) dX2_leap_5 (by decide) rfl (fun c5 => ?_) (fun c5 => ?_)
  · refine AW.iconst (v := (-1)) dX2_leap_16 (by decide) rfl ?_
    exact AW.iretE dX2_leap_17 rfl rfl (by simp [Vw.leapM, *]) rfl
  · refine AW.aload_n dX2_leap_8 rfl rfl ?_
    refine AW.iload_n dX2_leap_9 rfl rfl ?_
    refine AW.callV (Y := mX2_isHouse) (n := 1) (r_X2_isHouse _) (by decide) (by decide) rfl gM q1653 q1655 qs92 q141 q1656 dX2_leap_10 (by decide +kernel) rfl rfl (Nat.le_of_ble_eq_true rfl) rfl ?_
    refine AW.if_neB (tgt := 18) dX2_leap_13 (by decide) rfl (fun c13 => ?_) (fun c13 => ?_)
    · refine AW.iconst (v := 0) dX2_leap_18 (by decide) rfl ?_
      refine AW.istore_n (i := 3) dX2_leap_19 rfl rfl (Nat.le_of_ble_eq_true rfl) rfl rfl ?_
      have e1 := vwM_sh c5
      have e2 := vwM_sh c13
      refine AW.oo (o2 := .inl (some (.int (srch (fun k => decide (laterI ((vwM (s.A 626)).sh h) (nI k) = (vwM (s.A 626)).sh e)) nI (-1) (21 - 0) 0)))) (by unfold Vw.leapM; rw [c5, c13]; rfl) ?_
      refine loopUp (P := fun k => AW 3 mX2_leap (hp s) 20 [some (.ref 625), some (.int (h)), some (.int (e)), some (.int (nI k))] [] (.inl (some (.int (srch (fun k => decide (laterI ((vwM (s.A 626)).sh h) (nI k) = (vwM (s.A 626)).sh e)) nI (-1) (21 - k) k)))) (hp s)) 21 ?_ ?_ 0 (by first | exact Nat.zero_le _ | omega)
      · refine AW.iload_n dX2_leap_20 rfl rfl ?_
        refine AW.bipush (v := 20) dX2_leap_21 (by decide) rfl ?_
        refine AW.icmp_gt (tgt := 53) dX2_leap_23 (by decide) rfl (fun _ => ?_) (fun c_ => by first | exact absurd c_ (by decide) | exact absurd (by decide) c_ | exact absurd c_ (not_not_intro (by decide)) | exact Bool.noConfusion (c_.symm.trans (by decide)))
        refine AW.iconst (v := (-1)) dX2_leap_53 (by decide) rfl ?_
        exact AW.iretE dX2_leap_54 rfl rfl (srch_e.symm) rfl
      · intro k hk ihk
        refine AW.iload_n dX2_leap_20 rfl rfl ?_
        refine AW.bipush (v := 20) dX2_leap_21 (by decide) rfl ?_
        refine AW.icmp_gt (tgt := 53) dX2_leap_23 (by decide) rfl (fun c_ => by first | exact absurd c_ (nlt_lit 20 rfl (by omega) (by decide)) | exact absurd (nlt_lit 20 rfl (by omega) (by decide)) c_ | exact Bool.noConfusion (c_.symm.trans (nlt_lit 20 rfl (by omega) (by decide)))) (fun _ => ?_)
        refine AW.aload_n dX2_leap_26 rfl rfl ?_
        refine AW.iload_n dX2_leap_27 rfl rfl ?_
        refine AW.iconst (v := 0) dX2_leap_28 (by decide) rfl ?_
        refine AW.callV (Y := mX2_get) (n := 2) (r_X2_get _ _ (in_get hn c5 (by decide) (by decide))) (by decide) (by decide) rfl gM q1477 q1479 qs63 q141 q1480 dX2_leap_29 (by decide +kernel) rfl rfl (Nat.le_of_ble_eq_true rfl) rfl ?_
        refine AW.iload_n dX2_leap_32 rfl rfl ?_
        refine AW.callS (Y := mX2_later) (n := 2) (r_X2_later _ _) (by decide) (by decide) q2010 q2011 q141 q2012 dX2_leap_33 (by decide +kernel) rfl rfl (Nat.le_of_ble_eq_true rfl) rfl ?_
        refine AW.aload_n dX2_leap_36 rfl rfl ?_
        refine AW.iload_n dX2_leap_37 rfl rfl ?_
        refine AW.iconst (v := 0) dX2_leap_38 (by decide) rfl ?_
        refine AW.callV (Y := mX2_get) (n := 2) (r_X2_get _ _ (in_get hn c13 (by decide) (by decide))) (by decide) (by decide) rfl gM q1477 q1479 qs63 q141 q1480 dX2_leap_39 (by decide +kernel) rfl rfl (Nat.le_of_ble_eq_true rfl) rfl ?_
        refine AW.icmp_ne (tgt := 47) dX2_leap_42 (by decide) rfl (fun c => ?_) (fun c => ?_)
        · refine AW.iinc (v := 1) dX2_leap_47 rfl (by decide) rfl rfl rfl ?_
          refine AW.goto (tgt := 20) dX2_leap_50 (by decide) ?_
          exact AW.ls (by rw [nI_succ]; rfl) (AW.oo (by rw [srch_f hk (dec_f (by rw [e1, e2]; exact c))]) ihk)
        · refine AW.iload_n dX2_leap_45 rfl rfl ?_
          exact AW.iretE dX2_leap_46 rfl rfl (srch_t hk (dec_t (by rw [e1, e2]; exact c))).symm rfl
    · refine AW.iconst (v := (-1)) dX2_leap_16 (by decide) rfl ?_
      exact AW.iretE dX2_leap_17 rfl rfl (by simp [Vw.leapM, *]) rfl
def endI (n taped : Int32) : Int32 := if inI n 0 taped then n else -1
def faultI (w f p : Int32) : Int32 := if w = 0 then f else if w = 1 then p else -1
theorem r_X2_end_t {s : Sg} (n : Int32) (h : inI n 0 (s.S 4) = true) : Run 2 mX2_end [.ref 625, .int n] (hp s) (.inl (some (.int (n)))) (hp (s.setS 4 n)) := by
  refine Run.of rfl (Nat.le_of_ble_eq_true rfl) rfl ?_
  refine AW.iload_n dX2_end_0 rfl rfl ?_
  refine AW.iconst (v := 0) dX2_end_1 (by decide) rfl ?_
  refine AW.aload_n dX2_end_2 rfl rfl ?_
  refine AW.get ci2 4 (by decide) q1355 dX2_end_3 gM rfl rfl ?_
  refine AW.callS (Y := mX2_isIn) (n := 3) (r_X2_isIn _ _ _) (by decide) (by decide) q1466 q1467 q141 q1468 dX2_end_6 (by decide +kernel) rfl rfl (Nat.le_of_ble_eq_true rfl) rfl ?_
  refine AW.if_neB (tgt := 14) dX2_end_9 (by decide) rfl (fun _ => ?_) (fun c_ => by first | exact absurd c_ h | exact absurd h c_ | exact absurd c_ (not_not_intro h) | exact Bool.noConfusion (c_.symm.trans h))
  refine AW.aload_n dX2_end_14 rfl rfl ?_
  refine AW.iload_n dX2_end_15 rfl rfl ?_
  refine AW.put ci2 4 (by decide) q1355 dX2_end_16 (by decide) gM rfl (fun _ => rfl) (fun _ => rfl) (Nat.le_of_ble_eq_true rfl) sM4 rfl ?_
  refine AW.iload_n dX2_end_19 rfl rfl ?_
  exact AW.iretE dX2_end_20 rfl rfl rfl rfl
theorem r_X2_end_f {s : Sg} (n : Int32) (h : inI n 0 (s.S 4) = false) : Run 2 mX2_end [.ref 625, .int n] (hp s) (.inl (some (.int (-1)))) (hp s) := by
  refine Run.of rfl (Nat.le_of_ble_eq_true rfl) rfl ?_
  refine AW.iload_n dX2_end_0 rfl rfl ?_
  refine AW.iconst (v := 0) dX2_end_1 (by decide) rfl ?_
  refine AW.aload_n dX2_end_2 rfl rfl ?_
  refine AW.get ci2 4 (by decide) q1355 dX2_end_3 gM rfl rfl ?_
  refine AW.callS (Y := mX2_isIn) (n := 3) (r_X2_isIn _ _ _) (by decide) (by decide) q1466 q1467 q141 q1468 dX2_end_6 (by decide +kernel) rfl rfl (Nat.le_of_ble_eq_true rfl) rfl ?_
  refine AW.if_neB (tgt := 14) dX2_end_9 (by decide) rfl (fun c_ => by first | exact absurd c_ h | exact absurd h c_ | exact Bool.noConfusion (c_.symm.trans h)) (fun _ => ?_)
  refine AW.iconst (v := (-1)) dX2_end_12 (by decide) rfl ?_
  exact AW.iretE dX2_end_13 rfl rfl rfl rfl
theorem r_X2_fault {s : Sg} (w : Int32) : Run 1 mX2_fault [.ref 625, .int w] (hp s) (.inl (some (.int (faultI w (s.S 5) (s.S 6))))) (hp s) := by
  refine Run.of rfl (Nat.le_of_ble_eq_true rfl) rfl ?_
  refine AW.iload_n dX2_fault_0 rfl rfl ?_
  refine AW.if_ne (tgt := 11) dX2_fault_1 (by decide) rfl (fun c1 => ?_) (fun c1 => ?_)
  · refine AW.iload_n dX2_fault_11 rfl rfl ?_
    refine AW.iconst (v := 1) dX2_fault_12 (by decide) rfl ?_
    refine AW.icmp_ne (tgt := 23) dX2_fault_13 (by decide) rfl (fun c2 => ?_) (fun c2 => ?_)
    · refine AW.iconst (v := (-1)) dX2_fault_23 (by decide) rfl ?_
      exact AW.iretE dX2_fault_24 rfl rfl (by simp [faultI, *]) rfl
    · refine AW.aload_n dX2_fault_16 rfl rfl ?_
      refine AW.get ci2 6 (by decide) q1357 dX2_fault_17 gM rfl rfl ?_
      refine AW.goto (tgt := 24) dX2_fault_20 (by decide) ?_
      exact AW.iretE dX2_fault_24 rfl rfl (by simp [faultI, *]) rfl
  · refine AW.aload_n dX2_fault_4 rfl rfl ?_
    refine AW.get ci2 5 (by decide) q1356 dX2_fault_5 gM rfl rfl ?_
    refine AW.goto (tgt := 24) dX2_fault_8 (by decide) ?_
    exact AW.iretE dX2_fault_24 rfl rfl (by simp [faultI, *]) rfl
theorem r_X2_by_t {s : Sg} (n : Int32) (h : inI n (-1) (s.A 626 1 - 1) = true) : Run 2 mX2_by [.ref 625, .int n] (hp s) (.inl (some (.int (b2i true)))) (hp (s.setA 626 (up (s.A 626) 2 n))) := by
  refine Run.of rfl (Nat.le_of_ble_eq_true rfl) rfl ?_
  refine AW.iload_n dX2_by_0 rfl rfl ?_
  refine AW.iconst (v := (-1)) dX2_by_1 (by decide) rfl ?_
  refine AW.aload_n dX2_by_2 rfl rfl ?_
  refine AW.get ci2 0 (by decide) q1351 dX2_by_3 gM rfl rfl ?_
  refine AW.iconst (v := 1) dX2_by_6 (by decide) rfl ?_
  refine AW.iald dX2_by_7 g626 (vp_in_iff.mpr (by decide)) (j := 1) (by decide) rfl ?_
  refine AW.iconst (v := 1) dX2_by_8 (by decide) rfl ?_
  refine AW.isub dX2_by_9 rfl ?_
  refine AW.callS (Y := mX2_isIn) (n := 3) (r_X2_isIn _ _ _) (by decide) (by decide) q1466 q1467 q141 q1468 dX2_by_10 (by decide +kernel) rfl rfl (Nat.le_of_ble_eq_true rfl) rfl ?_
  refine AW.if_neB (tgt := 18) dX2_by_13 (by decide) rfl (fun _ => ?_) (fun c_ => by first | exact absurd c_ h | exact absurd h c_ | exact absurd c_ (not_not_intro h) | exact Bool.noConfusion (c_.symm.trans h))
  refine AW.aload_n dX2_by_18 rfl rfl ?_
  refine AW.get ci2 0 (by decide) q1351 dX2_by_19 gM rfl rfl ?_
  refine AW.iconst (v := 2) dX2_by_22 (by decide) rfl ?_
  refine AW.iload_n dX2_by_23 rfl rfl ?_
  refine AW.iast dX2_by_24 (by decide) g626 (vp_in_iff.mpr (by decide)) (j := 2) (by decide) s626 rfl ?_
  refine AW.iconst (v := 1) dX2_by_25 (by decide) rfl ?_
  exact AW.bretE dX2_by_26 rfl rfl rfl rfl
theorem r_X2_by_f {s : Sg} (n : Int32) (h : inI n (-1) (s.A 626 1 - 1) = false) : Run 2 mX2_by [.ref 625, .int n] (hp s) (.inl (some (.int (b2i false)))) (hp s) := by
  refine Run.of rfl (Nat.le_of_ble_eq_true rfl) rfl ?_
  refine AW.iload_n dX2_by_0 rfl rfl ?_
  refine AW.iconst (v := (-1)) dX2_by_1 (by decide) rfl ?_
  refine AW.aload_n dX2_by_2 rfl rfl ?_
  refine AW.get ci2 0 (by decide) q1351 dX2_by_3 gM rfl rfl ?_
  refine AW.iconst (v := 1) dX2_by_6 (by decide) rfl ?_
  refine AW.iald dX2_by_7 g626 (vp_in_iff.mpr (by decide)) (j := 1) (by decide) rfl ?_
  refine AW.iconst (v := 1) dX2_by_8 (by decide) rfl ?_
  refine AW.isub dX2_by_9 rfl ?_
  refine AW.callS (Y := mX2_isIn) (n := 3) (r_X2_isIn _ _ _) (by decide) (by decide) q1466 q1467 q141 q1468 dX2_by_10 (by decide +kernel) rfl rfl (Nat.le_of_ble_eq_true rfl) rfl ?_
  refine AW.if_neB (tgt := 18) dX2_by_13 (by decide) rfl (fun c_ => by first | exact absurd c_ h | exact absurd h c_ | exact Bool.noConfusion (c_.symm.trans h)) (fun _ => ?_)
  refine AW.iconst (v := 0) dX2_by_16 (by decide) rfl ?_
  exact AW.bretE dX2_by_17 rfl rfl rfl rfl
def aboutI (a : Nat → Int32) (taped w : Int32) : Int32 := if inI w 0 5 then a (cI w) else if w = 6 then taped else -2
def Vw.isI (v : Vw) (day draw w : Int32) : Int32 := if w = 0 then day else if w = 1 then day % 20 else if w = 2 then draw else if w = 3 then v.openOn (day % 20) else -2
theorem r_X2_about {s : Sg} (w : Int32) : Run 2 mX2_about [.ref 625, .int w] (hp s) (.inl (some (.int (aboutI (s.A 626) (s.S 4) w)))) (hp s) := by
  refine Run.of rfl (Nat.le_of_ble_eq_true rfl) rfl ?_
  refine AW.iload_n dX2_about_0 rfl rfl ?_
  refine AW.iconst (v := 0) dX2_about_1 (by decide) rfl ?_
  refine AW.iconst (v := 5) dX2_about_2 (by decide) rfl ?_
  refine AW.callS (Y := mX2_isIn) (n := 3) (r_X2_isIn _ _ _) (by decide) (by decide) q1466 q1467 q141 q1468 dX2_about_3 (by decide +kernel) rfl rfl (Nat.le_of_ble_eq_true rfl) rfl ?_
  refine AW.if_eqB (tgt := 18) dX2_about_6 (by decide) rfl (fun c6 => ?_) (fun c6 => ?_)
  · refine AW.iload_n dX2_about_18 rfl rfl ?_
    refine AW.bipush (v := 6) dX2_about_19 (by decide) rfl ?_
    refine AW.icmp_ne (tgt := 31) dX2_about_21 (by decide) rfl (fun c2 => ?_) (fun c2 => ?_)
    · refine AW.bipush (v := (-2)) dX2_about_31 (by decide) rfl ?_
      exact AW.iretE dX2_about_33 rfl rfl (by unfold aboutI; rw [c6]; first | rfl | (rw [c2]; rfl) | simp [c2]) rfl
    · refine AW.aload_n dX2_about_24 rfl rfl ?_
      refine AW.get ci2 4 (by decide) q1355 dX2_about_25 gM rfl rfl ?_
      refine AW.goto (tgt := 33) dX2_about_28 (by decide) ?_
      exact AW.iretE dX2_about_33 rfl rfl (by unfold aboutI; rw [c6]; first | rfl | (rw [c2]; rfl) | simp [c2]) rfl
  · refine AW.aload_n dX2_about_9 rfl rfl ?_
    refine AW.get ci2 0 (by decide) q1351 dX2_about_10 gM rfl rfl ?_
    refine AW.iload_n dX2_about_13 rfl rfl ?_
    refine AW.iald dX2_about_14 g626 (by have q := inI_iff.mp c6; have q1 : 0 ≤ w.toInt := q.1; have q2 : w.toInt ≤ 5 := q.2; rw [vp_in_iff]; omega) rfl rfl ?_
    refine AW.goto (tgt := 33) dX2_about_15 (by decide) ?_
    exact AW.iretE dX2_about_33 rfl rfl (by unfold aboutI; rw [c6]; first | rfl | (rw [c2]; rfl) | simp [c2]) rfl
theorem r_X2_is {s : Sg} (hn : (vwM (s.A 626)).ok) (w : Int32) : Run 6 mX2_is [.ref 625, .int w] (hp s) (.inl (some (.int ((vwM (s.A 626)).isI (s.A 626 8) (s.A 626 9) w)))) (hp s) := by
  refine Run.of rfl (Nat.le_of_ble_eq_true rfl) rfl ?_
  refine AW.iload_n dX2_is_0 rfl rfl ?_
  by_cases s1_0 : w = 0
  · refine AW.tableIn (off := 31) (tgt := 32) dX2_is_1 (by rw [s1_0]; decide) (by rw [s1_0]; decide) (by rw [s1_0]; rfl) (by decide) ?_
    refine AW.aload_n dX2_is_32 rfl rfl ?_
    refine AW.get ci2 0 (by decide) q1351 dX2_is_33 gM rfl rfl ?_
    refine AW.bipush (v := 8) dX2_is_36 (by decide) rfl ?_
    refine AW.iald dX2_is_38 g626 (vp_in_iff.mpr (by decide)) (j := 8) (by decide) rfl ?_
    exact AW.iretE dX2_is_39 rfl rfl (by simp [Vw.isI, *]) rfl
  by_cases s1_1 : w = 1
  · refine AW.tableIn (off := 39) (tgt := 40) dX2_is_1 (by rw [s1_1]; decide) (by rw [s1_1]; decide) (by rw [s1_1]; rfl) (by decide) ?_
    refine AW.aload_n dX2_is_40 rfl rfl ?_
    refine AW.callV (Y := mX2_date) (n := 0) (r_X2_date) (by decide) (by decide) rfl gM q1665 q1667 qs95 q141 q1668 dX2_is_41 (by decide +kernel) rfl rfl (Nat.le_of_ble_eq_true rfl) rfl ?_
    exact AW.iretE dX2_is_44 rfl rfl (by simp [Vw.isI, *]) rfl
  by_cases s1_2 : w = 2
  · refine AW.tableIn (off := 44) (tgt := 45) dX2_is_1 (by rw [s1_2]; decide) (by rw [s1_2]; decide) (by rw [s1_2]; rfl) (by decide) ?_
    refine AW.aload_n dX2_is_45 rfl rfl ?_
    refine AW.get ci2 0 (by decide) q1351 dX2_is_46 gM rfl rfl ?_
    refine AW.bipush (v := 9) dX2_is_49 (by decide) rfl ?_
    refine AW.iald dX2_is_51 g626 (vp_in_iff.mpr (by decide)) (j := 9) (by decide) rfl ?_
    exact AW.iretE dX2_is_52 rfl rfl (by simp [Vw.isI, *]) rfl
  by_cases s1_3 : w = 3
  · refine AW.tableIn (off := 52) (tgt := 53) dX2_is_1 (by rw [s1_3]; decide) (by rw [s1_3]; decide) (by rw [s1_3]; rfl) (by decide) ?_
    refine AW.aload_n dX2_is_53 rfl rfl ?_
    refine AW.aload_n dX2_is_54 rfl rfl ?_
    refine AW.callV (Y := mX2_date) (n := 0) (r_X2_date) (by decide) (by decide) rfl gM q1665 q1667 qs95 q141 q1668 dX2_is_55 (by decide +kernel) rfl rfl (Nat.le_of_ble_eq_true rfl) rfl ?_
    refine AW.callV (Y := mX2_openOn) (n := 1) (r_X2_openOn hn _) (by decide) (by decide) rfl gM q1688 q1690 qs100 q141 q1691 dX2_is_58 (by decide +kernel) rfl rfl (Nat.le_of_ble_eq_true rfl) rfl ?_
    exact AW.iretE dX2_is_61 rfl rfl (by simp [Vw.isI, *]) rfl
  refine AW.tableOut (tgt := 62) dX2_is_1 (by have q0 : ¬ (w).toInt = 0 := fun q => s1_0 (Int32.toInt_inj.mp q); have q1 : ¬ (w).toInt = 1 := fun q => s1_1 (Int32.toInt_inj.mp q); have q2 : ¬ (w).toInt = 2 := fun q => s1_2 (Int32.toInt_inj.mp q); have q3 : ¬ (w).toInt = 3 := fun q => s1_3 (Int32.toInt_inj.mp q); omega) (by decide) ?_
  refine AW.bipush (v := (-2)) dX2_is_62 (by decide) rfl ?_
  exact AW.iretE dX2_is_64 rfl rfl (by simp [Vw.isI, *]) rfl
