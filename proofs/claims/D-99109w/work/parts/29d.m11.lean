/-! MODEL 11: what laws say (printed by tools/m11.py) -/
set_option maxRecDepth 100000
section GN
variable {s : Sg} {N : Nat → Int32} {V : Nat → Int64} {B : Nat → Bool}
theorem gn626 : (hp (sn s N V B)).g 626 = some (ia 2308 (s.A 626)) := by rw [g626, sn_A (by decide) (by decide)]
theorem gn628 : (hp (sn s N V B)).g 628 = some (ia 2820 (s.A 628)) := by rw [g628, sn_A (by decide) (by decide)]
theorem gn631 : (hp (sn s N V B)).g 631 = some (ia 8 N) := by rw [g631, sn_N]
theorem gn632 : (hp (sn s N V B)).g 632 = some (la 330 V) := g632
theorem gn633 : (hp (sn s N V B)).g 633 = some (za 330 (fun j => b2i (B j))) := gv633
theorem sn626 {f : Nat → Int32} : (hp (sn s N V B)).set 626 (ia 2308 f) = hp (sn (s.setA 626 f) N V B) := by rw [s626, sn_set (by decide) (by decide)]
end GN
theorem work_sum {s : Sg} {sort : Int32} {F : SumF} (hL : SumL (s.A 626) (s.A 628) sort (some F)) : ∃ c : Nat, c < 24 ∧ (∀ N V B, Run 1 mX2_clauseOf [.ref 625, .int sort] (hp (sn s N V B)) (.inl (some (.int (nI c)))) (hp (sn s N V B))) ∧ ∀ N V B, ∃ V2 B2, Run 3 mX2_work [.ref 625, .int (nI c)] (hp (sn s N V B)) (.inl none) (hp (sn s N V2 B2)) ∧ V2 0 = F N := by
  rcases hL with ⟨_, q⟩ | ⟨t, n, q1, q2, q3, q4, q5⟩
  · exact nomatch q
  · rcases q5 with ⟨_, q6⟩ | ⟨c, lo, hi, F2, q6, q7, q8⟩
    · exact nomatch q6
    · cases q7
      refine ⟨c, by have := q6.cn; omega, fun N V B => ?_, fun N V B => ?_⟩
      · have w := r_X2_clauseOf (s := sn s N V B) t n (by rw [sn_A (by decide) (by decide)]; exact q1) q2 (by rw [sn_A (by decide) (by decide)]; exact q3) q4 sort
        rw [sn_A (by decide) (by decide), q6.cl] at w
        exact w
      · have w := r_X2_work (s := s.setA 631 N) (V := V) (B := B) t c lo hi q1 q2 (by have := q6.cn; omega) q6.lo q6.hi q6.le q6.top (q6.ok _ _ _)
        rw [show (s.setA 631 N).A 631 = N from up_eq (f := s.A) (k := 631) (x := N)] at w
        exact ⟨_, _, w, q8 N V B⟩
theorem work_ask {s : Sg} {sort : Int32} {F : AskF} (hL : AskL (s.A 626) (s.A 628) sort (some F)) : ∃ c : Nat, c < 24 ∧ (∀ N V B, Run 1 mX2_clauseOf [.ref 625, .int sort] (hp (sn s N V B)) (.inl (some (.int (nI c)))) (hp (sn s N V B))) ∧ ∀ N V B, ∃ V2 B2, Run 3 mX2_work [.ref 625, .int (nI c)] (hp (sn s N V B)) (.inl none) (hp (sn s N V2 B2)) ∧ B2 0 = F N := by
  rcases hL with ⟨_, q⟩ | ⟨t, n, q1, q2, q3, q4, q5⟩
  · exact nomatch q
  · rcases q5 with ⟨_, q6⟩ | ⟨c, lo, hi, F2, q6, q7, q8⟩
    · exact nomatch q6
    · cases q7
      refine ⟨c, by have := q6.cn; omega, fun N V B => ?_, fun N V B => ?_⟩
      · have w := r_X2_clauseOf (s := sn s N V B) t n (by rw [sn_A (by decide) (by decide)]; exact q1) q2 (by rw [sn_A (by decide) (by decide)]; exact q3) q4 sort
        rw [sn_A (by decide) (by decide), q6.cl] at w
        exact w
      · have w := r_X2_work (s := s.setA 631 N) (V := V) (B := B) t c lo hi q1 q2 (by have := q6.cn; omega) q6.lo q6.hi q6.le q6.top (q6.ok _ _ _)
        rw [show (s.setA 631 N).A 631 = N from up_eq (f := s.A) (k := 631) (x := N)] at w
        exact ⟨_, _, w, q8 N V B⟩
theorem noc_sum {s : Sg} {N : Nat → Int32} {V : Nat → Int64} {B : Nat → Bool} {sort : Int32} (hL : SumL (s.A 626) (s.A 628) sort none) : Run 1 mX2_clauseOf [.ref 625, .int sort] (hp (sn s N V B)) (.inl (some (.int (-1)))) (hp (sn s N V B)) := by
  rcases hL with ⟨q, _⟩ | ⟨t, n, q1, q2, q3, q4, q5⟩
  · exact r_X2_clauseOf_n _ (by rw [sn_A (by decide) (by decide)]; exact q)
  · rcases q5 with ⟨q6, _⟩ | ⟨c, lo, hi, F, _, q7, _⟩
    · have w := r_X2_clauseOf (s := sn s N V B) t n (by rw [sn_A (by decide) (by decide)]; exact q1) q2 (by rw [sn_A (by decide) (by decide)]; exact q3) q4 sort
      rw [sn_A (by decide) (by decide), q6] at w
      exact w
    · exact nomatch q7
theorem noc_ask {s : Sg} {N : Nat → Int32} {V : Nat → Int64} {B : Nat → Bool} {sort : Int32} (hL : AskL (s.A 626) (s.A 628) sort none) : Run 1 mX2_clauseOf [.ref 625, .int sort] (hp (sn s N V B)) (.inl (some (.int (-1)))) (hp (sn s N V B)) := by
  rcases hL with ⟨q, _⟩ | ⟨t, n, q1, q2, q3, q4, q5⟩
  · exact r_X2_clauseOf_n _ (by rw [sn_A (by decide) (by decide)]; exact q)
  · rcases q5 with ⟨q6, _⟩ | ⟨c, lo, hi, F, _, q7, _⟩
    · have w := r_X2_clauseOf (s := sn s N V B) t n (by rw [sn_A (by decide) (by decide)]; exact q1) q2 (by rw [sn_A (by decide) (by decide)]; exact q3) q4 sort
      rw [sn_A (by decide) (by decide), q6] at w
      exact w
    · exact nomatch q7
theorem r_X2_says_n {s : Sg} {N : Nat → Int32} {V : Nat → Int64} {B : Nat → Bool} (sort w : Int32) (hL : SumL (s.A 626) (s.A 628) sort none) : Run 4 mX2_says [.ref 625, .int sort, .int w] (hp (sn s N V B)) (.inl (some (.int (w)))) (hp (sn s N V B)) := by
  refine Run.of rfl (Nat.le_of_ble_eq_true rfl) rfl ?_
  refine AW.aload_n dX2_says_0 rfl rfl ?_
  refine AW.iload_n dX2_says_1 rfl rfl ?_
  refine AW.callV (Y := mX2_clauseOf) (n := 1) (noc_sum hL) (by decide) (by decide) rfl gM q1677 q1679 qs98 q141 q1680 dX2_says_2 (by decide +kernel) rfl rfl (Nat.le_of_ble_eq_true rfl) rfl ?_
  refine AW.istore_n (i := 3) dX2_says_5 rfl rfl (Nat.le_of_ble_eq_true rfl) rfl rfl ?_
  refine AW.iload_n dX2_says_6 rfl rfl ?_
  refine AW.if_ge (tgt := 12) dX2_says_7 (by decide) rfl (fun c_ => by first | exact absurd c_ (by decide) | exact absurd (by decide) c_ | exact Bool.noConfusion (c_.symm.trans (by decide))) (fun _ => ?_)
  refine AW.iload_n dX2_says_10 rfl rfl ?_
  exact AW.iretE dX2_says_11 rfl rfl rfl rfl
theorem r_X2_says_s {s : Sg} {N : Nat → Int32} {V : Nat → Int64} {B : Nat → Bool} (sort w : Int32) {F : SumF} (hL : SumL (s.A 626) (s.A 628) sort (some F)) : RX (fun h2_ => ∃ V B, h2_ = hp (sn s N V B)) 4 mX2_says [.ref 625, .int sort, .int w] (hp (sn s N V B)) (some (.int (cutL (F N) 0 99))) := by
  obtain ⟨c, hc, h1, h2⟩ := work_sum hL
  obtain ⟨V2, B2, hw, hv⟩ := h2 N V B
  refine RX.of rfl (Nat.le_of_ble_eq_true rfl) rfl ?_
  refine AX.map (fun _ k_ => AW.aload_n dX2_says_0 rfl rfl k_) ?_
  refine AX.map (fun _ k_ => AW.iload_n dX2_says_1 rfl rfl k_) ?_
  refine AX.map (fun _ k_ => AW.callV (Y := mX2_clauseOf) (n := 1) (h1 _ _ _) (by decide) (by decide) rfl gM q1677 q1679 qs98 q141 q1680 dX2_says_2 (by decide +kernel) rfl rfl (Nat.le_of_ble_eq_true rfl) rfl k_) ?_
  refine AX.map (fun _ k_ => AW.istore_n (i := 3) dX2_says_5 rfl rfl (Nat.le_of_ble_eq_true rfl) rfl rfl k_) ?_
  refine AX.map (fun _ k_ => AW.iload_n dX2_says_6 rfl rfl k_) ?_
  refine AX.map (fun _ k_ => AW.if_ge (tgt := 12) dX2_says_7 (by decide) rfl (fun _ => k_) (fun c_ => by first | exact absurd c_ (Int32.not_lt.mp (nI_pos (by omega))) | exact absurd (Int32.not_lt.mp (nI_pos (by omega))) c_ | exact absurd c_ (not_not_intro (Int32.not_lt.mp (nI_pos (by omega)))) | exact Bool.noConfusion (c_.symm.trans (Int32.not_lt.mp (nI_pos (by omega)))))) ?_
  refine AX.map (fun _ k_ => AW.aload_n dX2_says_12 rfl rfl k_) ?_
  refine AX.map (fun _ k_ => AW.iload_n dX2_says_13 rfl rfl k_) ?_
  refine AX.map (fun _ k_ => AW.callV (Y := mX2_work) (n := 1) (hw) (by decide) (by decide) rfl gM q1700 q1702 qs103 q141 q1703 dX2_says_14 (by decide +kernel) rfl rfl (Nat.le_of_ble_eq_true rfl) rfl k_) ?_
  refine AX.map (fun _ k_ => AW.aload_n dX2_says_17 rfl rfl k_) ?_
  refine AX.map (fun _ k_ => AW.get ci2 22 (by decide) q1373 dX2_says_18 gM rfl rfl k_) ?_
  refine AX.map (fun _ k_ => AW.iconst (v := 0) dX2_says_21 (by decide) rfl k_) ?_
  refine AX.map (fun _ k_ => AW.lald dX2_says_22 gn632 (vp_in_iff.mpr (by decide)) (j := 0) (by decide) rfl k_) ?_
  refine AX.map (fun _ k_ => AW.iconst (v := 0) dX2_says_23 (by decide) rfl k_) ?_
  refine AX.map (fun _ k_ => AW.bipush (v := 99) dX2_says_24 (by decide) rfl k_) ?_
  refine AX.map (fun _ k_ => AW.callS (Y := mX2_cut) (n := 3) (r_X2_cut _ _ _) (by decide) (by decide) q1726 q1727 q141 q1728 dX2_says_26 (by decide +kernel) rfl rfl (Nat.le_of_ble_eq_true rfl) rfl k_) ?_
  exact ⟨_, ⟨_, _, rfl⟩, AW.iretE dX2_says_29 rfl rfl (by rw [hv]) rfl⟩
theorem r_X2_says {s : Sg} {N : Nat → Int32} {V : Nat → Int64} {B : Nat → Bool} (sort w : Int32) (f : Option SumF) (hL : SumL (s.A 626) (s.A 628) sort f) : RX (fun h2_ => ∃ V B, h2_ = hp (sn s N V B)) 4 mX2_says [.ref 625, .int sort, .int w] (hp (sn s N V B)) (some (.int (sayF f w N))) := by
  cases f with
  | none => exact ⟨_, ⟨_, _, rfl⟩, r_X2_says_n sort w hL⟩
  | some F => exact r_X2_says_s sort w hL
def earnF (L : Lw) (v : Vw) (h day : Int32) : Int32 := sayF L.1 (1 + v.beside h (day % 20)) (nmV v h day)
def loseF (L : Lw) (v : Vw) (h day : Int32) : Int32 := sayF L.2.1 2 (nmV v h day)
def letF (L : Lw) (v : Vw) (h day : Int32) : Bool := match L.2.2 with
  | none => decide (v.fr h < 50)
  | some F => F (nmV v h day)
theorem sayF_x {f : Option SumF} {w : Int32} {a b : Nat → Int32} (hx : extF f) (h : ∀ j, j < 8 → a j = b j) : sayF f w a = sayF f w b := by
  cases f with
  | none => rfl
  | some F => exact congrArg (fun q => cutL q 0 99) (hx F rfl a b h)
theorem r_X2_earnsOn {s : Sg} {N : Nat → Int32} {V : Nat → Int64} {B : Nat → Bool} {L : Lw} (hn : (vwM (s.A 626)).ok) (hL : LawM (s.A 626) (s.A 628) L) (h day : Int32) (hh : (vwM (s.A 626)).hou h = true) : RX (Qn s) 7 mX2_earnsOn [.ref 625, .int h, .int day] (hp (sn s N V B)) (some (.int (earnF L (vwM (s.A 626)) h day))) := by
  have hnm := r_X2_name (s := sn s N V B) (by rw [sn_A (by decide) (by decide)]; exact hn) h day (by rw [sn_A (by decide) (by decide)]; exact hh)
  rw [sn_631, sn_N, sn_A (k := 626) (by decide) (by decide)] at hnm
  obtain ⟨_, ⟨V2, B2, rfl⟩, hs⟩ := r_X2_says (N := nmA N (vwM (s.A 626)) h day) (V := V) (B := B) 0 (1 + (vwM (s.A 626)).beside h (day % 20)) _ hL.e
  refine RX.of rfl (Nat.le_of_ble_eq_true rfl) rfl ?_
  refine AX.map (fun _ k_ => AW.aload_n dX2_earnsOn_0 rfl rfl k_) ?_
  refine AX.map (fun _ k_ => AW.iload_n dX2_earnsOn_1 rfl rfl k_) ?_
  refine AX.map (fun _ k_ => AW.iload_n dX2_earnsOn_2 rfl rfl k_) ?_
  refine AX.map (fun _ k_ => AW.callV (Y := mX2_name) (n := 2) (hnm) (by decide) (by decide) rfl gM q1681 q1683 qs99 q141 q1684 dX2_earnsOn_3 (by decide +kernel) rfl rfl (Nat.le_of_ble_eq_true rfl) rfl k_) ?_
  refine AX.map (fun _ k_ => AW.aload_n dX2_earnsOn_6 rfl rfl k_) ?_
  refine AX.map (fun _ k_ => AW.iconst (v := 0) dX2_earnsOn_7 (by decide) rfl k_) ?_
  refine AX.map (fun _ k_ => AW.iconst (v := 1) dX2_earnsOn_8 (by decide) rfl k_) ?_
  refine AX.map (fun _ k_ => AW.aload_n dX2_earnsOn_9 rfl rfl k_) ?_
  refine AX.map (fun _ k_ => AW.get ci2 21 (by decide) q1372 dX2_earnsOn_10 gM rfl rfl k_) ?_
  refine AX.map (fun _ k_ => AW.bipush (v := 7) dX2_earnsOn_13 (by decide) rfl k_) ?_
  refine AX.map (fun _ k_ => AW.iald dX2_earnsOn_15 gn631 (vp_in_iff.mpr (by decide)) (j := 7) (by decide) rfl k_) ?_
  refine AX.map (fun _ k_ => AW.iadd dX2_earnsOn_16 rfl k_) ?_
  refine AX.map (fun _ k_ => AW.callV (Y := mX2_says) (n := 2) (hs) (by decide) (by decide) rfl gM q1780 q1782 qs112 q141 q1783 dX2_earnsOn_17 (by decide +kernel) rfl rfl (Nat.le_of_ble_eq_true rfl) rfl k_) ?_
  exact ⟨_, Qn.of, AW.iretE dX2_earnsOn_20 rfl rfl (by unfold earnF; rw [sayF_x hL.xe (fun j hj => nmA_at hj)]) rfl⟩
theorem r_X2_losesOf {s : Sg} {N : Nat → Int32} {V : Nat → Int64} {B : Nat → Bool} {L : Lw} (hn : (vwM (s.A 626)).ok) (hL : LawM (s.A 626) (s.A 628) L) (h : Int32) (hh : (vwM (s.A 626)).hou h = true) : RX (Qn s) 7 mX2_losesOf [.ref 625, .int h] (hp (sn s N V B)) (some (.int (loseF L (vwM (s.A 626)) h (s.A 626 8)))) := by
  have hnm := r_X2_name (s := sn s N V B) (by rw [sn_A (by decide) (by decide)]; exact hn) h (s.A 626 8) (by rw [sn_A (by decide) (by decide)]; exact hh)
  rw [sn_631, sn_N, sn_A (k := 626) (by decide) (by decide)] at hnm
  obtain ⟨_, ⟨V2, B2, rfl⟩, hs⟩ := r_X2_says (N := nmA N (vwM (s.A 626)) h (s.A 626 8)) (V := V) (B := B) 1 2 _ hL.l
  refine RX.of rfl (Nat.le_of_ble_eq_true rfl) rfl ?_
  refine AX.map (fun _ k_ => AW.aload_n dX2_losesOf_0 rfl rfl k_) ?_
  refine AX.map (fun _ k_ => AW.iload_n dX2_losesOf_1 rfl rfl k_) ?_
  refine AX.map (fun _ k_ => AW.aload_n dX2_losesOf_2 rfl rfl k_) ?_
  refine AX.map (fun _ k_ => AW.get ci2 0 (by decide) q1351 dX2_losesOf_3 gM rfl rfl k_) ?_
  refine AX.map (fun _ k_ => AW.bipush (v := 8) dX2_losesOf_6 (by decide) rfl k_) ?_
  refine AX.map (fun _ k_ => AW.iald dX2_losesOf_8 gn626 (vp_in_iff.mpr (by decide)) (j := 8) (by decide) rfl k_) ?_
  refine AX.map (fun _ k_ => AW.callV (Y := mX2_name) (n := 2) (hnm) (by decide) (by decide) rfl gM q1681 q1683 qs99 q141 q1684 dX2_losesOf_9 (by decide +kernel) rfl rfl (Nat.le_of_ble_eq_true rfl) rfl k_) ?_
  refine AX.map (fun _ k_ => AW.aload_n dX2_losesOf_12 rfl rfl k_) ?_
  refine AX.map (fun _ k_ => AW.iconst (v := 1) dX2_losesOf_13 (by decide) rfl k_) ?_
  refine AX.map (fun _ k_ => AW.iconst (v := 2) dX2_losesOf_14 (by decide) rfl k_) ?_
  refine AX.map (fun _ k_ => AW.callV (Y := mX2_says) (n := 2) (hs) (by decide) (by decide) rfl gM q1780 q1782 qs112 q141 q1783 dX2_losesOf_15 (by decide +kernel) rfl rfl (Nat.le_of_ble_eq_true rfl) rfl k_) ?_
  exact ⟨_, Qn.of, AW.iretE dX2_losesOf_18 rfl rfl (by unfold loseF; rw [sayF_x hL.xl (fun j hj => nmA_at hj)]) rfl⟩
theorem r_X2_isLetting_n {s : Sg} {N : Nat → Int32} {V : Nat → Int64} {B : Nat → Bool} (hn : (vwM (s.A 626)).ok) (hq : AskL (s.A 626) (s.A 628) 2 none) (h : Int32) (hh : (vwM (s.A 626)).hou h = true) : Run 7 mX2_isLetting [.ref 625, .int h] (hp (sn s N V B)) (.inl (some (.int (b2i (decide ((vwM (s.A 626)).fr h < 50)))))) (hp (sn s N V B)) := by
  refine Run.of rfl (Nat.le_of_ble_eq_true rfl) rfl ?_
  refine AW.aload_n dX2_isLetting_0 rfl rfl ?_
  refine AW.iconst (v := 2) dX2_isLetting_1 (by decide) rfl ?_
  refine AW.callV (Y := mX2_clauseOf) (n := 1) (noc_ask hq) (by decide) (by decide) rfl gM q1677 q1679 qs98 q141 q1680 dX2_isLetting_2 (by decide +kernel) rfl rfl (Nat.le_of_ble_eq_true rfl) rfl ?_
  refine AW.istore_n (i := 2) dX2_isLetting_5 rfl rfl (Nat.le_of_ble_eq_true rfl) rfl rfl ?_
  refine AW.iload_n dX2_isLetting_6 rfl rfl ?_
  refine AW.if_ge (tgt := 27) dX2_isLetting_7 (by decide) rfl (fun c_ => by first | exact absurd c_ (by decide) | exact absurd (by decide) c_ | exact Bool.noConfusion (c_.symm.trans (by decide))) (fun _ => ?_)
  refine AW.aload_n dX2_isLetting_10 rfl rfl ?_
  refine AW.iload_n dX2_isLetting_11 rfl rfl ?_
  refine AW.iconst (v := 2) dX2_isLetting_12 (by decide) rfl ?_
  refine AW.callV (Y := mX2_get) (n := 2) ((by have w := r_X2_get (s := sn s N V B) h 2 (in_get hn hh (by decide) (by decide)); rw [sn_A (by decide) (by decide)] at w; exact w)) (by decide) (by decide) rfl gM q1477 q1479 qs63 q141 q1480 dX2_isLetting_13 (by decide +kernel) rfl rfl (Nat.le_of_ble_eq_true rfl) rfl ?_
  refine AW.bipush (v := 50) dX2_isLetting_16 (by decide) rfl ?_
  refine AW.icmp_ge (tgt := 25) dX2_isLetting_18 (by decide) rfl (fun c => ?_) (fun c => ?_)
  · refine AW.iconst (v := 0) dX2_isLetting_25 (by decide) rfl ?_
    exact AW.bretE dX2_isLetting_26 rfl rfl (by rw [← vwM_fr hh] at c; first | (rw [decide_eq_true (Int32.not_le.mp c)]; rfl) | (rw [decide_eq_false (Int32.not_lt.mpr c)]; rfl)) rfl
  · refine AW.iconst (v := 1) dX2_isLetting_21 (by decide) rfl ?_
    refine AW.goto (tgt := 26) dX2_isLetting_22 (by decide) ?_
    exact AW.bretE dX2_isLetting_26 rfl rfl (by rw [← vwM_fr hh] at c; first | (rw [decide_eq_true (Int32.not_le.mp c)]; rfl) | (rw [decide_eq_false (Int32.not_lt.mpr c)]; rfl)) rfl
theorem r_X2_isLetting_s {s : Sg} {N : Nat → Int32} {V : Nat → Int64} {B : Nat → Bool} {F : AskF} (hn : (vwM (s.A 626)).ok) (hq : AskL (s.A 626) (s.A 628) 2 (some F)) (hx : extF (some F)) (h : Int32) (hh : (vwM (s.A 626)).hou h = true) : RX (Qn s) 7 mX2_isLetting [.ref 625, .int h] (hp (sn s N V B)) (some (.int (b2i (F (nmV (vwM (s.A 626)) h (s.A 626 8)))))) := by
  have hnm := r_X2_name (s := sn s N V B) (by rw [sn_A (by decide) (by decide)]; exact hn) h (s.A 626 8) (by rw [sn_A (by decide) (by decide)]; exact hh)
  rw [sn_631, sn_N, sn_A (k := 626) (by decide) (by decide)] at hnm
  obtain ⟨c, hc, h1, h2⟩ := work_ask hq
  obtain ⟨V2, B2, hw, hv⟩ := h2 (nmA N (vwM (s.A 626)) h (s.A 626 8)) V B
  refine RX.of rfl (Nat.le_of_ble_eq_true rfl) rfl ?_
  refine AX.map (fun _ k_ => AW.aload_n dX2_isLetting_0 rfl rfl k_) ?_
  refine AX.map (fun _ k_ => AW.iconst (v := 2) dX2_isLetting_1 (by decide) rfl k_) ?_
  refine AX.map (fun _ k_ => AW.callV (Y := mX2_clauseOf) (n := 1) (h1 _ _ _) (by decide) (by decide) rfl gM q1677 q1679 qs98 q141 q1680 dX2_isLetting_2 (by decide +kernel) rfl rfl (Nat.le_of_ble_eq_true rfl) rfl k_) ?_
  refine AX.map (fun _ k_ => AW.istore_n (i := 2) dX2_isLetting_5 rfl rfl (Nat.le_of_ble_eq_true rfl) rfl rfl k_) ?_
  refine AX.map (fun _ k_ => AW.iload_n dX2_isLetting_6 rfl rfl k_) ?_
  refine AX.map (fun _ k_ => AW.if_ge (tgt := 27) dX2_isLetting_7 (by decide) rfl (fun _ => k_) (fun c_ => by first | exact absurd c_ (Int32.not_lt.mp (nI_pos (by omega))) | exact absurd (Int32.not_lt.mp (nI_pos (by omega))) c_ | exact absurd c_ (not_not_intro (Int32.not_lt.mp (nI_pos (by omega)))) | exact Bool.noConfusion (c_.symm.trans (Int32.not_lt.mp (nI_pos (by omega)))))) ?_
  refine AX.map (fun _ k_ => AW.aload_n dX2_isLetting_27 rfl rfl k_) ?_
  refine AX.map (fun _ k_ => AW.iload_n dX2_isLetting_28 rfl rfl k_) ?_
  refine AX.map (fun _ k_ => AW.aload_n dX2_isLetting_29 rfl rfl k_) ?_
  refine AX.map (fun _ k_ => AW.get ci2 0 (by decide) q1351 dX2_isLetting_30 gM rfl rfl k_) ?_
  refine AX.map (fun _ k_ => AW.bipush (v := 8) dX2_isLetting_33 (by decide) rfl k_) ?_
  refine AX.map (fun _ k_ => AW.iald dX2_isLetting_35 gn626 (vp_in_iff.mpr (by decide)) (j := 8) (by decide) rfl k_) ?_
  refine AX.map (fun _ k_ => AW.callV (Y := mX2_name) (n := 2) (hnm) (by decide) (by decide) rfl gM q1681 q1683 qs99 q141 q1684 dX2_isLetting_36 (by decide +kernel) rfl rfl (Nat.le_of_ble_eq_true rfl) rfl k_) ?_
  refine AX.map (fun _ k_ => AW.aload_n dX2_isLetting_39 rfl rfl k_) ?_
  refine AX.map (fun _ k_ => AW.iload_n dX2_isLetting_40 rfl rfl k_) ?_
  refine AX.map (fun _ k_ => AW.callV (Y := mX2_work) (n := 1) (hw) (by decide) (by decide) rfl gM q1700 q1702 qs103 q141 q1703 dX2_isLetting_41 (by decide +kernel) rfl rfl (Nat.le_of_ble_eq_true rfl) rfl k_) ?_
  refine AX.map (fun _ k_ => AW.aload_n dX2_isLetting_44 rfl rfl k_) ?_
  refine AX.map (fun _ k_ => AW.get ci2 23 (by decide) q1374 dX2_isLetting_45 gM rfl rfl k_) ?_
  refine AX.map (fun _ k_ => AW.iconst (v := 0) dX2_isLetting_48 (by decide) rfl k_) ?_
  refine AX.map (fun _ k_ => AW.zald dX2_isLetting_49 gn633 (vp_in_iff.mpr (by decide)) (j := 0) (by decide) rfl k_) ?_
  exact ⟨_, Qn.of, AW.bretE dX2_isLetting_50 rfl rfl (by rw [hv]; rw [hx F rfl _ _ (fun j hj => nmA_at hj)]) rfl⟩
theorem r_X2_isLetting {s : Sg} {N : Nat → Int32} {V : Nat → Int64} {B : Nat → Bool} {L : Lw} (hn : (vwM (s.A 626)).ok) (hL : LawM (s.A 626) (s.A 628) L) (h : Int32) (hh : (vwM (s.A 626)).hou h = true) : RX (Qn s) 7 mX2_isLetting [.ref 625, .int h] (hp (sn s N V B)) (some (.int (b2i (letF L (vwM (s.A 626)) h (s.A 626 8))))) := by
  obtain ⟨L1, L2, L3⟩ := L
  cases L3 with
  | none => exact ⟨_, Qn.of, (r_X2_isLetting_n hn hL.q h hh)⟩
  | some F => exact r_X2_isLetting_s hn hL.q hL.xq h hh
