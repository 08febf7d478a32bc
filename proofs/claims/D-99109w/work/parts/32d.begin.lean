/-! BEGIN: what one begins with, as goings on -/
set_option maxRecDepth 100000
section YB
variable {s : Sg} {X : Nat → Int32} {base n : Nat} {L0 : Lq} {e lets : Bool} {oo : OR} {Qf : AH → Prop} {i : Nat} {C : Cd} {Q : List Int32} {o : Int32}
theorem y_num (cx : Cy s base n e lets) (hl : Q.length < 160) (hc : C.length + Q.length < 303) (ht : (tkL (s.A 629) n L0 i).2.2.1 = 1) (hu : ¬ 9999 < (tkL (s.A 629) n L0 i).2.2.2.1) (hE : En s X base n L0 e oo Qf (i + 1) (C ++ [(0, (tkL (s.A 629) n L0 i).2.2.2.1)]) Q o) : Go s X base n L0 e oo Qf i C Q o false := go_beg fun PA hq => by
  obtain ⟨r, h2, hr, hx⟩ := end_run (w := false) cx (by omega) (by rw [List.length_append]; simp only [List.length_cons, List.length_nil]; omega) hE hq
  obtain ⟨hb, hb2, hn, h300, hby, he, hlt⟩ := cx
  have hL := tk_L (t := s.A 629) (L0 := L0) h300 i
  have hP := tk_P (t := s.A 629) (L0 := L0) h300 i
  exact ⟨r, h2, r_X2_beginOne_n hb hb2 (by omega) n hn h300 hby _ hL.2 hL.1 _ hP.1 hP.2 ht hu hr, hx⟩
theorem y_num2 (cx : Cy s base n e lets) (ht : (tkL (s.A 629) n L0 i).2.2.1 = 1) (hu : 9999 < (tkL (s.A 629) n L0 i).2.2.2.1) (hF : Fl s X base n L0 oo Qf 2 i) : Go s X base n L0 e oo Qf i C Q o false := go_beg fun PA hq => ⟨2, _, r_X2_beginOne_2 ht hu, fl_nx (by decide) hF⟩
theorem y_name (cx : Cy s base n e lets) (hl : Q.length < 160) (hc : C.length + Q.length < 303) (ht : ¬ (tkL (s.A 629) n L0 i).2.2.1 = 1) (hm : 0 ≤ nmK (byteF (s.A 629) n) (tkL (s.A 629) n L0) i) (hs : ¬ (nmK (byteF (s.A 629) n) (tkL (s.A 629) n L0) i = 7 ∧ lets = true)) (hE : En s X base n L0 e oo Qf (i + 1) (C ++ [(1, nmK (byteF (s.A 629) n) (tkL (s.A 629) n L0) i)]) Q o) : Go s X base n L0 e oo Qf i C Q o false := go_beg fun PA hq => by
  obtain ⟨r, h2, hr, hx⟩ := end_run (w := false) cx (by omega) (by rw [List.length_append]; simp only [List.length_cons, List.length_nil]; omega) hE hq
  obtain ⟨hb, hb2, hn, h300, hby, he, hlt⟩ := cx
  have hL := tk_L (t := s.A 629) (L0 := L0) h300 i
  have hP := tk_P (t := s.A 629) (L0 := L0) h300 i
  exact ⟨r, h2, r_X2_beginOne_m hb hb2 (by omega) n hn h300 hby _ hL.2 hL.1 _ hP.1 hP.2 ht hm (fun z => hs ⟨z.1, hlt.mp z.2⟩) hr, hx⟩
theorem y_name5 (cx : Cy s base n e lets) (ht : ¬ (tkL (s.A 629) n L0 i).2.2.1 = 1) (hm : nmK (byteF (s.A 629) n) (tkL (s.A 629) n L0) i = 7) (hs : lets = true) (hF : Fl s X base n L0 oo Qf 5 i) : Go s X base n L0 e oo Qf i C Q o false := go_beg fun PA hq => by
  obtain ⟨hb, hb2, hn, h300, hby, he, hlt⟩ := cx
  have hP := tk_P (t := s.A 629) (L0 := L0) h300 i
  exact ⟨5, _, r_X2_beginOne_5 n hn h300 _ hP.1 hP.2 ht hm (hlt.mpr hs), fl_nx (by decide) hF⟩
theorem nm_or {B : Nat → Int32} {L : Lq} {p : Nat} : 0 ≤ nameF B L p ∨ nameF B L p = -1 := by
  unfold nameF
  repeat' split
  all_goals first | exact Or.inl (by decide) | exact Or.inr rfl
theorem y_pt (cx : Cy s base n e lets) (ht : ¬ (tkL (s.A 629) n L0 i).2.2.1 = 1) (hm : nmK (byteF (s.A 629) n) (tkL (s.A 629) n L0) i = -1) (hl : Q.length < 160) (h40 : (tkL (s.A 629) n L0 i).2.2.1 = 40) (ho : ¬ o = 8) (h : Go s X base n L0 e oo Qf (i + 1) C (40 :: Q) (o + 1) false) : Go s X base n L0 e oo Qf i C Q o false := go_beg fun PA hq => by
  obtain ⟨hb, hb2, hn, h300, hby, he, hlt⟩ := cx
  have hL := tk_L (t := s.A 629) (L0 := L0) h300 i
  have hP := tk_P (t := s.A 629) (L0 := L0) h300 i
  exact ⟨0, _, r_X2_beginOne_pt hq (by omega) hl n hn h300 hby _ hL.2 hL.1 _ hP.1 hP.2 ht hm h40 ho, Or.inl ⟨rfl, h _ (pileR_push hq)⟩⟩
theorem y_pf (cx : Cy s base n e lets) (ht : ¬ (tkL (s.A 629) n L0 i).2.2.1 = 1) (hm : nmK (byteF (s.A 629) n) (tkL (s.A 629) n L0) i = -1) (hl : Q.length < 160) (h40 : (tkL (s.A 629) n L0 i).2.2.1 = 40) (ho : o = 8) (hF : Fl s X base n L0 oo Qf 3 i) : Go s X base n L0 e oo Qf i C Q o false := go_beg fun PA hq => by
  obtain ⟨hb, hb2, hn, h300, hby, he, hlt⟩ := cx
  have hL := tk_L (t := s.A 629) (L0 := L0) h300 i
  have hP := tk_P (t := s.A 629) (L0 := L0) h300 i
  exact ⟨3, _, r_X2_beginOne_pf hq (by omega) n hn h300 _ hP.1 hP.2 ht hm h40 ho, fl_nx (by decide) hF⟩
theorem y_st (cx : Cy s base n e lets) (ht : ¬ (tkL (s.A 629) n L0 i).2.2.1 = 1) (hm : nmK (byteF (s.A 629) n) (tkL (s.A 629) n L0) i = -1) (hl : Q.length < 160) (h45 : (tkL (s.A 629) n L0 i).2.2.1 = 45) (ho : ¬ o = 8) (h : Go s X base n L0 e oo Qf (i + 1) C (2 :: Q) (o + 1) false) : Go s X base n L0 e oo Qf i C Q o false := go_beg fun PA hq => by
  obtain ⟨hb, hb2, hn, h300, hby, he, hlt⟩ := cx
  have hL := tk_L (t := s.A 629) (L0 := L0) h300 i
  have hP := tk_P (t := s.A 629) (L0 := L0) h300 i
  exact ⟨0, _, r_X2_beginOne_st hq (by omega) hl n hn h300 hby _ hL.2 hL.1 _ hP.1 hP.2 ht hm h45 ho, Or.inl ⟨rfl, h _ (pileR_push hq)⟩⟩
theorem y_sf (cx : Cy s base n e lets) (ht : ¬ (tkL (s.A 629) n L0 i).2.2.1 = 1) (hm : nmK (byteF (s.A 629) n) (tkL (s.A 629) n L0) i = -1) (hl : Q.length < 160) (h45 : (tkL (s.A 629) n L0 i).2.2.1 = 45) (ho : o = 8) (hF : Fl s X base n L0 oo Qf 3 i) : Go s X base n L0 e oo Qf i C Q o false := go_beg fun PA hq => by
  obtain ⟨hb, hb2, hn, h300, hby, he, hlt⟩ := cx
  have hL := tk_L (t := s.A 629) (L0 := L0) h300 i
  have hP := tk_P (t := s.A 629) (L0 := L0) h300 i
  exact ⟨3, _, r_X2_beginOne_sf hq (by omega) n hn h300 _ hP.1 hP.2 ht hm h45 ho, fl_nx (by decide) hF⟩
theorem y_dt (cx : Cy s base n e lets) (ht : ¬ (tkL (s.A 629) n L0 i).2.2.1 = 1) (hm : nmK (byteF (s.A 629) n) (tkL (s.A 629) n L0) i = -1) (hl : Q.length < 160) (h4 : ¬ (tkL (s.A 629) n L0 i).2.2.1 = 40) (h45 : ¬ (tkL (s.A 629) n L0 i).2.2.1 = 45) (hd : isWd (tkL (s.A 629) n L0 i) (w5F 100 105 103 105 116) = true) (ho : ¬ o = 8) (h : Go s X base n L0 e oo Qf (i + 1) C (41 :: Q) (o + 1) false) : Go s X base n L0 e oo Qf i C Q o false := go_beg fun PA hq => by
  obtain ⟨hb, hb2, hn, h300, hby, he, hlt⟩ := cx
  have hL := tk_L (t := s.A 629) (L0 := L0) h300 i
  have hP := tk_P (t := s.A 629) (L0 := L0) h300 i
  exact ⟨0, _, r_X2_beginOne_dt hq (by omega) hl n hn h300 hby _ hL.2 hL.1 _ hP.1 hP.2 ht hm h4 h45 hd ho, Or.inl ⟨rfl, h _ (pileR_push hq)⟩⟩
theorem y_df (cx : Cy s base n e lets) (ht : ¬ (tkL (s.A 629) n L0 i).2.2.1 = 1) (hm : nmK (byteF (s.A 629) n) (tkL (s.A 629) n L0) i = -1) (hl : Q.length < 160) (h4 : ¬ (tkL (s.A 629) n L0 i).2.2.1 = 40) (h45 : ¬ (tkL (s.A 629) n L0 i).2.2.1 = 45) (hd : isWd (tkL (s.A 629) n L0 i) (w5F 100 105 103 105 116) = true) (ho : o = 8) (hF : Fl s X base n L0 oo Qf 3 i) : Go s X base n L0 e oo Qf i C Q o false := go_beg fun PA hq => by
  obtain ⟨hb, hb2, hn, h300, hby, he, hlt⟩ := cx
  have hL := tk_L (t := s.A 629) (L0 := L0) h300 i
  have hP := tk_P (t := s.A 629) (L0 := L0) h300 i
  exact ⟨3, _, r_X2_beginOne_df hq (by omega) n hn h300 _ hP.1 hP.2 ht hm h4 h45 hd ho, fl_nx (by decide) hF⟩
theorem y_qt (cx : Cy s base n e lets) (ht : ¬ (tkL (s.A 629) n L0 i).2.2.1 = 1) (hm : nmK (byteF (s.A 629) n) (tkL (s.A 629) n L0) i = -1) (hl : Q.length < 160) (h4 : ¬ (tkL (s.A 629) n L0 i).2.2.1 = 40) (h45 : ¬ (tkL (s.A 629) n L0 i).2.2.1 = 45) (hd : isWd (tkL (s.A 629) n L0 i) (w5F 100 105 103 105 116) = false) (hq9 : isWd (tkL (s.A 629) n L0 i) (w3F 110 111 116) = true) (ha : askL e Q = true) (ho : ¬ o = 8) (h : Go s X base n L0 e oo Qf (i + 1) C (20 :: Q) (o + 1) false) : Go s X base n L0 e oo Qf i C Q o false := go_beg fun PA hq => by
  obtain ⟨hb, hb2, hn, h300, hby, he, hlt⟩ := cx
  have hL := tk_L (t := s.A 629) (L0 := L0) h300 i
  have hP := tk_P (t := s.A 629) (L0 := L0) h300 i
  exact ⟨0, _, r_X2_beginOne_qt hq (by omega) hl n hn h300 hby _ hL.2 hL.1 _ hP.1 hP.2 ht hm h4 h45 hd hq9 e he ha ho, Or.inl ⟨rfl, h _ (pileR_push hq)⟩⟩
theorem y_qf (cx : Cy s base n e lets) (ht : ¬ (tkL (s.A 629) n L0 i).2.2.1 = 1) (hm : nmK (byteF (s.A 629) n) (tkL (s.A 629) n L0) i = -1) (hl : Q.length < 160) (h4 : ¬ (tkL (s.A 629) n L0 i).2.2.1 = 40) (h45 : ¬ (tkL (s.A 629) n L0 i).2.2.1 = 45) (hd : isWd (tkL (s.A 629) n L0 i) (w5F 100 105 103 105 116) = false) (hq9 : isWd (tkL (s.A 629) n L0 i) (w3F 110 111 116) = true) (ha : askL e Q = true) (ho : o = 8) (hF : Fl s X base n L0 oo Qf 3 i) : Go s X base n L0 e oo Qf i C Q o false := go_beg fun PA hq => by
  obtain ⟨hb, hb2, hn, h300, hby, he, hlt⟩ := cx
  have hL := tk_L (t := s.A 629) (L0 := L0) h300 i
  have hP := tk_P (t := s.A 629) (L0 := L0) h300 i
  exact ⟨3, _, r_X2_beginOne_qf hq (by omega) n hn h300 _ hP.1 hP.2 ht hm h4 h45 hd hq9 e he ha ho, fl_nx (by decide) hF⟩
theorem y_1 (cx : Cy s base n e lets) (ht : ¬ (tkL (s.A 629) n L0 i).2.2.1 = 1) (hm : nmK (byteF (s.A 629) n) (tkL (s.A 629) n L0) i = -1) (hl : Q.length < 160) (h4 : ¬ (tkL (s.A 629) n L0 i).2.2.1 = 40) (h45 : ¬ (tkL (s.A 629) n L0 i).2.2.1 = 45) (hd : isWd (tkL (s.A 629) n L0 i) (w5F 100 105 103 105 116) = false) (ha : (isWd (tkL (s.A 629) n L0 i) (w3F 110 111 116) && askL e Q) = false) (hF : Fl s X base n L0 oo Qf 1 i) : Go s X base n L0 e oo Qf i C Q o false := go_beg fun PA hq => by
  obtain ⟨hb, hb2, hn, h300, hby, he, hlt⟩ := cx
  have hL := tk_L (t := s.A 629) (L0 := L0) h300 i
  have hP := tk_P (t := s.A 629) (L0 := L0) h300 i
  exact ⟨1, _, r_X2_beginOne_1 hq (by omega) n hn h300 _ hP.1 hP.2 ht hm h4 h45 hd e he ha, fl_nx (by decide) hF⟩
end YB
