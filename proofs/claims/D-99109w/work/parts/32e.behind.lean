/-! BEHIND: what comes behind one, as goings on -/
set_option maxRecDepth 100000
section YH
variable {s : Sg} {X : Nat → Int32} {base n : Nat} {L0 : Lq} {e lets : Bool} {oo : OR} {Qf : AH → Prop} {i : Nat} {C : Cd} {Q : List Int32} {o : Int32}
def bwK (s : Sg) (n : Nat) (L0 : Lq) (e : Bool) (i : Nat) (Q : List Int32) : Int32 := btwF e (byteF (s.A 629) n) (tkL (s.A 629) n L0 i) (cI (tkL (s.A 629) n L0 i).2.1) Q
theorem y_op (cx : Cy s base n e lets) (hl : Q.length < 160) (hc : C.length + Q.length < 303) (b : Int32) (hb0 : 0 ≤ b) (hbt : bwK s n L0 e i Q = b) {Q1 : List Int32} {C1 : Cd} {o1 : Int32} (hr : settleL (if rankF b = 4 then 5 else rankF b) Q C o = (Q1, C1, o1)) (h : Go s X base n L0 e oo Qf (i + 1) C1 (b :: Q1) o1 false) : Go s X base n L0 e oo Qf i C Q o true := go_beh fun PA hq => by
  obtain ⟨hb, hb2, hn, h300, hby, he, hlt⟩ := cx
  have hL := tk_L (t := s.A 629) (L0 := L0) h300 i
  have hP := tk_P (t := s.A 629) (L0 := L0) h300 i
  exact ⟨0, _, r_X2_behindOne_o hb hb2 hq (by omega) hl (by omega) e he n hn h300 hby _ hL.2 hL.1 _ hP.1 hP.2 b hbt hb0 hr, Or.inl ⟨rfl, h _ (pileR_push (settle_p hr hq).1)⟩⟩
theorem y_close (cx : Cy s base n e lets) (hl : Q.length < 160) (hc : C.length + Q.length < 303) (hbt : bwK s n L0 e i Q < 0) (hsh : shutL Q = true) (ht : (tkL (s.A 629) n L0 i).2.2.1 = 41) {Q1 : List Int32} {C1 : Cd} {o1 : Int32} (hr : settleL 1 Q C o = (40 :: Q1, C1, o1)) (hE : En s X base n L0 e oo Qf (i + 1) C1 Q1 (o1 - 1)) : Go s X base n L0 e oo Qf i C Q o true := go_beh fun PA hq => by
  have hp := settle_p hr hq
  simp only [List.length_cons] at hp
  obtain ⟨r, h2, hr2, hx⟩ := end_run (w := true) cx (by omega) (by omega) hE hp.1.2
  obtain ⟨hb, hb2, hn, h300, hby, he, hlt⟩ := cx
  have hL := tk_L (t := s.A 629) (L0 := L0) h300 i
  have hP := tk_P (t := s.A 629) (L0 := L0) h300 i
  exact ⟨r, h2, r_X2_behindOne_c hb hb2 hq (by omega) (by omega) e he n hn h300 hby _ hL.2 hL.1 _ hP.1 hP.2 hbt hsh ht hr hr2, hx⟩
theorem y_end (cx : Cy s base n e lets) (hl : Q.length < 160) (hc : C.length + Q.length < 303) (hbt : bwK s n L0 e i Q < 0) (hcl : (shutL Q && decide ((tkL (s.A 629) n L0 i).2.2.1 = 41)) = false)
    (h1 : (shutL Q || (e && !comparedL Q)) = true → Fl s X base n L0 oo Qf 1 i)
    (h0 : (shutL Q || (e && !comparedL Q)) = false → oo = .inl (some (.int 0)) ∧ ∀ PA, Qf (hp (ps s (tkL (s.A 629) n L0 i) (gq X base (settleL 1 Q C o).2.1 PA (settleL 1 Q C o).1 (settleL 1 Q C o).2.2 true)))) : Go s X base n L0 e oo Qf i C Q o true := fun PA hq => by
  obtain ⟨hb, hb2, hn, h300, hby, he, hlt⟩ := cx
  have hL := tk_L (t := s.A 629) (L0 := L0) h300 i
  have hP := tk_P (t := s.A 629) (L0 := L0) h300 i
  have hr := r_X2_behindOne_e (X := X) (base := base) (C := C) (o := o) (w := true) hq (by omega) e he n hn h300 hby _ hL.2 hL.1 _ hP.1 hP.2 hbt hcl
  cases hz : (shutL Q || (e && !comparedL Q))
  · obtain ⟨rfl, hQ⟩ := h0 hz
    exact ⟨_, hQ PA, parsed_e0 hb hb2 hq (by omega) (by omega) hr hz⟩
  · obtain ⟨rfl, hQ⟩ := h1 hz
    exact ⟨_, hQ _ _ _ _ _, parsed_e1 hq (by omega) hr hz⟩
end YH
