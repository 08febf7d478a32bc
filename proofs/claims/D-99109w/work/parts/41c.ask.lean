/-! CASES 1: questions (by hand) -/
set_option maxRecDepth 100000
section ASK
variable {N nt c e g : Nat} {a : Nat → Int32} {A : Nat → Nat → Int32}
theorem RelX.d (h : RelX N nt c e g a A) : A 515 0 = a 8 ∧ A 515 1 = a 9 := by
  obtain ⟨-, -, ⟨w, -, ⟨q, -⟩, ⟨q2, -⟩, -⟩, -⟩ := h
  exact ⟨q, q2⟩
theorem RelX.d99 (h : RelX N nt c e g a A) : ∃ d, d ≤ 9999 ∧ a 8 = nI d := by
  obtain ⟨-, -, ⟨w, -, ⟨-, q⟩, -⟩, -⟩ := h
  exact q
theorem RelX.h7 (h : RelX N nt c e g a A) : N ≤ 7 := h.1.1.2.2
theorem RelX.hous (h : RelX N nt c e g a A) : ∀ y, (vwM a).hou y = true → ∃ k, k < 7 ∧ y = nI k := fun y hy => by
  obtain ⟨k, hk, e⟩ := hou_V h.1.1.1 h.h7 hy
  have := h.h7
  exact ⟨k, by omega, e⟩
theorem RelX.gos (h : RelX N nt c e g a A) : ∀ k, k < (gwM a).n → ∃ p, p < 7 ∧ (gwM a).b k = nI p := fun k hk => by
  have h7 := h.h7
  obtain ⟨⟨-, -, -, -, -, h5, n5, g8⟩, -, -, -, -, hg⟩ := h
  have eg : cI (a 5) = g := by rw [h5]; exact cI_nI (by omega)
  have hk : k < cI (a 5) := hk
  rw [eg] at hk
  obtain ⟨-, -, -, p, hp, ep⟩ := hg k hk
  refine ⟨p, by omega, ?_⟩
  show (if k < cI (a 5) then _ else _) = nI p
  rw [eg, if_pos hk]
  exact ep
theorem RelX.pgs (h : RelX N nt c e g a A) : ∀ i, i < (bkM a).n → ((bkM a).s i = 0 ∨ (bkM a).s i = 1) ∧ ∃ d, d < 20 ∧ (bkM a).d i % 20 = nI d := fun i hi => by
  have hb := h.bk
  rw [hb] at hi ⊢
  obtain ⟨-, -, ⟨w, h10, -, -, ⟨h24, h40, hp⟩, -⟩, -⟩ := h
  have ew : cI (A 515 24) = w := by rw [h24]; exact cI_nI (by omega)
  have hi : i < cI (A 515 24) := hi
  rw [ew] at hi
  obtain ⟨d, hh, s, d1, h1, s1, ex, ey, ez, -⟩ := hp i hi
  have e1 : (bkS (A 515)).s i = nI s := by
    show (if i < cI (A 515 24) then _ else _) = nI s
    rw [ew, if_pos hi]
    exact ez
  have e2 : (bkS (A 515)).d i = nI d := by
    show (if i < cI (A 515 24) then _ else _) = nI d
    rw [ew, if_pos hi]
    exact ex
  rw [e1, e2]
  refine ⟨?_, d % 20, Nat.mod_lt _ (by decide), ?_⟩
  · have : s = 0 ∨ s = 1 := by omega
    rcases this with rfl | rfl
    · exact Or.inl rfl
    · exact Or.inr rfl
  · rw [show (20 : Int32) = nI 20 from rfl, nI_rem (by omega) (by omega)]
theorem RelX.ses (h : RelX N nt c e g a A) : ∀ i, i < (ewM a).n → ((ewM a).s i = 0 ∨ (ewM a).s i = 1) ∧ ∃ d, d < 20 ∧ (ewM a).d i = nI d := fun i hi => by
  obtain ⟨⟨-, -, -, -, ⟨h4, n4, e8⟩, -⟩, -, -, -, hg, -⟩ := h
  have ew : cI (a 4) = e := by rw [h4]; exact cI_nI (by omega)
  have hi : i < cI (a 4) := hi
  rw [ew] at hi
  obtain ⟨-, -, -, ⟨d, hd, ed⟩, z, hz, ez⟩ := hg i hi
  have e1 : (ewM a).s i = nI z := by
    show (if i < cI (a 4) then _ else _) = nI z
    rw [ew, if_pos hi]
    exact ez
  have e2 : (ewM a).d i = nI d := by
    show (if i < cI (a 4) then _ else _) = nI d
    rw [ew, if_pos hi]
    exact ed
  rw [e1, e2]
  refine ⟨?_, d, hd, rfl⟩
  have : z = 0 ∨ z = 1 := by omega
  rcases this with rfl | rfl
  · exact Or.inl rfl
  · exact Or.inr rfl
end ASK
theorem Inv.rx {s : Sg} (h : Inv s) : ∃ N nt c e g, RelX N nt c e g (s.A 626) s.A := by
  obtain ⟨⟨N, nt, c, e, g, -, -, -, -, -, hx, -⟩, -⟩ := h
  exact ⟨N, nt, c, e, g, hx⟩
section CASES1
variable {s : Sg}
theorem b_is (h : Inv s) (w : Int32) : Both s mX0_is mX2_is [.int w] := by
  obtain ⟨N, nt, c, e, g, hx⟩ := h.rx
  exact both_same h (r_X0_is hx.ok w) (r_X2_is hx.mi.n w) (by rw [hx.vw, hx.d.1, hx.d.2])
theorem b_book (h : Inv s) (i w : Int32) : Both s mX0_book mX2_book [.int i, .int w] := by
  obtain ⟨N, nt, c, e, g, hx⟩ := h.rx
  exact both_same h (r_X0_book hx.bokS i w) (r_X2_book hx.bok i w) (by rw [hx.bk])
theorem b_indoors (h : Inv s) (y : Int32) : Both s mX0_indoors mX2_indoors [.int y] := by
  obtain ⟨N, nt, c, e, g, hx⟩ := h.rx
  exact both_same h (r_X0_indoors hx.ok y) (r_X2_indoors hx.mi.n y) (by rw [hx.vw, hx.d.1])
theorem b_crowded (h : Inv s) (z : Int32) : Both s mX0_crowded mX2_crowded [.int z] := by
  obtain ⟨N, nt, c, e, g, hx⟩ := h.rx
  exact both_same h (r_X0_crowded hx.ok z) (r_X2_crowded hx.mi.n z) (by rw [hx.vw])
theorem b_feast (h : Inv s) (z : Int32) : Both s mX0_feast mX2_feast [.int z] := by
  obtain ⟨N, nt, c, e, g, hx⟩ := h.rx
  exact both_same h (r_X0_feast hx.ok z) (r_X2_feast hx.mi.n z) (by rw [hx.vw])
theorem b_alone (h : Inv s) : Both s mX0_alone mX2_alone [] := by
  obtain ⟨N, nt, c, e, g, hx⟩ := h.rx
  exact both_same h (r_X0_alone hx.ok) (r_X2_alone hx.mi.n) (by rw [alone_eq, hx.vw])
theorem b_nobodys (h : Inv s) : Both s mX0_nobodys mX2_nobodys [] := by
  obtain ⟨N, nt, c, e, g, hx⟩ := h.rx
  exact both_same h (r_X0_nobodys hx.ok) (r_X2_nobodys hx.mi.n) (by rw [hx.vw])
theorem b_twins (h : Inv s) : Both s mX0_twins mX2_twins [] := by
  obtain ⟨N, nt, c, e, g, hx⟩ := h.rx
  exact both_same h (r_X0_twins hx.ok) (r_X2_twins hx.mi.n) (by rw [hx.vw])
theorem b_knocks (h : Inv s) (y z : Int32) : Both s mX0_knocks mX2_knocks [.int y, .int z] := by
  obtain ⟨N, nt, c, e, g, hx⟩ := h.rx
  exact both_same h (r_X0_knocks hx.bokS y z) (r_X2_knocks hx.bok y z) (by rw [hx.vw, hx.bk])
theorem b_offended (h : Inv s) : Both s mX0_offended mX2_offended [] := by
  obtain ⟨N, nt, c, e, g, hx⟩ := h.rx
  have hn := hx.mi.n
  rw [hx.vw] at hn
  exact both_same h (r_X0_offended hx.ok hx.bokS) (r_X2_offended hx.mi.n hx.bok) (by rw [hx.vw, hx.bk, (Bw.off_eq _ _ (Vw.n7 hn)).1])
theorem b_leap (h : Inv s) (y z : Int32) : Both s mX0_leap mX2_leap [.int y, .int z] := by
  obtain ⟨N, nt, c, e, g, hx⟩ := h.rx
  exact both_same h (r_X0_leap hx.ok y z) (r_X2_leap hx.mi.n y z) (by rw [leap_eq (fun y hy => hx.shv hy), hx.vw])
theorem b_fault (h : Inv s) (w : Int32) : Both s mX0_fault mX2_fault [.int w] := both_same h (r_X0_fault w) (r_X2_fault w) (by rw [h.2.2.2.1.1, h.2.2.2.1.2])
theorem about_eq {a n : Nat → Int32} {tp w : Int32} (h : ∀ j, j < 6 → n j = a j) : aboutI a tp w = aboutS n tp w := by
  unfold aboutI aboutS
  by_cases w0 : w = 0
  · subst w0; rw [if_pos (by decide)]; exact (h 0 (by decide)).symm
  by_cases w1 : w = 1
  · subst w1; rw [if_pos (by decide)]; exact (h 1 (by decide)).symm
  by_cases w2 : w = 2
  · subst w2; rw [if_pos (by decide)]; exact (h 2 (by decide)).symm
  by_cases w3 : w = 3
  · subst w3; rw [if_pos (by decide)]; exact (h 3 (by decide)).symm
  by_cases w4 : w = 4
  · subst w4; rw [if_pos (by decide)]; exact (h 4 (by decide)).symm
  by_cases w5 : w = 5
  · subst w5; rw [if_pos (by decide)]; exact (h 5 (by decide)).symm
  rw [if_neg w0, if_neg w1, if_neg w2, if_neg w3, if_neg w4, if_neg w5, if_neg]
  intro q
  obtain ⟨q1, q2⟩ := inI_iff.mp q
  have p1 : 0 ≤ w.toInt := q1
  have p2 : w.toInt ≤ 5 := q2
  have ne : ∀ k : Nat, k < 6 → w.toInt ≠ k → True := fun _ _ _ => trivial
  have z : ∀ k : Nat, k < 6 → w = nI k → False := fun k hk e => by
    have : k = 0 ∨ k = 1 ∨ k = 2 ∨ k = 3 ∨ k = 4 ∨ k = 5 := by omega
    rcases this with rfl | rfl | rfl | rfl | rfl | rfl
    · exact w0 e
    · exact w1 e
    · exact w2 e
    · exact w3 e
    · exact w4 e
    · exact w5 e
  have hc := cI_of (x := w) p1
  exact z (cI w) (by omega) (nI_cI p1).symm
theorem b_about (h : Inv s) (w : Int32) : Both s mX0_about mX2_about [.int w] := by
  obtain ⟨N, nt, c, e, g, hx⟩ := h.rx
  obtain ⟨-, ⟨p, -, p2, p3, -⟩, -⟩ := id h
  obtain ⟨⟨h0, n0, -⟩, ⟨h1, n1, -⟩, ⟨h2, -⟩, ⟨h3, n3, -⟩, ⟨h4, n4, -⟩, h5, n5, -⟩ := hx.1
  refine both_same h (r_X0_about w) (r_X2_about w) ?_
  rw [p2, p3]
  refine about_eq fun j hj => ?_
  have : j = 0 ∨ j = 1 ∨ j = 2 ∨ j = 3 ∨ j = 4 ∨ j = 5 := by omega
  rcases this with rfl | rfl | rfl | rfl | rfl | rfl
  · exact n0.trans h0.symm
  · exact n1.trans h1.symm
  · exact h2
  · exact n3.trans h3.symm
  · exact n4.trans h4.symm
  · exact n5.trans h5.symm
theorem b_knows (h : Inv s) (y z : Int32) : Both s mX0_knows mX2_knows [.int y, .int z] := by
  obtain ⟨N, nt, c, e, g, hx⟩ := h.rx
  exact both_same h (r_X0_knows hx.gokS y z) (r_X2_knows hx.gok y z) (by rw [knows_eq hx.gos hx.hous, hx.vw, hx.gw])
theorem b_never (h : Inv s) (y : Int32) : Both s mX0_never mX2_never [.int y] := by
  obtain ⟨N, nt, c, e, g, hx⟩ := h.rx
  exact both_same h (r_X0_never hx.gokS y) (r_X2_never hx.gok y) (by rw [never_eq hx.gos hx.hous, hx.vw, hx.gw])
theorem b_rounds (h : Inv s) : Both s mX0_rounds mX2_rounds [] := by
  obtain ⟨N, nt, c, e, g, hx⟩ := h.rx
  exact both_same h (r_X0_rounds hx.ok) (r_X2_rounds hx.mi.n) (by rw [hx.vw, rounds_eq hx.n0.2.1 hx.h7])
end CASES1
