/-! CASES 8: image and back (by hand) -/
set_option maxRecDepth 100000
section CASES8
variable {s : Sg}
/-- one state's cells copied to another's -/
def cpAll (s : Sg) (a b : Nat) : Sg := cpR (cpR (cpR (cp1 (cp1 s a b 6) (a + 1) (b + 1) 145) (a + 3) (b + 3) 3 8) (a + 12) (b + 12) 2 8) (a + 21) (b + 21) 145 30
theorem img_A : (imgS s).A = (cpAll s 514 567).A := rfl
theorem bak_A : (bakS s).A = (cpAll s 567 514).A := rfl
section CP
variable {a b : Nat}
theorem cp_o (h : a + 53 = b ∨ b + 53 = a) {k : Nat} (hk : k < b ∨ b + 51 ≤ k ∨ k = b + 2 ∨ k = b + 11 ∨ k = b + 20) : (cpAll s a b).A k = s.A k := by
  unfold cpAll
  rw [cpR_out (by omega), cpR_out (by omega), cpR_out (by omega)]
  exact (setA_ne (by omega)).trans (setA_ne (by omega))
theorem cp_0 (h : a + 53 = b ∨ b + 53 = a) {j : Nat} (hj : j < 6) : (cpAll s a b).A b j = s.A a j := by
  unfold cpAll
  rw [cpR_out (by omega), cpR_out (by omega), cpR_out (by omega)]
  have e : (cp1 (cp1 s a b 6) (a + 1) (b + 1) 145).A b = mv0 (s.A b) (s.A a) 6 := (setA_ne (by omega)).trans setA_at
  rw [e, mv0_lt hj]
theorem cp_1 (h : a + 53 = b ∨ b + 53 = a) {j : Nat} (hj : j < 145) : (cpAll s a b).A (b + 1) j = s.A (a + 1) j := by
  unfold cpAll
  rw [cpR_out (by omega), cpR_out (by omega), cpR_out (by omega)]
  have e : (cp1 (cp1 s a b 6) (a + 1) (b + 1) 145).A (b + 1) = mv0 ((cp1 s a b 6).A (b + 1)) ((cp1 s a b 6).A (a + 1)) 145 := setA_at
  rw [e, mv0_lt hj]
  show (cp1 s a b 6).A (a + 1) j = _
  rw [show (cp1 s a b 6).A (a + 1) = s.A (a + 1) from setA_ne (by omega)]
theorem cp_s (h : a + 53 = b ∨ b + 53 = a) {i j : Nat} (hi : i < 8) (hj : j < 3) : (cpAll s a b).A (b + 3 + i) j = s.A (a + 3 + i) j := by
  unfold cpAll
  rw [cpR_out (by omega), cpR_out (by omega), cpR_in hi, mv0_lt hj]
  have e : (cp1 (cp1 s a b 6) (a + 1) (b + 1) 145).A (a + 3 + i) = s.A (a + 3 + i) := (setA_ne (by omega)).trans (setA_ne (by omega))
  rw [e]
theorem cp_g (h : a + 53 = b ∨ b + 53 = a) {i j : Nat} (hi : i < 8) (hj : j < 2) : (cpAll s a b).A (b + 12 + i) j = s.A (a + 12 + i) j := by
  unfold cpAll
  rw [cpR_out (by omega), cpR_in hi, mv0_lt hj, cpR_out (by omega)]
  have e : (cp1 (cp1 s a b 6) (a + 1) (b + 1) 145).A (a + 12 + i) = s.A (a + 12 + i) := (setA_ne (by omega)).trans (setA_ne (by omega))
  rw [e]
theorem cp_t (h : a + 53 = b ∨ b + 53 = a) {i j : Nat} (hi : i < 30) (hj : j < 145) : (cpAll s a b).A (b + 21 + i) j = s.A (a + 21 + i) j := by
  unfold cpAll
  rw [cpR_in hi, mv0_lt hj, cpR_out (by omega), cpR_out (by omega)]
  have e : (cp1 (cp1 s a b 6) (a + 1) (b + 1) 145).A (a + 21 + i) = s.A (a + 21 + i) := (setA_ne (by omega)).trans (setA_ne (by omega))
  rw [e]
end CP
theorem img_T {t : Nat} (ht : t < 4) : (imgS s).T (2 * t) = s.T (2 * t) ∧ (imgS s).T (2 * t + 1) = s.T (2 * t) := by
  have e : ∀ j, (imgS s).T j = if j % 2 = 1 then va_cpy (fun j => s.T (2 * j)) (fun j => s.T (2 * j + 1)) 0 0 4 (j / 2) else s.T j := fun _ => rfl
  rw [e, e, if_neg (by omega), if_pos (by omega), cpy0, mv0_lt (by omega), show (2 * t + 1) / 2 = t by omega]
  exact ⟨rfl, rfl⟩
theorem bak_T {t : Nat} (ht : t < 4) : (bakS s).T (2 * t) = s.T (2 * t + 1) ∧ (bakS s).T (2 * t + 1) = s.T (2 * t + 1) := by
  have e : ∀ j, (bakS s).T j = if j % 2 = 0 then va_cpy (fun j => s.T (2 * j + 1)) (fun j => s.T (2 * j)) 0 0 4 (j / 2) else s.T j := fun _ => rfl
  rw [e, e, if_pos (by omega), if_neg (by omega), cpy0, mv0_lt (by omega), show 2 * t / 2 = t by omega]
  exact ⟨rfl, rfl⟩
theorem b_image (h : Inv s) : Both s mX0_image mX2_image [] := by
  obtain ⟨⟨N, nt, c, e, g, N2, nt2, c2, e2, g2, hx, hi, hle, hT, htx⟩, ⟨p, p1, p2, p3, p4⟩, o1, ⟨o2, o3⟩, ⟨k4, o4⟩, ⟨w5, o5⟩, ⟨B, o6⟩, o7, c8, d8, o8⟩ := id h
  have n4 := hx.1.2.1.2.2
  have o : ∀ k, (k < 567 ∨ 618 ≤ k ∨ k = 569 ∨ k = 578 ∨ k = 587) → (imgS s).A k = s.A k := fun k hk => by rw [img_A]; exact cp_o (Or.inl rfl) (by omega)
  have xr := r_X0_image (s := s) (fun j hj => (o1 (2 * j) (by omega)).1)
  rw [show (imgS s).A 515 0 = s.A 626 8 by rw [o 515 (by decide)]; exact hx.d.1] at xr
  have mr := r_X2_image (s := imgS s)
  have e6 : (imgS s).A 626 = s.A 626 := o 626 (by decide)
  rw [e6] at mr
  generalize hv : (imgS s).setA 627 (mv ((imgS s).A 627) 0 (s.A 626) 2308) = v at mr
  have vo : ∀ k, k ≠ 627 → v.A k = (imgS s).A k := fun k hk => by rw [← hv]; exact setA_ne hk
  have v7 : v.A 627 = mv ((imgS s).A 627) 0 (s.A 626) 2308 := by rw [← hv]; exact setA_at
  have vT : v.T = (imgS s).T := by rw [← hv]; rfl
  have vS : v.S = s.S := by rw [← hv]; rfl
  have vb : v.b = s.b := by rw [← hv]; rfl
  refine ⟨_, _, _, _, v, by decide, xr, mr, ⟨⟨⟨N, nt, c, e, g, N, nt, c, e, g, ?_, ?_, Nat.le_refl _, fun t ht => ?_, fun t ht => ?_⟩, ⟨p, p1, by rw [vS]; exact p2, by rw [vS]; exact p3, fun k hk => ?_⟩, fun j hj => ?_, ⟨by rw [vS]; exact o2, by rw [vS]; exact o3⟩, ⟨k4, by rw [vS]; exact o4⟩, ⟨w5, by rw [vS]; exact o5⟩, ⟨B, ?_⟩, by rw [vb]; exact o7, c8, d8, by rw [vb]; exact o8⟩, by rw [vb]; exact (Ext.refl _).mono (by decide) (by decide)⟩, rfl⟩
  · rw [vo 626 (by decide), e6]
    exact hx.to (fun j a b => by rw [vo j (by omega), o j (by omega)])
  · rw [v7]
    have q : ∀ k, imA v.A k = if k + 53 = 627 then v.A 627 else (cpAll s 514 567).A (k + 53) := fun k => by
      show v.A (k + 53) = _
      split
      · rename_i z; rw [z]
      · rename_i z; rw [vo _ z]; rfl
    have im : ∀ k, k < 574 → imA v.A k = (cpAll s 514 567).A (k + 53) := fun k hk => by rw [q, if_neg (by omega)]
    refine hx.cg (fun j hj => by rw [mv_in (by omega) (by omega), Nat.sub_zero]) (fun j hj => ?_) (fun j hj => ?_) (fun i j hi hj => ?_) (fun i j hi hj => ?_) (fun i j hi hj => ?_)
    · rw [im 514 (by decide)]; exact cp_0 (Or.inl rfl) hj
    · rw [im 515 (by decide)]; exact cp_1 (Or.inl rfl) hj
    · rw [im (517 + i) (by omega), show 517 + i + 53 = 567 + 3 + i by omega]; exact cp_s (Or.inl rfl) hi hj
    · rw [im (526 + i) (by omega), show 526 + i + 53 = 567 + 12 + i by omega]; exact cp_g (Or.inl rfl) hi hj
    · rw [im (535 + i) (by omega), show 535 + i + 53 = 567 + 21 + i by omega]; exact cp_t (Or.inl rfl) hi hj
  · rw [vT, (img_T (by omega)).1, (img_T (by omega)).2]
  · rw [vT, vb, (img_T (by omega)).1, vo 628 (by decide), o 628 (by decide)]; exact htx t ht
  · have z := p4 k hk
    rw [vo 629 (by decide), o 629 (by decide), vo 619 (by decide), o 619 (by decide)]; exact z
  · rw [vT, vb]
    rcases Nat.mod_two_eq_zero_or_one j with z | z
    · obtain ⟨t, rfl⟩ : ∃ t, j = 2 * t := ⟨j / 2, by omega⟩
      rw [(img_T (by omega)).1]; exact o1 _ hj
    · obtain ⟨t, rfl⟩ : ∃ t, j = 2 * t + 1 := ⟨j / 2, by omega⟩
      rw [(img_T (by omega)).2]; exact o1 _ (by omega)
  · rw [vo 633 (by decide), o 633 (by decide)]; exact o6
theorem b_back (h : Inv s) : Both s mX0_back mX2_back [] := by
  obtain ⟨⟨N, nt, c, e, g, N2, nt2, c2, e2, g2, hx, hi, hle, hT, htx⟩, ⟨p, p1, p2, p3, p4⟩, o1, ⟨o2, o3⟩, ⟨k4, o4⟩, ⟨w5, o5⟩, ⟨B, o6⟩, o7, c8, d8, o8⟩ := id h
  have n4 := hx.1.2.1.2.2
  have o : ∀ k, (k < 514 ∨ 565 ≤ k ∨ k = 516 ∨ k = 525 ∨ k = 534) → (bakS s).A k = s.A k := fun k hk => by rw [bak_A]; exact cp_o (Or.inr rfl) (by omega)
  have xr := r_X0_back (s := s) (fun j hj => (o1 (2 * j + 1) (by omega)).1)
  rw [show (bakS s).A 515 0 = s.A 627 8 by rw [bak_A]; exact (cp_1 (a := 567) (b := 514) (Or.inr rfl) (by decide)).trans hi.d.1] at xr
  have mr := r_X2_back (s := bakS s)
  have e6 : (bakS s).A 627 = s.A 627 := o 627 (by decide)
  rw [e6] at mr
  generalize hv : (bakS s).setA 626 (mv ((bakS s).A 626) 0 (s.A 627) 2308) = v at mr
  have vo : ∀ k, k ≠ 626 → v.A k = (bakS s).A k := fun k hk => by rw [← hv]; exact setA_ne hk
  have v7 : v.A 626 = mv ((bakS s).A 626) 0 (s.A 627) 2308 := by rw [← hv]; exact setA_at
  have vT : v.T = (bakS s).T := by rw [← hv]; rfl
  have vS : v.S = s.S := by rw [← hv]; rfl
  have vb : v.b = s.b := by rw [← hv]; rfl
  refine ⟨_, _, _, _, v, by decide, xr, mr, ⟨⟨⟨N2, nt2, c2, e2, g2, N2, nt2, c2, e2, g2, ?_, ?_, Nat.le_refl _, fun t ht => ?_, fun t ht => ?_⟩, ⟨p, p1, by rw [vS]; exact p2, by rw [vS]; exact p3, fun k hk => ?_⟩, fun j hj => ?_, ⟨by rw [vS]; exact o2, by rw [vS]; exact o3⟩, ⟨k4, by rw [vS]; exact o4⟩, ⟨w5, by rw [vS]; exact o5⟩, ⟨B, ?_⟩, by rw [vb]; exact o7, c8, d8, by rw [vb]; exact o8⟩, by rw [vb]; exact (Ext.refl _).mono (by decide) (by decide)⟩, rfl⟩
  · rw [v7]
    have im : ∀ k, k < 574 → v.A k = (cpAll s 567 514).A k := fun k hk => by rw [vo k (by omega)]; rfl
    refine hi.cg (fun j hj => by rw [mv_in (by omega) (by omega), Nat.sub_zero]) (fun j hj => ?_) (fun j hj => ?_) (fun i j hi hj => ?_) (fun i j hi hj => ?_) (fun i j hi hj => ?_)
    · rw [im 514 (by decide)]; exact cp_0 (Or.inr rfl) hj
    · rw [im 515 (by decide)]; exact cp_1 (Or.inr rfl) hj
    · rw [im (517 + i) (by omega)]
      have z := cp_s (s := s) (a := 567) (b := 514) (Or.inr rfl) hi hj
      show _ = s.A (517 + i + 53) j
      rw [show 517 + i + 53 = 567 + 3 + i by omega]; exact z
    · rw [im (526 + i) (by omega)]
      have z := cp_g (s := s) (a := 567) (b := 514) (Or.inr rfl) hi hj
      show _ = s.A (526 + i + 53) j
      rw [show 526 + i + 53 = 567 + 12 + i by omega]; exact z
    · rw [im (535 + i) (by omega)]
      have z := cp_t (s := s) (a := 567) (b := 514) (Or.inr rfl) hi hj
      show _ = s.A (535 + i + 53) j
      rw [show 535 + i + 53 = 567 + 21 + i by omega]; exact z
  · rw [vo 627 (by decide), e6]
    exact hi.to (fun j a b => by show v.A (j + 53) = s.A (j + 53); rw [vo _ (by omega), o _ (by omega)])
  · rw [vT, (bak_T (by omega)).1, (bak_T (by omega)).2]
  · rw [vT, vb, (bak_T (by omega)).1, vo 628 (by decide), o 628 (by decide), hT t ht]; exact htx t (by omega)
  · have z := p4 k hk
    rw [vo 629 (by decide), o 629 (by decide), vo 619 (by decide), o 619 (by decide)]; exact z
  · rw [vT, vb]
    rcases Nat.mod_two_eq_zero_or_one j with z | z
    · obtain ⟨t, rfl⟩ : ∃ t, j = 2 * t := ⟨j / 2, by omega⟩
      rw [(bak_T (by omega)).1]; exact o1 _ (by omega)
    · obtain ⟨t, rfl⟩ : ∃ t, j = 2 * t + 1 := ⟨j / 2, by omega⟩
      rw [(bak_T (by omega)).2]; exact o1 _ hj
  · rw [vo 633 (by decide), o 633 (by decide)]; exact o6
end CASES8
