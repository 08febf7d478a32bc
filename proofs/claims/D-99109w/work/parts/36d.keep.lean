/-! KEEP: steps kept and taken back, what is told, on both sides (by hand) -/
set_option maxRecDepth 100000
section KEEP
variable {N nt c e g : Nat} {a : Nat → Int32} {s : Sg}
theorem stepM_at {a : Nat → Int32} {x : Nat} : stepM a x x = a 0 ∧ (∀ j, j < 3 → stepM a x (x + 1 + j) = a (8 + j)) ∧ (∀ j, j < 28 → stepM a x (x + 4 + j) = a (12 + 8 * (j / 4) + j % 4)) ∧ (∀ j, j < 40 → stepM a x (x + 32 + j) = a (2268 + j)) ∧ ∀ y, y < x ∨ x + 72 ≤ y → stepM a x y = a y := by
  unfold stepM
  refine ⟨?_, fun j hj => ?_, fun j hj => ?_, fun j hj => ?_, fun y hy => ?_⟩
  · rw [mv_out (by omega), mv_out (by omega), mv_out (by omega), up_eq]
  · rw [mv_out (by omega), mv_out (by omega), mv_in (by omega) (by omega), Nat.add_sub_cancel_left]
  · rw [mv_out (by omega), mv_in (by omega) (by omega), Nat.add_sub_cancel_left]
  · rw [mv_in (by omega) (by omega), Nat.add_sub_cancel_left]
  · rw [mv_out (by omega), mv_out (by omega), mv_out (by omega), up_ne (by omega)]
theorem mv0_lt {α : Type} {f g : Nat → α} {n k : Nat} (h : k < n) : mv0 g f n k = f k := if_pos h
theorem mv0_ge {α : Type} {f g : Nat → α} {n k : Nat} (h : ¬ k < n) : mv0 g f n k = g k := if_neg h
theorem lay_rel (h : RelX N nt c e g a s.A) (hc : c < 30) : RelX N nt (c + 1) e g (keepT a c) (layS s c).A := by
  obtain ⟨⟨⟨h1, h2, h3⟩, ⟨h4, h5, h6⟩, ⟨h7, h8⟩, ⟨h9, h10, h11⟩, ⟨h12, h13, h14⟩, ⟨h15, h16, h17⟩⟩, k1, k2, k3, k4, k5⟩ := h
  obtain ⟨s1, s2, s3, s4, s5⟩ := stepM_at (a := a) (x := 108 + 72 * c)
  have kt : ∀ y, y ≠ 3 → (y < 108 + 72 * c ∨ 108 + 72 * c + 72 ≤ y) → keepT a c y = a y := fun y hy hy2 => by
    unfold keepT
    rw [up_ne hy]
    exact s5 y hy2
  have kt3 : keepT a c 3 = nI (c + 1) := up_eq
  have kx : ∀ j, j < 72 → keepT a c (108 + 72 * c + j) = stepM a (108 + 72 * c) (108 + 72 * c + j) := fun j _ => up_ne (by omega)
  have n514 : (layS s c).A 514 = up (s.A 514) 3 (nI c + 1) := sA_eq
  have nst : (layS s c).A (535 + c) = mv0 (s.A (535 + c)) (s.A 515) 145 := (sA_ne (by omega)).trans sA_eq
  have nel : ∀ k, k ≠ 514 → k ≠ 535 + c → (layS s c).A k = s.A k := fun k hk hk2 => (sA_ne hk).trans (sA_ne hk2)
  refine ⟨⟨⟨(kt 0 (by decide) (by omega)).trans h1, ?_, h3⟩, ⟨(kt 1 (by decide) (by omega)).trans h4, ?_, h6⟩, ⟨?_, ?_⟩, ⟨kt3, ?_, by omega⟩, ⟨(kt 4 (by decide) (by omega)).trans h12, ?_, h14⟩, ⟨(kt 5 (by decide) (by omega)).trans h15, ?_, h17⟩⟩, fun h hh => ?_, ?_, fun i hi => ?_, fun i hi => ?_, fun i hi => ?_⟩
  · rw [n514, up_ne (by decide)]; exact h2
  · rw [n514, up_ne (by decide)]; exact h5
  · rw [n514, up_ne (by decide), kt 2 (by decide) (by omega)]; exact h7
  · rw [kt 2 (by decide) (by omega)]; exact h8
  · rw [n514, up_eq, nI_1]
  · rw [n514, up_ne (by decide)]; exact h13
  · rw [n514, up_ne (by decide)]; exact h16
  · rw [kt _ (by omega) (by omega), kt _ (by omega) (by omega), kt _ (by omega) (by omega)]
    exact k1 h hh
  · rw [nel 515 (by decide) (by omega)]
    exact k2.cg h3 (fun j _ _ => kt j (by omega) (by omega)) (fun j _ _ => kt j (by omega) (by omega)) (fun j hj => rfl)
  · by_cases ei : i = c
    · subst ei
      obtain ⟨w, w1, w2⟩ := k2
      have h40 := w2.2.2.1.2.1
      have x0 := kx 0 (by decide)
      have x1 := kx 1 (by decide)
      have x2 := kx 2 (by decide)
      have x3 := kx 3 (by decide)
      have y1 := s2 0 (by decide)
      have y2 := s2 1 (by decide)
      have y3 := s2 2 (by decide)
      refine ⟨N, w, Nat.le_refl _, x0.trans (s1.trans h1), x3.trans (y3.trans w1), ?_⟩
      rw [nst]
      refine w2.cg (x1.trans y1) (x2.trans y2) (fun h k hh hk => ?_) (fun q hq => ?_) (fun j hj => mv0_lt hj) h3
      · unfold StH CurH
        rw [if_pos hh]
        have z := kx (4 + (4 * h + k)) (by omega)
        rw [← Nat.add_assoc] at z
        have z2 := s3 (4 * h + k) (by omega)
        rw [show (4 * h + k) / 4 = h by omega, show (4 * h + k) % 4 = k by omega] at z2
        rw [Nat.add_assoc (108 + 72 * i + 4)]
        exact z.trans z2
      · have z := kx (32 + q) (by omega)
        rw [← Nat.add_assoc] at z
        exact z.trans (s4 q (by omega))
    · rw [nel (535 + i) (by omega) (by omega)]
      exact (k3 i (by omega)).cg h3 (fun h k _ _ => kt _ (by omega) (by omega)) (fun j _ _ => kt j (by omega) (by omega)) (fun j hj => rfl)
  · rw [nel (517 + i) (by omega) (by omega), kt _ (by omega) (by omega), kt _ (by omega) (by omega), kt _ (by omega) (by omega)]
    exact k4 i hi
  · rw [nel (526 + i) (by omega) (by omega), kt _ (by omega) (by omega), kt _ (by omega) (by omega)]
    exact k5 i hi
theorem shift_rel (h : RelX N nt 30 e g a s.A) : RelX N nt 29 e g (shiftM a) ((shf s 29).setA 514 (up (s.A 514) 3 (nI 30 - 1))).A := by
  obtain ⟨⟨⟨h1, h2, h3⟩, ⟨h4, h5, h6⟩, ⟨h7, h8⟩, ⟨h9, h10, h11⟩, ⟨h12, h13, h14⟩, ⟨h15, h16, h17⟩⟩, k1, k2, k3, k4, k5⟩ := h
  have kt : ∀ y, y ≠ 3 → (y < 108 ∨ 2196 ≤ y) → shiftM a y = a y := fun y hy hy2 => by
    unfold shiftM
    rw [up_ne hy, mv_out (by omega)]
  have ks : ∀ y, 108 ≤ y → y < 2196 → shiftM a y = a (y + 72) := fun y hy hy2 => by
    unfold shiftM
    rw [up_ne (by omega), mv_in (by omega) (by omega)]
    exact congrArg a (by omega)
  generalize hS : ((shf s 29).setA 514 (up (s.A 514) 3 (nI 30 - 1))) = S
  have n514 : S.A 514 = up (s.A 514) 3 (nI 30 - 1) := by rw [← hS]; exact sA_eq
  have nst : ∀ i, i < 29 → S.A (535 + i) = mv0 (s.A (535 + i)) (s.A (535 + i + 1)) 145 := fun i hi => by
    rw [← hS, sA_ne (by omega)]
    exact if_pos (by omega)
  have nel : ∀ k, k ≠ 514 → (k < 535 ∨ 564 ≤ k) → S.A k = s.A k := fun k hk hk2 => by
    rw [← hS, sA_ne hk]
    exact shf_out (by intros; omega)
  refine ⟨⟨⟨(kt 0 (by decide) (by omega)).trans h1, ?_, h3⟩, ⟨(kt 1 (by decide) (by omega)).trans h4, ?_, h6⟩, ⟨?_, ?_⟩, ⟨up_eq, ?_, by omega⟩, ⟨(kt 4 (by decide) (by omega)).trans h12, ?_, h14⟩, ⟨(kt 5 (by decide) (by omega)).trans h15, ?_, h17⟩⟩, fun h hh => ?_, ?_, fun i hi => ?_, fun i hi => ?_, fun i hi => ?_⟩
  · rw [n514, up_ne (by decide)]; exact h2
  · rw [n514, up_ne (by decide)]; exact h5
  · rw [n514, up_ne (by decide), kt 2 (by decide) (by omega)]; exact h7
  · rw [kt 2 (by decide) (by omega)]; exact h8
  · rw [n514, up_eq]; exact xI_pred
  · rw [n514, up_ne (by decide)]; exact h13
  · rw [n514, up_ne (by decide)]; exact h16
  · rw [kt _ (by omega) (by omega), kt _ (by omega) (by omega), kt _ (by omega) (by omega)]
    exact k1 h hh
  · rw [nel 515 (by decide) (by omega)]
    exact k2.cg h3 (fun j _ _ => kt j (by omega) (by omega)) (fun j _ _ => kt j (by omega) (by omega)) (fun j hj => rfl)
  · rw [nst i hi]
    obtain ⟨m, w, m1, m2, m3, m4⟩ := k3 (i + 1) (by omega)
    have h40 := m4.2.2.1.2.1
    have ex : 108 + 72 * (i + 1) = 108 + 72 * i + 72 := by omega
    rw [ex] at m2 m3 m4
    refine ⟨m, w, m1, (ks _ (by omega) (by omega)).trans m2, (ks _ (by omega) (by omega)).trans m3, ?_⟩
    refine m4.cg (ks _ (by omega) (by omega)) (ks _ (by omega) (by omega)) (fun h k hh hk => ?_) (fun q hq => ?_) (fun j hj => mv0_lt hj) h3
    · unfold StH
      by_cases q : h < m
      · rw [if_pos q, if_pos q, ks _ (by omega) (by omega)]
        exact congrArg a (by omega)
      · rw [if_neg q, if_neg q]
        by_cases q3 : k < 3
        · rw [if_pos q3, if_pos q3]; exact kt _ (by omega) (by omega)
        · rw [if_neg q3, if_neg q3]
    · show shiftM a _ = a _
      rw [ks _ (by omega) (by omega)]
      exact congrArg a (by omega)
  · rw [nel (517 + i) (by omega) (by omega), kt _ (by omega) (by omega), kt _ (by omega) (by omega), kt _ (by omega) (by omega)]
    exact k4 i hi
  · rw [nel (526 + i) (by omega) (by omega), kt _ (by omega) (by omega), kt _ (by omega) (by omega)]
    exact k5 i hi
/-- a step kept -/
theorem keep_rel (h : RelX N nt c e g a s.A) : ∃ c2, RelX N nt c2 e g (keepM a c) (keepS s c).A := by
  by_cases q : c = 30
  · subst q
    refine ⟨30, ?_⟩
    unfold keepM keepS
    rw [if_pos rfl, if_pos rfl]
    exact lay_rel (s := (shf s 29).setA 514 (up (s.A 514) 3 (nI 30 - 1))) (shift_rel h) (by decide)
  · refine ⟨c + 1, ?_⟩
    unfold keepM keepS
    rw [if_neg q, if_neg q]
    have := h.1.2.2.2.1.2.2
    exact lay_rel h (by omega)
/-- the row at hand isn't touched by it -/
theorem kM_lo (h : RelX N nt c e g a s.A) {j : Nat} (hj : j ≠ 3) (h2 : j < 108 ∨ 2268 ≤ j) : keepM a c j = a j := by
  have hc := h.1.2.2.2.1.2.2
  unfold keepM
  by_cases q : c = 30
  · rw [if_pos q]
    unfold keepT
    rw [up_ne hj, (stepM_at (a := shiftM a) (x := 108 + 72 * 29)).2.2.2.2 j (by omega)]
    unfold shiftM
    rw [up_ne hj, mv_out (by omega)]
  · rw [if_neg q]
    unfold keepT
    rw [up_ne hj, (stepM_at (a := a) (x := 108 + 72 * c)).2.2.2.2 j (by omega)]
/-- a step taken back -/
theorem undoH_at {x n : Nat} {b : Nat → Int32} (hx : 108 ≤ x) : ∀ m, m ≤ 7 → (∀ h k, h < m → k < 4 → undoH x n b m (12 + 8 * h + k) = StH b x n h k) ∧ ∀ j, (∀ h k, h < m → k < 4 → j ≠ 12 + 8 * h + k) → undoH x n b m j = b j
  | 0, _ => ⟨fun h k hh _ => absurd hh (Nat.not_lt_zero h), fun j _ => rfl⟩
  | m + 1, hm => by
    obtain ⟨i1, i2⟩ := undoH_at (x := x) (n := n) (b := b) hx m (by omega)
    have e : undoH x n b (m + 1) = if m < n then mv (undoH x n b m) (12 + 8 * m) (fun j => b (x + 4 + 4 * m + j)) 4 else beginM (undoH x n b m) m := rfl
    have out : ∀ j, (j < 12 + 8 * m ∨ 12 + 8 * m + 4 ≤ j) → undoH x n b (m + 1) j = undoH x n b m j := fun j hj => by
      rw [e]
      split
      · exact mv_out hj
      · exact beginM_out hj
    refine ⟨fun h k hh hk => ?_, fun j hj => ?_⟩
    · by_cases q : h = m
      · subst q
        unfold StH
        rw [e]
        by_cases z : h < n
        · rw [if_pos z, if_pos z, mv_in (by omega) (by omega), Nat.add_sub_cancel_left]
        · rw [if_neg z, if_neg z]
          unfold beginM
          by_cases k3 : k < 3
          · rw [if_pos k3, up_ne (by omega), mv_in (by omega) (by omega), Nat.add_sub_cancel_left]
            exact i2 _ (fun h2 k2 a1 a2 => by omega)
          · rw [if_neg k3, show k = 3 by omega, up_eq]
      · rw [out _ (by omega)]
        exact i1 h k (by omega) hk
    · have q := hj m
      rw [out j (by
        by_cases z : j < 12 + 8 * m
        · exact Or.inl z
        · refine Or.inr ?_
          by_cases z2 : 12 + 8 * m + 4 ≤ j
          · exact z2
          · exact absurd (show j = 12 + 8 * m + (j - (12 + 8 * m)) by omega) (q (j - (12 + 8 * m)) (by omega) (by omega)))]
      exact i2 j (fun h k hh hk => hj h k (by omega) hk)
theorem undo_rel (h : RelX N nt (c + 1) e g a s.A) : ∃ n, n ≤ 7 ∧ a (108 + 72 * c) = nI n ∧ RelX N nt c e g (undoM a c n N) (undS s c).A := by
  obtain ⟨⟨⟨h1, h2, h3⟩, ⟨h4, h5, h6⟩, ⟨h7, h8⟩, ⟨h9, h10, h11⟩, ⟨h12, h13, h14⟩, ⟨h15, h16, h17⟩⟩, k1, k2, k3, k4, k5⟩ := h
  obtain ⟨m, w, m1, m2, m3, m4⟩ := k3 c (by omega)
  have h40 := m4.2.2.1.2.1
  refine ⟨m, by omega, m2, ?_⟩
  -- the numbers behind it
  generalize hb : mv (up a 3 (nI c)) 8 (fun j => a (108 + 72 * c + 1 + j)) 3 = b
  have b_in : ∀ j, j < 3 → b (8 + j) = a (108 + 72 * c + 1 + j) := fun j hj => by rw [← hb, mv_in (by omega) (by omega), Nat.add_sub_cancel_left]
  have b_out : ∀ j, j ≠ 3 → (j < 8 ∨ 11 ≤ j) → b j = a j := fun j hj hj2 => by rw [← hb, mv_out (by omega), up_ne hj]
  have b_3 : b 3 = nI c := by rw [← hb, mv_out (by omega), up_eq]
  obtain ⟨u1, u2⟩ := undoH_at (x := 108 + 72 * c) (n := m) (b := b) (by omega) N h3
  have eU : undoM a c m N = mv (undoH (108 + 72 * c) m b N) 2268 (fun j => a (108 + 72 * c + 32 + j)) 40 := by
    unfold undoM
    rw [hb]
  have f_bk : ∀ j, j < 40 → undoM a c m N (2268 + j) = a (108 + 72 * c + 32 + j) := fun j hj => by rw [eU, mv_in (by omega) (by omega), Nat.add_sub_cancel_left]
  have f_h : ∀ h k, h < N → k < 4 → undoM a c m N (12 + 8 * h + k) = StH a (108 + 72 * c) m h k := fun h k hh hk => by
    rw [eU, mv_out (by omega), u1 h k hh hk]
    unfold StH
    by_cases q : h < m
    · rw [if_pos q, if_pos q]; exact b_out _ (by omega) (by omega)
    · rw [if_neg q, if_neg q]
      by_cases q3 : k < 3
      · rw [if_pos q3, if_pos q3]; exact b_out _ (by omega) (by omega)
      · rw [if_neg q3, if_neg q3]
  have f_o : ∀ j, j < 2268 → (∀ h k, h < N → k < 4 → j ≠ 12 + 8 * h + k) → undoM a c m N j = b j := fun j hj hj2 => by
    rw [eU, mv_out (by omega)]
    exact u2 j hj2
  have f_k : ∀ j, j < 2268 → j ≠ 3 → (j < 8 ∨ 11 ≤ j) → (∀ h k, h < N → k < 4 → j ≠ 12 + 8 * h + k) → undoM a c m N j = a j := fun j hj h3 h8 hj2 => (f_o j hj hj2).trans (b_out j h3 h8)
  have n514 : (undS s c).A 514 = up (s.A 514) 3 (nI c) := rfl
  have n515 : (undS s c).A 515 = mv0 (s.A 515) (s.A (535 + c)) 145 := by
    unfold undS
    dsimp only
    rw [sA_eq, sA_ne (by decide), sA_ne (by omega)]
  have nel : ∀ k, k ≠ 514 → k ≠ 515 → (undS s c).A k = s.A k := fun k hk hk2 => by
    unfold undS
    dsimp only
    rw [sA_ne hk2, sA_ne hk]
  refine ⟨⟨⟨(f_k 0 (by intros; omega) (by intros; omega) (by intros; omega) (by intros; omega)).trans h1, ?_, h3⟩, ⟨(f_k 1 (by intros; omega) (by intros; omega) (by intros; omega) (by intros; omega)).trans h4, ?_, h6⟩, ⟨?_, ?_⟩, ⟨(f_o 3 (by intros; omega) (by intros; omega)).trans b_3, ?_, by omega⟩, ⟨(f_k 4 (by intros; omega) (by intros; omega) (by intros; omega) (by intros; omega)).trans h12, ?_, h14⟩, ⟨(f_k 5 (by intros; omega) (by intros; omega) (by intros; omega) (by intros; omega)).trans h15, ?_, h17⟩⟩, fun h hh => ?_, ?_, fun i hi => ?_, fun i hi => ?_, fun i hi => ?_⟩
  · rw [n514, up_ne (by decide)]; exact h2
  · rw [n514, up_ne (by decide)]; exact h5
  · rw [n514, up_ne (by decide), f_k 2 (by intros; omega) (by intros; omega) (by intros; omega) (by intros; omega)]; exact h7
  · rw [f_k 2 (by intros; omega) (by intros; omega) (by intros; omega) (by intros; omega)]; exact h8
  · rw [n514, up_eq]
  · rw [n514, up_ne (by decide)]; exact h13
  · rw [n514, up_ne (by decide)]; exact h16
  · rw [f_k _ (by intros; omega) (by intros; omega) (by intros; omega) (by intros; omega), f_k _ (by intros; omega) (by intros; omega) (by intros; omega) (by intros; omega), f_k _ (by intros; omega) (by intros; omega) (by intros; omega) (by intros; omega)]
    exact k1 h hh
  · have z8 := (f_o 8 (by intros; omega) (by intros; omega)).trans (b_in 0 (by decide))
    have z9 := (f_o 9 (by intros; omega) (by intros; omega)).trans (b_in 1 (by decide))
    have z10 := (f_o 10 (by intros; omega) (by intros; omega)).trans (b_in 2 (by decide))
    refine ⟨w, z10.trans m3, ?_⟩
    rw [n515]
    exact m4.cg z8 z9 (fun h k hh hk => f_h h k hh hk) (fun i hi => f_bk i (by omega)) (fun j hj => mv0_lt hj) h3
  · rw [nel (535 + i) (by omega) (by omega)]
    exact (k3 i (by intros; omega)).cg h3 (fun h k _ _ => f_k _ (by intros; omega) (by intros; omega) (by intros; omega) (by intros; omega)) (fun j _ _ => f_k j (by intros; omega) (by intros; omega) (by intros; omega) (by intros; omega)) (fun j hj => rfl)
  · rw [nel (517 + i) (by intros; omega) (by intros; omega), f_k _ (by intros; omega) (by intros; omega) (by intros; omega) (by intros; omega), f_k _ (by intros; omega) (by intros; omega) (by intros; omega) (by intros; omega), f_k _ (by intros; omega) (by intros; omega) (by intros; omega) (by intros; omega)]
    exact k4 i hi
  · rw [nel (526 + i) (by intros; omega) (by intros; omega), f_k _ (by intros; omega) (by intros; omega) (by intros; omega) (by intros; omega), f_k _ (by intros; omega) (by intros; omega) (by intros; omega) (by intros; omega)]
    exact k5 i hi
end KEEP
/-! one more seen, one more of gossip, the text chosen -/
section MORE
variable {N nt c e g : Nat} {a : Nat → Int32} {A : Nat → Nat → Int32}
/-- numbers of the head changed beside rows of their own -/
theorem RelX.head {b : Nat → Int32} {A2 : Nat → Nat → Int32} {nt2 e2 g2 : Nat} (h : RelX N nt c e g a A) (hb : ∀ j, j = 0 ∨ j = 3 ∨ (8 ≤ j ∧ j < 68) ∨ 108 ≤ j → b j = a j) (hn : A2 514 0 = A 514 0 ∧ A2 514 3 = A 514 3) (hA : ∀ k, (k = 515 ∨ 535 ≤ k ∧ k < 565) → A2 k = A k) (h1 : b 1 = nI nt2 ∧ A2 514 1 = nI nt2 ∧ nt2 ≤ 4) (h2 : A2 514 2 = b 2 ∧ (b 2 = -1 ∨ ∃ t, t < nt2 ∧ b 2 = nI t)) (h4 : b 4 = nI e2 ∧ A2 514 4 = nI e2 ∧ e2 ≤ 8) (h5 : b 5 = nI g2 ∧ A2 514 5 = nI g2 ∧ g2 ≤ 8) (hs : SeeR e2 b A2) (hg : GosR N g2 b A2) : RelX N nt2 c e2 g2 b A2 := by
  obtain ⟨⟨⟨p1, p2, p3⟩, -, -, ⟨p9, p10, p11⟩, -, -⟩, k1, k2, k3, -, -⟩ := h
  refine ⟨⟨⟨(hb 0 (by omega)).trans p1, hn.1.trans p2, p3⟩, h1, h2, ⟨(hb 3 (by omega)).trans p9, hn.2.trans p10, p11⟩, h4, h5⟩, fun h hh => ?_, ?_, fun i hi => ?_, hs, hg⟩
  · rw [hb _ (by omega), hb _ (by omega), hb _ (by omega)]
    exact k1 h hh
  · rw [hA 515 (by omega)]
    exact k2.cg p3 (fun j _ _ => hb j (by omega)) (fun j _ _ => hb j (by omega)) (fun j hj => rfl)
  · rw [hA (535 + i) (by omega)]
    exact (k3 i hi).cg p3 (fun h k _ _ => hb _ (by omega)) (fun j _ _ => hb j (by omega)) (fun j hj => rfl)
end MORE
