/-! FUEL 2: a text's fuel is enough (by hand) -/
set_option maxRecDepth 100000
section FUEL2
variable {t : Nat → Int32} {n : Nat} {L0 : Lq}
theorem lawR_nz (hn : n ≤ 300) (so : Int32) (i : Nat) : nz (lawR (byteF t n) (tkL t n L0) so i) := by
  have h := fuel (t := t) (n := n) (L0 := L0) (lets := decide (so = 2)) hn FU
  unfold lawR
  by_cases e : so = 2
  · rw [if_pos e]
    exact (h.2.2.2.2.1 [] i 0).2 (by unfold FU; omega)
  · rw [if_neg e]
    exact (h.1.2.2.2.1 [] i 0).2 (by unfold FU; omega)
def bz (x : BR) : Prop := ∀ j, ¬ x = .inl (0, j)
theorem bz_r {c : (Int32 × Int32 × Int32) × Nat} : bz (.inr c) := fun _ h => absurd h.symm Sum.inl_ne_inr
theorem bz_l {r : Int32} {j : Nat} (h : ¬ r = 0) : bz (.inl (r, j)) := fun _ q => h (Prod.mk.inj (Sum.inl.inj q)).1
theorem bz_fg {K : Nat → Lq} {i : Nat} {lo hi : Int32} {k : BR} (h : bz k) : bz (fgR K i lo hi k) := by
  unfold fgR
  by_cases e : figF (K i) lo hi = 0
  · rw [if_pos e]; exact h
  · rw [if_neg e]; exact bz_l e
theorem bz_wd {K : Nat → Lq} {i : Nat} {x : Int64} {k : BR} (h : bz k) : bz (wdR K i x k) := by
  unfold wdR
  split
  · exact h
  · exact bz_l (by decide)
theorem bz_body {B : Nat → Int32} {K : Nat → Lq} {so : Int32} {i : Nat} : bz (bodyR B K so i) := by
  unfold bodyR
  split
  · refine bz_fg (bz_wd (bz_fg ?_))
    split
    · exact bz_fg bz_r
    · exact bz_l (by decide)
  split
  · exact bz_fg (bz_wd (bz_fg bz_r))
  split
  · exact bz_fg (bz_wd (bz_fg bz_r))
  split
  · exact bz_fg bz_r
  · exact bz_fg bz_r
theorem clR_nz (hn : n ≤ 300) (cls : List Cl) (C : Cd) (i : Nat) : (∀ j, ¬ clR (byteF t n) (tkL t n L0) cls C i = .inl (0, j)) ∧ (∀ q, clR (byteF t n) (tkL t n L0) cls C i = .inr q → ¬ cls.length = 24) := by
  have l1 : ∀ (r : Int32) (k j : Nat), ¬ r = 0 → ¬ (Sum.inl (r, k) : CR) = .inl (0, j) := fun r k j h q => h (Prod.mk.inj (Sum.inl.inj q)).1
  unfold clR
  by_cases a1 : sortF (tkL t n L0 i) < 0
  · rw [if_pos a1]
    exact ⟨fun j => l1 _ _ _ (by decide), fun q h => absurd h Sum.inl_ne_inr⟩
  rw [if_neg a1]
  by_cases a2 : sortF (tkL t n L0 i) ≤ 2 ∧ hasS cls (sortF (tkL t n L0 i)) = true
  · rw [if_pos a2]
    exact ⟨fun j => l1 _ _ _ (by decide), fun q h => absurd h Sum.inl_ne_inr⟩
  rw [if_neg a2]
  by_cases a3 : cls.length = 24
  · rw [if_pos a3]
    exact ⟨fun j => l1 _ _ _ (by decide), fun q h => absurd h Sum.inl_ne_inr⟩
  rw [if_neg a3]
  refine ⟨fun j h => ?_, fun q _ => a3⟩
  have hc : ∀ j, ¬ clB (byteF t n) (tkL t n L0) (sortF (tkL t n L0 i)) C (i + 1) = .inl (0, j) := fun j h => by
    unfold clB at h
    by_cases b : sortF (tkL t n L0 i) ≤ 2
    · rw [if_pos b] at h
      have z := lawR_nz (t := t) (L0 := L0) hn (sortF (tkL t n L0 i)) (i + 1)
      cases hx : lawR (byteF t n) (tkL t n L0) (sortF (tkL t n L0 i)) (i + 1) with
      | inl e =>
        rw [hx] at h z
        exact z j (congrArg Sum.inl (Sum.inl.inj h))
      | inr e =>
        rw [hx] at h
        exact absurd h.symm Sum.inl_ne_inr
    · rw [if_neg b] at h
      have z : bz (bodyR (byteF t n) (tkL t n L0) (sortF (tkL t n L0 i)) (i + 1)) := bz_body
      cases hx : bodyR (byteF t n) (tkL t n L0) (sortF (tkL t n L0 i)) (i + 1) with
      | inl e =>
        rw [hx] at h z
        exact z j (congrArg Sum.inl (Sum.inl.inj h))
      | inr e =>
        rw [hx] at h
        exact absurd h.symm Sum.inl_ne_inr
  cases hx : clB (byteF t n) (tkL t n L0) (sortF (tkL t n L0 i)) C (i + 1) with
  | inl e =>
    rw [hx] at h hc
    exact hc j (congrArg Sum.inl (Sum.inl.inj h))
  | inr e =>
    rw [hx] at h
    have h : (if (tkL t n L0 e.2.2).2.2.1 = 59 then (.inr (e.1, e.2.1, e.2.2 + 1) : CR) else .inl (1, e.2.2)) = .inl (0, j) := h
    split at h
    · exact absurd h.symm Sum.inl_ne_inr
    · exact l1 _ _ _ (by decide) h
theorem rdT_nz (hn : n ≤ 300) : ∀ (f : Nat) (cls : List Cl) (C : Cd) (i : Nat), cls.length ≤ 24 → 25 - cls.length ≤ f → ∀ j, ¬ rdT (byteF t n) (tkL t n L0) f cls C i = .inl (0, j)
  | 0, cls, C, i, h1, h2, j => by omega
  | f + 1, cls, C, i, h1, h2, j => by
    have e : rdT (byteF t n) (tkL t n L0) (f + 1) cls C i = (if (tkL t n L0 i).2.2.1 = 0 then .inr (cls, C, i) else match clR (byteF t n) (tkL t n L0) cls C i with
      | .inl e => .inl e
      | .inr q => rdT (byteF t n) (tkL t n L0) f (cls ++ [q.1]) q.2.1 q.2.2) := rfl
    rw [e]
    intro h
    by_cases a : (tkL t n L0 i).2.2.1 = 0
    · rw [if_pos a] at h
      exact absurd h.symm Sum.inl_ne_inr
    rw [if_neg a] at h
    have c := clR_nz (t := t) (L0 := L0) hn cls C i
    cases hx : clR (byteF t n) (tkL t n L0) cls C i with
    | inl e =>
      rw [hx] at h
      exact c.1 j (hx.trans (congrArg Sum.inl (Sum.inl.inj h)))
    | inr q =>
      rw [hx] at h
      have l := c.2 q hx
      exact rdT_nz hn f (cls ++ [q.1]) q.2.1 q.2.2 (by rw [List.length_append]; show cls.length + 1 ≤ 24; omega) (by rw [List.length_append]; show 25 - (cls.length + 1) ≤ f; omega) j h
/-- the fuels of the model's reader are enough -/
theorem text_nz (hn : n ≤ 300) (j : Nat) : ¬ rdT (byteF t n) (tkL t n L0) TF [] [] 0 = .inl (0, j) := rdT_nz hn TF [] [] 0 (Nat.zero_le _) (by unfold TF; decide) j
end FUEL2
