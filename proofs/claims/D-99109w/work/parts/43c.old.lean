/-! OLD: the cells that were there before (by hand) -/
set_option maxRecDepth 100000
def gO (n : Nat) (f : Nat → Int32) (c d : Value) : Nat → Option AC := fun k =>
  if k = 0 then some (.inr (4, [.null, .null, .null, c, d]))
  else if k = 1 then some (.inl (8, 22, fun j => .ref (100 + j)))
  else if k = 2 then some (.inl (7, 0, fun _ => .null))
  else if k = 3 then some (.inl (9, 256, fun j => .ref (200 + j)))
  else if k = 500 then some (sc n f)
  else if 130 ≤ k ∧ k < 153 then some (.inl (10 + (k - 130), (wdL (k - 130)).length, fun j => .int (nI ((wdL (k - 130)).getD j 0))))
  else if 200 ≤ k ∧ k < 456 then some (.inr (17, [.int (nI (k - 200) - 128)]))
  else none
section OLD
variable {n : Nat} {f : Nat → Int32} {c d : Value}
theorem gO_wd {i : Nat} (hi : i < 23) : gO n f c d (130 + i) = some (.inl (10 + i, (wdL i).length, fun j => .int (nI ((wdL i).getD j 0)))) := by
  unfold gO
  rw [if_neg (by omega), if_neg (by omega), if_neg (by omega), if_neg (by omega), if_neg (by omega), if_pos (by omega), show 130 + i - 130 = i by omega]
theorem gO_in {j : Nat} (hj : j < 256) : gO n f c d (200 + j) = some (.inr (17, [.int (nI j - 128)])) := by
  unfold gO
  rw [if_neg (by omega), if_neg (by omega), if_neg (by omega), if_neg (by omega), if_neg (by omega), if_neg (by omega), if_pos (by omega), show 200 + j - 200 = j by omega]
theorem gO_BH {u : Nat} : BH (128, u, gO n f c d) := ⟨Nat.le_refl _, rfl, rfl, fun j hj => gO_in hj, rfl, fun i hi => gO_wd hi⟩
theorem gO_hi (k : Nat) (h : 512 ≤ k) : gO n f c d k = none := by
  unfold gO
  rw [if_neg (by omega), if_neg (by omega), if_neg (by omega), if_neg (by omega), if_neg (by omega), if_neg (by omega), if_neg (by omega)]
/-- what must hold of the machine's heap -/
theorem Rp.old {E : EE} {H : Heap} (hs : H.size = EB E) (h0 : AtC E 0 (.inr (4, [.null, .null, .null, c, d])) H) (h1 : AtC E 1 (.inl (8, 22, fun j => .ref (100 + j))) H) (h2 : AtC E 2 (.inl (7, 0, fun _ => .null)) H) (h3 : AtC E 3 (.inl (9, 256, fun j => .ref (200 + j))) H) (h5 : AtC E 500 (sc n f) H) (hw : ∀ i, i < 23 → AtC E (130 + i) (.inl (10 + i, (wdL i).length, fun j => .int (nI ((wdL i).getD j 0)))) H) (hi : ∀ j, j < 256 → AtC E (200 + j) (.inr (17, [.int (nI j - 128)])) H) : Rp E (h00 (gO n f c d)) H := by
  refine ⟨hs, fun k x hk => ?_⟩
  have hk : (match nP k with | some c => some c | none => if 512 ≤ k ∧ k < 512 + 0 then some (fx (s00 (gO n f c d)) k) else gO n f c d k) = some x := hk
  have hk : (if 512 ≤ k ∧ k < 512 + 0 then some (fx (s00 (gO n f c d)) k) else gO n f c d k) = some x := hk
  rw [if_neg (by omega)] at hk
  by_cases a0 : k = 0
  · subst a0; cases hk; exact h0
  by_cases a1 : k = 1
  · subst a1; cases hk; exact h1
  by_cases a2 : k = 2
  · subst a2; cases hk; exact h2
  by_cases a3 : k = 3
  · subst a3; cases hk; exact h3
  by_cases a5 : k = 500
  · subst a5; cases hk; exact h5
  by_cases b1 : 130 ≤ k ∧ k < 153
  · obtain ⟨i, rfl⟩ : ∃ i, k = 130 + i := ⟨k - 130, by omega⟩
    rw [gO_wd (by omega)] at hk
    cases hk
    exact hw i (by omega)
  by_cases b2 : 200 ≤ k ∧ k < 456
  · obtain ⟨j, rfl⟩ : ∃ j, k = 200 + j := ⟨k - 200, by omega⟩
    rw [gO_in (by omega)] at hk
    cases hk
    exact hi j (by omega)
  · unfold gO at hk
    rw [if_neg a0, if_neg a1, if_neg a2, if_neg a3, if_neg a5, if_neg b1, if_neg b2] at hk
    cases hk
end OLD
