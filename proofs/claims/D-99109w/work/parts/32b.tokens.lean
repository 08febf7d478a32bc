/-! TOKENS: where they lie -/
set_option maxRecDepth 100000
theorem lexT_at {t : Nat → Int32} {n p : Nat} {L : Lq} (hp : p ≤ n) : (∃ k, k ≤ n ∧ (lexT (byteF t n) n p L).1 = nI k ∧ (p < n → p < k)) ∧ (lexT (byteF t n) n p L).2.1 = nI p := by
  have hB : ∀ j, n ≤ j → byteF t n j = -1 := fun j hj => if_neg (by omega)
  unfold lexT
  by_cases h0 : p = n
  · rw [if_pos h0]; exact ⟨⟨p, hp, rfl, fun h => by omega⟩, rfl⟩
  rw [if_neg h0]
  by_cases h1 : isFig (byteF t n p) = true
  · rw [if_pos h1]
    refine ⟨⟨_, spn_le hp, rfl, fun h => ?_⟩, rfl⟩
    rw [spn_t h h1]
    have := spn_ge (p := isFig) (B := byteF t n) (n := n) (k := p + 1) (by omega)
    omega
  rw [if_neg h1]
  by_cases h2 : isLet (byteF t n p) = true
  · rw [if_pos h2]
    refine ⟨⟨_, spn_le hp, rfl, fun h => ?_⟩, rfl⟩
    rw [spn_t h h2]
    have := spn_ge (p := isLet) (B := byteF t n) (n := n) (k := p + 1) (by omega)
    omega
  rw [if_neg h2]
  by_cases h3 : (byteF t n p = 60 ∨ byteF t n p = 62) ∧ byteF t n (p + 1) = 61
  · rw [if_pos h3]
    refine ⟨⟨p + 2, ?_, rfl, fun h => by omega⟩, rfl⟩
    apply Classical.byContradiction
    intro q
    have e := hB (p + 1) (by omega)
    rw [h3.2] at e
    exact absurd e (by decide)
  rw [if_neg h3]
  exact ⟨⟨p + 1, by omega, rfl, fun h => by omega⟩, rfl⟩
section TKS
variable {t : Nat → Int32} {n : Nat} {L0 : Lq}
theorem tk_at : ∀ i, (∃ k, k ≤ n ∧ (tkL t n L0 i).1 = nI k) ∧ ∃ p, p ≤ n ∧ (tkL t n L0 i).2.1 = nI p
  | 0 => by
    have hp := spn_le (p := isWs) (B := byteF t n) (n := n) (k := 0) (by omega)
    obtain ⟨⟨k, h1, h2, _⟩, h3⟩ := lexT_at (t := t) (L := L0) hp
    exact ⟨⟨k, h1, h2⟩, ⟨_, hp, h3⟩⟩
  | i + 1 => by
    obtain ⟨⟨k, h1, h2⟩, _⟩ := tk_at i
    have hk : cI (tkL t n L0 i).1 ≤ n := by
      rw [h2]
      by_cases q : k < 2147483648
      · rw [cI_nI q]; exact h1
      · have := Int32.toInt_lt (nI k)
        have e2 : ((nI k).toInt.toNat) < 2147483648 := by omega
        show (nI k).toInt.toNat ≤ n
        omega
    have hp := spn_le (p := isWs) (B := byteF t n) (n := n) (k := cI (tkL t n L0 i).1) hk
    obtain ⟨⟨k2, h4, h5, _⟩, h6⟩ := lexT_at (t := t) (L := tkL t n L0 i) hp
    exact ⟨⟨k2, h4, h5⟩, ⟨_, hp, h6⟩⟩
theorem tk_L (hn : n ≤ 300) (i : Nat) : (tkL t n L0 i).1 = nI (cI (tkL t n L0 i).1) ∧ cI (tkL t n L0 i).1 ≤ n := by
  obtain ⟨⟨k, h1, h2⟩, _⟩ := tk_at (t := t) (n := n) (L0 := L0) i
  rw [h2, cI_nI (by omega)]
  exact ⟨rfl, h1⟩
theorem tk_P (hn : n ≤ 300) (i : Nat) : (tkL t n L0 i).2.1 = nI (cI (tkL t n L0 i).2.1) ∧ cI (tkL t n L0 i).2.1 ≤ n := by
  obtain ⟨_, ⟨k, h1, h2⟩⟩ := tk_at (t := t) (n := n) (L0 := L0) i
  rw [h2, cI_nI (by omega)]
  exact ⟨rfl, h1⟩
/-- a token that is not the end lies behind the one ahead of it -/
theorem tk_go (hn : n ≤ 300) (i : Nat) (h : ¬ (tkL t n L0 (i + 1)).2.2.1 = 0) : cI (tkL t n L0 i).1 < cI (tkL t n L0 (i + 1)).1 := by
  have hk := (tk_L (t := t) (L0 := L0) hn i).2
  have e : tkL t n L0 (i + 1) = lexT (byteF t n) n (spn isWs (byteF t n) n (cI (tkL t n L0 i).1)) (tkL t n L0 i) := rfl
  have hp := spn_le (p := isWs) (B := byteF t n) (n := n) (k := cI (tkL t n L0 i).1) hk
  have hg := spn_ge (p := isWs) (B := byteF t n) (n := n) (k := cI (tkL t n L0 i).1) hk
  obtain ⟨⟨k2, h4, h5, h7⟩, h6⟩ := lexT_at (t := t) (L := tkL t n L0 i) hp
  rw [← e] at h5
  rw [h5, cI_nI (by omega)]
  generalize hq : spn isWs (byteF t n) n (cI (tkL t n L0 i).1) = p at *
  by_cases q : p < n
  · have := h7 q
    omega
  · exfalso
    apply h
    rw [e]
    unfold lexT
    rw [if_pos (by omega)]
end TKS
