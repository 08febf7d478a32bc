/-! WORDS: the sorts of the system's tokens against the model's tests (by hand) -/
set_option maxRecDepth 100000
theorem lwN_inj {B C : Nat → Int32} {p q : Nat} : ∀ m, (∀ j, j < m → isLet (B (p + j)) = true) → (∀ j, j < m → isLet (C (q + j)) = true) → lwN B p m = lwN C q m → ∀ j, j < m → B (p + j) = C (q + j)
  | 0, _, _, _, j, hj => absurd hj (Nat.not_lt_zero j)
  | m + 1, hB, hC, e, j, hj => by
    have b := let_b (hB m (by omega))
    have c := let_b (hC m (by omega))
    have e' : lwN B p m * 256 + cI (B (p + m)) = lwN C q m * 256 + cI (C (q + m)) := e
    by_cases ej : j = m
    · subst ej
      exact b.2.2.trans ((congrArg nI (by omega)).trans c.2.2.symm)
    · exact lwN_inj m (fun j hj => hB j (by omega)) (fun j hj => hC j (by omega)) (by omega) j (by omega)
theorem lwN_cg {B C : Nat → Int32} {p q : Nat} : ∀ m, (∀ j, j < m → B (p + j) = C (q + j)) → lwN B p m = lwN C q m
  | 0, _ => rfl
  | m + 1, h => by
    show lwN B p m * 256 + cI (B (p + m)) = lwN C q m * 256 + cI (C (q + m))
    rw [lwN_cg m (fun j hj => h j (by omega)), h m (by omega)]
theorem lwN_len {B C : Nat → Int32} {p q m k : Nat} (h1 : 1 ≤ m) (k1 : 1 ≤ k) (hB : ∀ j, j < m → isLet (B (p + j)) = true) (hC : ∀ j, j < k → isLet (C (q + j)) = true) (e : lwN B p m = lwN C q k) : m = k := by
  obtain ⟨m, rfl⟩ := Nat.exists_eq_add_of_le h1
  obtain ⟨k, rfl⟩ := Nat.exists_eq_add_of_le k1
  rw [Nat.add_comm 1 m] at *
  rw [Nat.add_comm 1 k] at *
  have a1 := lwN_lt _ hB
  have a2 := lwN_ge _ hB
  have b1 := lwN_lt _ hC
  have b2 := lwN_ge _ hC
  rcases Nat.lt_trichotomy m k with z | z | z
  · have := Nat.pow_le_pow_right (show 0 < 256 by omega) (show m + 1 ≤ k by omega)
    omega
  · omega
  · have := Nat.pow_le_pow_right (show 0 < 256 by omega) (show k + 1 ≤ m by omega)
    omega
theorem wd_match {B : Nat → Int32} {n p M : Nat} {L : Lq} (hw : WordT B n L p M) (C : Nat → Int32) {m : Nat} (h1 : 1 ≤ m) (h6 : m ≤ 6) (hC : ∀ j, j < m → isLet (C (0 + j)) = true) : L.2.2.2.2 = lN (lwN C 0 m) ↔ (M = m ∧ ∀ j, j < m → B (p + j) = C (0 + j)) := by
  obtain ⟨w1, w2, w3, w4, w5, w6, w7⟩ := hw
  have c1 := lwN_lt m hC
  have c2 : 256 ^ m ≤ 256 ^ 6 := Nat.pow_le_pow_right (by omega) h6
  constructor
  · intro e
    by_cases h7 : M ≤ 7
    · have e2 := congrArg Int64.toInt ((w6 h7).symm.trans e)
      have b1 := lwN_lt M w5
      have b2 : 256 ^ M ≤ 256 ^ 7 := Nat.pow_le_pow_right (by omega) h7
      rw [pf_lI (by omega), pf_lI (by omega)] at e2
      have e3 : lwN B p M = lwN C 0 m := by omega
      have e4 := lwN_len w2 h1 w5 hC e3
      subst e4
      exact ⟨rfl, lwN_inj M w5 hC e3⟩
    · have e2 := congrArg Int64.toInt ((w7 (by omega)).symm.trans e)
      rw [pf_lI (by omega), pf_lI (by omega)] at e2
      omega
  · intro ⟨e1, e2⟩
    subst e1
    rw [w6 (by omega), lwN_cg M e2]
theorem allU_i {p : Nat → Bool} : ∀ n, allUp p n = true ↔ ∀ k, k < n → p k = true
  | 0 => ⟨fun _ k hk => absurd hk (Nat.not_lt_zero k), fun _ => rfl⟩
  | n + 1 => by
    have ih := allU_i (p := p) n
    constructor
    · intro h k hk
      have h2 := Bool.and_eq_true_iff.mp (show (allUp p n && p n) = true from h)
      by_cases e : k = n
      · rw [e]; exact h2.2
      · exact ih.mp h2.1 k (by omega)
    · intro h
      exact Bool.and_eq_true_iff.mpr ⟨ih.mpr (fun k hk => h k (by omega)), h n (by omega)⟩
def wdF (k : Nat) : Nat → Int32 := fun j => nI ((wdL k).getD j 0)
theorem matchW_i {B : Nat → Int32} {p q : Nat} {k : Nat} : matchW B p q (wdL k) = true ↔ (q - p = (wdL k).length ∧ ∀ j, j < (wdL k).length → B (p + j) = wdF k (0 + j)) := by
  unfold matchW
  rw [Bool.and_eq_true_iff, allU_i]
  constructor
  · intro ⟨a, b⟩
    exact ⟨of_decide_eq_true a, fun j hj => by rw [Nat.zero_add]; exact of_decide_eq_true (b j hj)⟩
  · intro ⟨a, b⟩
    exact ⟨decide_eq_true a, fun j hj => decide_eq_true (by have := b j hj; rw [Nat.zero_add] at this; exact this)⟩
theorem wdL_l : ∀ k, k < 22 → (1 ≤ (wdL k).length ∧ (wdL k).length ≤ 7) ∧ ∀ j, j < 7 → j < (wdL k).length → isLet (nI ((wdL k).getD j 0)) = true := by decide +kernel
theorem wdL_e : ∀ a, a < 22 → ∀ b, b < 22 → ((wdL a).length = (wdL b).length ∧ ∀ j, j < 7 → j < (wdL a).length → nI ((wdL a).getD j 0) = nI ((wdL b).getD j 0)) → a = b := by decide +kernel
theorem wdF_l {k : Nat} (hk : k < 22) : ∀ j, j < (wdL k).length → isLet (wdF k (0 + j)) = true := fun j hj => by
  rw [Nat.zero_add]
  exact (wdL_l k hk).2 j (by have := (wdL_l k hk).1; omega) hj
theorem matchW_inj {B : Nat → Int32} {p q a b : Nat} (ha : a < 22) (hb : b < 22) (h : matchW B p q (wdL a) = true) (k : matchW B p q (wdL b) = true) : a = b := by
  have h1 := matchW_i.mp h
  have k1 := matchW_i.mp k
  refine wdL_e a ha b hb ⟨h1.1.symm.trans k1.1, fun j _ hj => ?_⟩
  have e := (h1.2 j hj).symm.trans (k1.2 j (by rw [← k1.1, h1.1]; exact hj))
  rw [Nat.zero_add] at e
  exact e
theorem sortW_hit {B : Nat → Int32} {p q k : Nat} (h : matchW B p q (wdL k) = true) : ∀ m, m ≤ 22 → k < m → sortW B p q m = nI (200 + k)
  | 0, _, hk => absurd hk (Nat.not_lt_zero k)
  | m + 1, hm, hk => by
    show (if matchW B p q (wdL m) = true then nI (200 + m) else sortW B p q m) = _
    by_cases e : matchW B p q (wdL m) = true
    · rw [if_pos e, matchW_inj (by omega) (by omega) e h]
    · rw [if_neg e]
      by_cases e2 : k = m
      · rw [e2] at h
        exact absurd h e
      · exact sortW_hit h m (by omega) (by omega)
theorem sortW_or {B : Nat → Int32} {p q : Nat} : ∀ m, m ≤ 22 → sortW B p q m = 302 ∨ ∃ k, k < 22 ∧ matchW B p q (wdL k) = true ∧ sortW B p q m = nI (200 + k)
  | 0, _ => Or.inl rfl
  | m + 1, hm => by
    show (if matchW B p q (wdL m) = true then nI (200 + m) else sortW B p q m) = _ ∨ ∃ k, k < 22 ∧ _ ∧ (if matchW B p q (wdL m) = true then nI (200 + m) else sortW B p q m) = _
    by_cases e : matchW B p q (wdL m) = true
    · rw [if_pos e]
      exact Or.inr ⟨m, by omega, e, rfl⟩
    · rw [if_neg e]
      exact sortW_or m (by omega)
def kindL : List Int32 := [0, 1, 2, 3, 4, 5, 35, 40, 41, 42, 43, 45, 47, 58, 59, 60, 61, 62]
theorem sig_k {c : Int32} (h : isSig c = true) : c ∈ kindL := by
  simp only [isSig, Bool.or_eq_true, decide_eq_true_eq] at h
  rcases h with (((((((((((h | h) | h) | h) | h) | h) | h) | h) | h) | h) | h) | h) <;> (rw [h]; decide)
theorem lexT_k {B : Nat → Int32} {n p : Nat} {L : Lq} : (lexT B n p L).2.2.1 ∈ kindL := by
  unfold lexT
  split
  · show (0 : Int32) ∈ kindL
    decide
  split
  · show (1 : Int32) ∈ kindL
    decide
  split
  · show (2 : Int32) ∈ kindL
    decide
  split
  · show (if B p = 60 then (4 : Int32) else 5) ∈ kindL
    split <;> decide
  · show (if isSig (B p) = true then B p else 3) ∈ kindL
    split
    · rename_i h
      exact sig_k h
    · decide
section WRD
variable {t : Nat → Int32} {n : Nat} {L0 : Lq}
theorem tk_k (i : Nat) : (tkL t n L0 i).2.2.1 ∈ kindL := by
  cases i with
  | zero => exact lexT_k
  | succ i => exact lexT_k
/-- a word's tests -/
theorem isWd_m (hn : n ≤ 300) (i : Nat) {k : Nat} (hk : k < 22) (h6 : (wdL k).length ≤ 6) {x : Int64} (hx : x = lN (lwN (wdF k) 0 (wdL k).length)) (h2 : (tkL t n L0 i).2.2.1 = 2) : (tkL t n L0 i).2.2.2.2 = x ↔ matchW (byteF t n) (cI (tkL t n L0 i).2.1) (cI (tkL t n L0 i).1) (wdL k) = true := by
  obtain ⟨p, M, hw⟩ := tk_word (L0 := L0) hn i h2
  have h := wd_match hw (wdF k) (wdL_l k hk).1.1 h6 (wdF_l hk)
  obtain ⟨w1, w2, w3, w4, -⟩ := hw
  rw [hx, h, matchW_i, w3, w4, cI_nI (by omega), cI_nI (by omega), Nat.add_sub_cancel_left]
theorem w2_p {B : Nat → Int32} {p : Nat} (h : ∀ j, j < 2 → isLet (B (p + j)) = true) : w2F (B (p + 0)) (B (p + 1)) = lN (lwN B p 2) := by
  have a := let_b (h 0 (by omega))
  have b := let_b (h 1 (by omega))
  have e : (B (p + 0)).toInt64 = lN (cI (B (p + 0))) := by
    have := congrArg Int32.toInt64 a.2.2
    rw [nI_l (by omega)] at this
    exact this
  show (B (p + 0)).toInt64 <<< 8 ||| (B (p + 1)).toInt64 = lN ((0 * 256 + cI (B (p + 0))) * 256 + cI (B (p + 1)))
  rw [e, congrArg Int32.toInt64 b.2.2, pack (by omega) (by omega), Nat.zero_mul, Nat.zero_add]
theorem w3_p {B : Nat → Int32} {p : Nat} (h : ∀ j, j < 3 → isLet (B (p + j)) = true) : w3F (B (p + 0)) (B (p + 1)) (B (p + 2)) = lN (lwN B p 3) := by
  have b := let_b (h 2 (by omega))
  have l := lwN_lt 2 (fun j hj => h j (by omega))
  show w2F (B (p + 0)) (B (p + 1)) <<< 8 ||| (B (p + 2)).toInt64 = lN (lwN B p 2 * 256 + cI (B (p + 2)))
  rw [w2_p (fun j hj => h j (by omega)), congrArg Int32.toInt64 b.2.2, pack (by omega) (by omega)]
theorem w4_p {B : Nat → Int32} {p : Nat} (h : ∀ j, j < 4 → isLet (B (p + j)) = true) : w4F (B (p + 0)) (B (p + 1)) (B (p + 2)) (B (p + 3)) = lN (lwN B p 4) := by
  have b := let_b (h 3 (by omega))
  have l := lwN_lt 3 (fun j hj => h j (by omega))
  show w3F (B (p + 0)) (B (p + 1)) (B (p + 2)) <<< 8 ||| (B (p + 3)).toInt64 = lN (lwN B p 3 * 256 + cI (B (p + 3)))
  rw [w3_p (fun j hj => h j (by omega)), congrArg Int32.toInt64 b.2.2, pack (by omega) (by omega)]
theorem lN_inj {a b : Nat} (h : lN a = lN b) (ha : a < 4294967296) (hb : b < 4294967296) : a = b := by
  have e := congrArg Int64.toInt h
  rw [pf_lI (by omega), pf_lI (by omega)] at e
  omega
theorem long_m (hn : n ≤ 300) (i : Nat) {k : Nat} (hk : k < 22) (h7 : (wdL k).length = 7) {f g : Int64} (hf : f = lN (lwN (wdF k) 0 4)) (hg : g = lN (lwN (wdF k) 4 3)) (h2 : (tkL t n L0 i).2.2.1 = 2) : isLongF (byteF t n) (tkL t n L0 i) (cI (tkL t n L0 i).2.1) f g = true ↔ matchW (byteF t n) (cI (tkL t n L0 i).2.1) (cI (tkL t n L0 i).1) (wdL k) = true := by
  obtain ⟨p, M, w1, w2, w3, w4, w5, w6, w7⟩ := tk_word (L0 := L0) hn i h2
  have hl := wdF_l hk
  rw [h7] at hl
  have hC : ∀ j, j < 3 → isLet (wdF k (4 + j)) = true := fun j hj => by
    have := hl (4 + j) (by omega)
    rw [Nat.zero_add] at this
    exact this
  have a0 := lwN_lt 4 (fun j hj => hl j (by omega))
  have a1 := lwN_lt 3 hC
  rw [matchW_i, h7, w3, w4, cI_nI (by omega), cI_nI (by omega), Nat.add_sub_cancel_left]
  unfold isLongF
  rw [Bool.and_eq_true_iff, Bool.and_eq_true_iff, Bool.and_eq_true_iff, decide_eq_true_eq, decide_eq_true_eq, decide_eq_true_eq, decide_eq_true_eq, h2, w3, w4, nI_subN (by omega), Nat.add_sub_cancel_left]
  constructor
  · intro ⟨_, e1, e2, e3⟩
    have e := congrArg Int32.toInt e1
    rw [nI_t (by omega)] at e
    have e7 : (7 : Int32).toInt = 7 := rfl
    have hM : M = 7 := by omega
    subst hM
    have hB : ∀ j, j < 3 → isLet (byteF t n (p + 4 + j)) = true := fun j hj => by
      rw [Nat.add_assoc]
      exact w5 (4 + j) (by omega)
    have e4 := (w4_p (fun j hj => w5 j (by omega))).symm.trans (e2.trans hf)
    have e5 := (w3_p hB).symm.trans (e3.trans hg)
    have b0 := lwN_lt 4 (fun j hj => w5 j (by omega))
    have b1 := lwN_lt 3 hB
    have i4 := lwN_inj 4 (fun j hj => w5 j (by omega)) (fun j hj => hl j (by omega)) (lN_inj e4 (by omega) (by omega))
    have i3 := lwN_inj 3 hB hC (lN_inj e5 (by omega) (by omega))
    refine ⟨rfl, fun j hj => ?_⟩
    by_cases q : j < 4
    · exact i4 j q
    · have := i3 (j - 4) (by omega)
      rw [show p + 4 + (j - 4) = p + j by omega, show 4 + (j - 4) = 0 + j by omega] at this
      exact this
  · intro ⟨e1, e2⟩
    subst e1
    have hB : ∀ j, j < 3 → isLet (byteF t n (p + 4 + j)) = true := fun j hj => by
      rw [Nat.add_assoc]
      exact w5 (4 + j) (by omega)
    refine ⟨rfl, rfl, ?_, ?_⟩
    · refine (w4_p (fun j hj => w5 j (by omega))).trans ?_
      rw [hf, lwN_cg 4 (fun j hj => e2 j (by omega))]
    · refine (w3_p hB).trans ?_
      rw [hg, lwN_cg (C := wdF k) (q := 4) 3 (fun j hj => by
        have := e2 (4 + j) (by omega)
        rw [Nat.zero_add, ← Nat.add_assoc] at this
        exact this)]
theorem sgV_w : ∀ x ∈ kindL, ¬ x = 2 → ∀ k, k < 22 → ¬ sgV x = nI (200 + k) := by decide +kernel
/-- a sort that is a word's -/
theorem so_m (i : Nat) {k : Nat} (hk : k < 22) : sortS (byteF t n) (tkL t n L0 i) = nI (200 + k) ↔ ((tkL t n L0 i).2.2.1 = 2 ∧ matchW (byteF t n) (cI (tkL t n L0 i).2.1) (cI (tkL t n L0 i).1) (wdL k) = true) := by
  by_cases h2 : (tkL t n L0 i).2.2.1 = 2
  · have e : sortS (byteF t n) (tkL t n L0 i) = sortW (byteF t n) (cI (tkL t n L0 i).2.1) (cI (tkL t n L0 i).1) 22 := by
      unfold sortS
      rw [h2, if_neg (by decide), if_neg (by decide), if_pos rfl]
    rw [e]
    constructor
    · intro h
      refine ⟨h2, ?_⟩
      rcases sortW_or (B := byteF t n) (p := cI (tkL t n L0 i).2.1) (q := cI (tkL t n L0 i).1) 22 (Nat.le_refl _) with z | ⟨j, z1, z2, z3⟩
      · rw [z] at h
        have := congrArg Int32.toInt h
        rw [nI_t (by omega)] at this
        have e3 : (302 : Int32).toInt = 302 := rfl
        omega
      · have := congrArg Int32.toInt (z3.symm.trans h)
        rw [nI_t (by omega), nI_t (by omega)] at this
        rw [← show j = k by omega]
        exact z2
    · intro h
      exact sortW_hit h.2 22 (Nat.le_refl _) hk
  · constructor
    · intro h
      rw [sortS_v h2] at h
      exact absurd h (sgV_w _ (tk_k i) h2 k hk)
    · intro h
      exact absurd h.1 h2
/-- a sort that is a sign's -/
theorem so_c (i : Nat) {c v : Int32} (h2 : ¬ v = 2) (hc : ¬ c = 302 ∧ ∀ k, k < 22 → ¬ c = nI (200 + k)) (hv : ∀ x ∈ kindL, ¬ x = 2 → (sgV x = c ↔ x = v)) : sortS (byteF t n) (tkL t n L0 i) = c ↔ (tkL t n L0 i).2.2.1 = v := by
  by_cases k2 : (tkL t n L0 i).2.2.1 = 2
  · have e : sortS (byteF t n) (tkL t n L0 i) = sortW (byteF t n) (cI (tkL t n L0 i).2.1) (cI (tkL t n L0 i).1) 22 := by
      unfold sortS
      rw [k2, if_neg (by decide), if_neg (by decide), if_pos rfl]
    rw [e, k2]
    constructor
    · intro h
      rcases sortW_or (B := byteF t n) (p := cI (tkL t n L0 i).2.1) (q := cI (tkL t n L0 i).1) 22 (Nat.le_refl _) with z | ⟨j, z1, z2, z3⟩
      · exact absurd (h.symm.trans z) hc.1
      · exact absurd (h.symm.trans z3) (hc.2 j z1)
    · intro h
      exact absurd h.symm h2
  · rw [sortS_v k2]
    exact hv _ (tk_k i) k2
/-- a short word's sort is the model's test -/
theorem so_w (hn : n ≤ 300) (i : Nat) {k : Nat} (hk : k < 22) (h6 : (wdL k).length ≤ 6) {x : Int64} (hx : x = lN (lwN (wdF k) 0 (wdL k).length)) : sortS (byteF t n) (tkL t n L0 i) = nI (200 + k) ↔ isWd (tkL t n L0 i) x = true := by
  rw [so_m i hk]
  unfold isWd
  rw [Bool.and_eq_true_iff, decide_eq_true_eq, decide_eq_true_eq]
  constructor
  · intro h
    exact ⟨h.1, (isWd_m hn i hk h6 hx h.1).mpr h.2⟩
  · intro h
    exact ⟨h.1, (isWd_m hn i hk h6 hx h.1).mp h.2⟩
theorem so_l (hn : n ≤ 300) (i : Nat) {k : Nat} (hk : k < 22) (h7 : (wdL k).length = 7) {f g : Int64} (hf : f = lN (lwN (wdF k) 0 4)) (hg : g = lN (lwN (wdF k) 4 3)) : sortS (byteF t n) (tkL t n L0 i) = nI (200 + k) ↔ isLongF (byteF t n) (tkL t n L0 i) (cI (tkL t n L0 i).2.1) f g = true := by
  rw [so_m i hk]
  constructor
  · intro h
    exact (long_m hn i hk h7 hf hg h.1).mpr h.2
  · intro h
    have h2 := of_decide_eq_true (Bool.and_eq_true_iff.mp h).1
    exact ⟨h2, (long_m hn i hk h7 hf hg h2).mp h⟩
/-- the name of a token -/
theorem nm_tk (hn : n ≤ 300) (i : Nat) : nmT (sortS (byteF t n) (tkL t n L0 i)) = nmK (byteF t n) (tkL t n L0) i := by
  unfold nmT nmK nameF
  by_cases h2 : (tkL t n L0 i).2.2.1 = 2
  · rw [if_pos h2]
    have e0 : (sortS (byteF t n) (tkL t n L0 i) = 208) = ((tkL t n L0 i).2.2.2.2 = w3F 100 97 121) := propext ((so_m i (k := 8) (by decide)).trans ((and_iff_right h2).trans (isWd_m hn i (by decide) (by decide) (by decide +kernel) h2).symm))
    have e1 : (sortS (byteF t n) (tkL t n L0 i) = 218) = ((tkL t n L0 i).2.2.2.2 = w4F 100 97 116 101) := propext ((so_m i (k := 18) (by decide)).trans ((and_iff_right h2).trans (isWd_m hn i (by decide) (by decide) (by decide +kernel) h2).symm))
    have e2 : (sortS (byteF t n) (tkL t n L0 i) = 203) = ((tkL t n L0 i).2.2.2.2 = w5F 104 111 117 115 101) := propext ((so_m i (k := 3) (by decide)).trans ((and_iff_right h2).trans (isWd_m hn i (by decide) (by decide) (by decide +kernel) h2).symm))
    have e3 : (sortS (byteF t n) (tkL t n L0 i) = 209) = ((tkL t n L0 i).2.2.2.2 = w5F 112 117 114 115 101) := propext ((so_m i (k := 9) (by decide)).trans ((and_iff_right h2).trans (isWd_m hn i (by decide) (by decide) (by decide +kernel) h2).symm))
    have e4 : (sortS (byteF t n) (tkL t n L0 i) = 210) = (isFrF (byteF t n) (tkL t n L0 i) (cI (tkL t n L0 i).2.1) = true) := propext (so_l hn i (k := 10) (by decide) (by decide) (by decide +kernel) (by decide +kernel))
    have e5 : (sortS (byteF t n) (tkL t n L0 i) = 219) = ((tkL t n L0 i).2.2.2.2 = w4F 100 97 121 115) := propext ((so_m i (k := 19) (by decide)).trans ((and_iff_right h2).trans (isWd_m hn i (by decide) (by decide) (by decide +kernel) h2).symm))
    have e6 : (sortS (byteF t n) (tkL t n L0 i) = 220) = ((tkL t n L0 i).2.2.2.2 = w4F 111 112 101 110) := propext ((so_m i (k := 20) (by decide)).trans ((and_iff_right h2).trans (isWd_m hn i (by decide) (by decide) (by decide +kernel) h2).symm))
    have e7 : (sortS (byteF t n) (tkL t n L0 i) = 221) = ((tkL t n L0 i).2.2.2.2 = w6F 98 101 115 105 100 101) := propext ((so_m i (k := 21) (by decide)).trans ((and_iff_right h2).trans (isWd_m hn i (by decide) (by decide) (by decide +kernel) h2).symm))
    simp only [e0, e1, e2, e3, e4, e5, e6, e7]
  · have z : ∀ k, k < 22 → ¬ sortS (byteF t n) (tkL t n L0 i) = nI (200 + k) := fun k hk h => h2 ((so_m i hk).mp h).1
    exact (if_neg (z 8 (by decide))).trans ((if_neg (z 18 (by decide))).trans ((if_neg (z 3 (by decide))).trans ((if_neg (z 9 (by decide))).trans ((if_neg (z 10 (by decide))).trans ((if_neg (z 19 (by decide))).trans ((if_neg (z 20 (by decide))).trans ((if_neg (z 21 (by decide))).trans (if_neg h2).symm)))))))
end WRD
