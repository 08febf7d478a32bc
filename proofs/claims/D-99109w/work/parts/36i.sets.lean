/-! SETS: how many sets a house may have: all of them gone through, and binomials (by hand) -/
set_option maxRecDepth 100000
def okC (W O x : Int32) : Nat := if okS W O x = true then 1 else 0
def cF (W O : Int32) : Nat → Nat → Nat → Int32 → Nat
  | _, 0, _, S => okC W O S
  | 0, _ + 1, _, _ => 0
  | n + 1, m + 1, p, S => cF W O n m (p + 1) (S ||| bit (nI p)) + cF W O n (m + 1) (p + 1) S
def gF (W O : Int32) : Nat → Nat → Nat → Nat
  | 0, _, m => if m = 0 then 1 else 0
  | n + 1, p, m => (if tb O p = true ∨ m = 0 then 0 else gF W O n (p + 1) (m - 1)) + (if tb W p = true then 0 else gF W O n (p + 1) m)
theorem okS_iff {W O x : Int32} : okS W O x = true ↔ (∀ i, tb W i = true → tb x i = true) ∧ ∀ i, tb O i = true → tb x i = false := by
  unfold okS
  rw [Bool.and_eq_true, decide_eq_true_eq, decide_eq_true_eq, zero_tb, zero_tb]
  refine and_congr ?_ ?_
  · constructor
    · intro h i hi
      by_cases z : i < 32
      · have q := h i z
        rw [tb_andn, hi, Bool.true_and] at q
        cases y : tb x i
        · rw [y] at q; exact absurd q (by decide)
        · rfl
      · rw [tb_ge (by omega)] at hi; exact Bool.noConfusion hi
    · intro h i _
      rw [tb_andn]
      cases y : tb W i
      · rfl
      · rw [h i y]; rfl
  · constructor
    · intro h i hi
      by_cases z : i < 32
      · have q := h i z
        rw [tb_and, hi, Bool.true_and] at q
        exact q
      · exact tb_ge (by omega)
    · intro h i _
      rw [tb_and]
      cases y : tb O i
      · rfl
      · rw [h i y]; rfl
theorem okS_with {W O x : Int32} {d : Nat} (hd : d < 32) : okS (W ||| bit (nI d)) O x = (okS W O x && tb x d) := by
  rw [Bool.eq_iff_iff, Bool.and_eq_true, okS_iff, okS_iff]
  constructor
  · rintro ⟨h1, h2⟩
    exact ⟨⟨fun i hi => h1 i (by rw [tb_or, hi]; rfl), h2⟩, h1 d (by rw [tb_or, tb_bit hd]; simp)⟩
  · rintro ⟨⟨h1, h2⟩, h3⟩
    refine ⟨fun i hi => ?_, h2⟩
    rw [tb_or, tb_bit hd, Bool.or_eq_true, decide_eq_true_eq] at hi
    rcases hi with z | z
    · exact h1 i z
    · subst z; exact h3
/-- what is known of the counts at hand -/
def Tq (q : Cq) (c : Nat) (u : Nat → Nat) : Prop := q.1 = nI c ∧ (∀ d, d < 20 → q.2.2 d = nI (u d) ∧ u d ≤ c ∧ tb q.2.1 d = decide (u d = c)) ∧ ∀ d, 20 ≤ d → tb q.2.1 d = false
theorem Tq.cnt {W O : Int32} {q : Cq} {c : Nat} {u : Nat → Nat} (h : Tq q c u) (x : Int32) : Tq (cntS W O q x) (c + okC W O x) (fun d => u d + okC (W ||| bit (nI d)) O x) := by
  obtain ⟨h1, h2, h3⟩ := h
  unfold cntS
  cases ho : okS W O x
  · rw [if_neg (by decide)]
    have e0 : okC W O x = 0 := by unfold okC; rw [ho]; rfl
    have e1 : ∀ d, d < 20 → okC (W ||| bit (nI d)) O x = 0 := fun d hd => by
      unfold okC
      rw [okS_with (by omega), ho]; rfl
    rw [e0]
    refine ⟨h1, fun d hd => ?_, h3⟩
    simp only [e1 d hd, Nat.add_zero]
    exact h2 d hd
  · rw [if_pos rfl]
    have e0 : okC W O x = 1 := by unfold okC; rw [ho]; rfl
    have e1 : ∀ d, d < 20 → okC (W ||| bit (nI d)) O x = (tb x d).toNat := fun d hd => by
      unfold okC
      rw [okS_with (by omega), ho, Bool.true_and]
      cases tb x d <;> rfl
    rw [e0]
    refine ⟨by rw [← nI_1, ← h1], fun d hd => ?_, fun d hd => ?_⟩
    · obtain ⟨p1, p2, p3⟩ := h2 d hd
      simp only [e1 d hd]
      refine ⟨?_, ?_, ?_⟩
      · unfold addW
        rw [if_pos hd, p1]
        have e : x >>> (nI d &&& 31) &&& 1 = b2i (tb x d) := by
          rw [← has_tb (by omega)]
          exact shut_b x (nI d)
        rw [e]
        cases tb x d
        · show nI (u d) + 0 = _; rw [Int32.add_zero]; rfl
        · exact nI_1 _
      · cases tb x d
        · show u d + 0 ≤ _; omega
        · show u d + 1 ≤ _; omega
      · rw [tb_and, p3]
        cases tb x d
        · rw [Bool.and_false]; exact (decide_eq_false (by show ¬ u d + 0 = c + 1; omega)).symm
        · rw [Bool.and_true]
          show decide (u d = c) = decide (u d + 1 = c + 1)
          exact decide_eq_decide.mpr (by omega)
    · rw [tb_and, h3 d hd]; rfl
theorem foldUp_l {β : Type} {f : β → Nat → β} : ∀ (n : Nat) (b : β) (lo : Nat), foldUp f b lo (n + 1) = foldUp f (f b lo) (lo + 1) n
  | 0, _, _ => rfl
  | n + 1, b, lo => by
    show f (foldUp f b lo (n + 1)) (lo + (n + 1)) = f (foldUp f (f b lo) (lo + 1) n) (lo + 1 + n)
    rw [foldUp_l n b lo, show lo + (n + 1) = lo + 1 + n by omega]
theorem lvl {W O : Int32} {G : Cq → Nat → Cq} {m : Nat} {S : Int32} (hG : ∀ n x q c u, x + n + 1 = 20 → Tq q c u → Tq (G q x) (c + cF W O n m (x + 1) (S ||| bit (nI x))) (fun d => u d + cF (W ||| bit (nI d)) O n m (x + 1) (S ||| bit (nI x)))) : ∀ n p q c u, p + n = 20 → Tq q c u → Tq (foldUp G q p n) (c + cF W O n (m + 1) p S) (fun d => u d + cF (W ||| bit (nI d)) O n (m + 1) p S)
  | 0, p, q, c, u, _, h => h
  | n + 1, p, q, c, u, hp, h => by
    rw [foldUp_l]
    have q1 := lvl hG n (p + 1) _ _ _ (by omega) (hG n p q c u (by omega) h)
    have e1 : c + cF W O (n + 1) (m + 1) p S = c + cF W O n m (p + 1) (S ||| bit (nI p)) + cF W O n (m + 1) (p + 1) S := by
      show c + (cF W O n m (p + 1) (S ||| bit (nI p)) + cF W O n (m + 1) (p + 1) S) = _
      omega
    have e2 : (fun d => u d + cF (W ||| bit (nI d)) O (n + 1) (m + 1) p S) = fun d => u d + cF (W ||| bit (nI d)) O n m (p + 1) (S ||| bit (nI p)) + cF (W ||| bit (nI d)) O n (m + 1) (p + 1) S := funext fun d => by
      show u d + (cF (W ||| bit (nI d)) O n m (p + 1) (S ||| bit (nI p)) + cF (W ||| bit (nI d)) O n (m + 1) (p + 1) S) = _
      omega
    rw [e1, e2]
    exact q1
theorem cF_0 {W O : Int32} {n p : Nat} {S : Int32} : cF W O n 0 p S = okC W O S := by cases n <;> rfl
theorem lv1 {W O S : Int32} {G : Cq → Nat → Cq} (hG : ∀ q x, G q x = cntS W O q (S ||| bit (nI x))) : ∀ n p q c u, p + n = 20 → Tq q c u → Tq (foldUp G q p n) (c + cF W O n 1 p S) (fun d => u d + cF (W ||| bit (nI d)) O n 1 p S) := lvl (fun n x q c u _ h => by
  have k := h.cnt (W := W) (O := O) (S ||| bit (nI x))
  rw [hG, cF_0]
  have e : (fun d => u d + cF (W ||| bit (nI d)) O n 0 (x + 1) (S ||| bit (nI x))) = fun d => u d + okC (W ||| bit (nI d)) O (S ||| bit (nI x)) := funext fun d => by rw [cF_0]
  rw [e]
  exact k)
theorem setsM_T {W O : Int32} {m : Nat} (h1 : 1 ≤ m) (h3 : m ≤ 3) {q : Cq} {c : Nat} {u : Nat → Nat} (h : Tq q c u) : Tq (setsM W O (nI m) q) (c + cF W O 20 m 0 0) (fun d => u d + cF (W ||| bit (nI d)) O 20 m 0 0) := by
  have hm : m = 1 ∨ m = 2 ∨ m = 3 := by omega
  rcases hm with rfl | rfl | rfl
  · exact lv1 (fun q x => by rw [zero_or']) 20 0 q c u rfl h
  · refine lvl (m := 1) (S := 0) (G := fun q x => foldUp (fun q y => cntS W O q (bit (nI x) ||| bit (nI y))) q (x + 1) (19 - x)) (fun n x q c u hn hq => ?_) 20 0 q c u rfl h
    rw [zero_or', show n = 19 - x by omega]
    exact lv1 (fun q y => rfl) (19 - x) (x + 1) q c u (by omega) hq
  · refine lvl (m := 2) (S := 0) (G := fun q x => foldUp (fun q y => foldUp (fun q u => cntS W O q (bit (nI x) ||| bit (nI y) ||| bit (nI u))) q (y + 1) (19 - y)) q (x + 1) (19 - x)) (fun n x q c u hn hq => ?_) 20 0 q c u rfl h
    rw [zero_or', show n = 19 - x by omega]
    refine lvl (m := 1) (S := bit (nI x)) (G := fun q y => foldUp (fun q u => cntS W O q (bit (nI x) ||| bit (nI y) ||| bit (nI u))) q (y + 1) (19 - y)) (fun n y q c u hn hq => ?_) (19 - x) (x + 1) q c u (by omega) hq
    rw [show n = 19 - y by omega]
    exact lv1 (fun q u => rfl) (19 - y) (y + 1) q c u (by omega) hq
/-! the count itself -/
def okP (W O : Int32) (p : Nat) (S : Int32) : Prop := ∀ i, i < p → (tb W i = true → tb S i = true) ∧ (tb O i = true → tb S i = false)
theorem okP_s {W O S : Int32} {p : Nat} (hS : tb S p = false) : okP W O (p + 1) S ↔ okP W O p S ∧ tb W p = false := by
  constructor
  · intro h
    refine ⟨fun i hi => h i (by omega), ?_⟩
    cases z : tb W p
    · rfl
    · have := (h p (by omega)).1 z
      rw [hS] at this; exact this.symm
  · rintro ⟨h1, h2⟩ i hi
    by_cases z : i = p
    · subst z; rw [h2, hS]; exact ⟨fun q => Bool.noConfusion q, fun _ => rfl⟩
    · exact h1 i (by omega)
theorem okP_t {W O S : Int32} {p : Nat} (hp : p < 20) : okP W O (p + 1) (S ||| bit (nI p)) ↔ okP W O p S ∧ tb O p = false := by
  have e : ∀ i, i < p → tb (S ||| bit (nI p)) i = tb S i := fun i hi => by
    rw [tb_or, tb_bit (by omega), decide_eq_false (by omega), Bool.or_false]
  have ep : tb (S ||| bit (nI p)) p = true := by rw [tb_or, tb_bit (by omega)]; simp
  constructor
  · intro h
    refine ⟨fun i hi => by rw [← e i hi]; exact h i (by omega), ?_⟩
    cases z : tb O p
    · rfl
    · have := (h p (by omega)).2 z
      rw [ep] at this; exact this
  · rintro ⟨h1, h2⟩ i hi
    by_cases z : i = p
    · subst z; rw [h2, ep]; exact ⟨fun _ => rfl, fun q => Bool.noConfusion q⟩
    · rw [e i (by omega)]; exact h1 i (by omega)
theorem cF_g {W O : Int32} (hW : ∀ i, 20 ≤ i → tb W i = false) : ∀ (n m p : Nat) (S : Int32), p + n = 20 → (∀ i, p ≤ i → tb S i = false) → (okP W O p S → cF W O n m p S = gF W O n p m) ∧ (¬ okP W O p S → cF W O n m p S = 0)
  | 0, 0, p, S, hp, hS => by
    have e : okS W O S = true ↔ okP W O p S := by
      rw [okS_iff]
      constructor
      · rintro ⟨h1, h2⟩ i _
        exact ⟨h1 i, h2 i⟩
      · intro h
        refine ⟨fun i hi => ?_, fun i hi => ?_⟩
        · by_cases z : i < p
          · exact (h i z).1 hi
          · rw [hW i (by omega)] at hi; exact Bool.noConfusion hi
        · by_cases z : i < p
          · exact (h i z).2 hi
          · exact hS i (by omega)
    refine ⟨fun h => ?_, fun h => ?_⟩
    · show okC W O S = 1
      unfold okC; rw [if_pos (e.mpr h)]
    · show okC W O S = 0
      unfold okC; rw [if_neg (fun q => h (e.mp q))]
  | 0, m + 1, p, S, _, _ => ⟨fun _ => rfl, fun _ => rfl⟩
  | n + 1, 0, p, S, hp, hS => by
    obtain ⟨i1, i2⟩ := cF_g hW n 0 (p + 1) S (by omega) (fun i hi => hS i (by omega))
    have e : cF W O (n + 1) 0 p S = cF W O n 0 (p + 1) S := by rw [cF_0, cF_0]
    have eg : gF W O (n + 1) p 0 = 0 + (if tb W p = true then 0 else gF W O n (p + 1) 0) := by
      show (if tb O p = true ∨ 0 = 0 then 0 else _) + _ = _
      rw [if_pos (Or.inr rfl)]
    have ho := okP_s (W := W) (O := O) (S := S) (p := p) (hS p (Nat.le_refl _))
    rw [e, eg]
    refine ⟨fun h => ?_, fun h => i2 (fun q => h (ho.mp q).1)⟩
    cases z : tb W p
    · rw [i1 (ho.mpr ⟨h, z⟩), if_neg (by decide)]; omega
    · rw [i2 (fun q => by have := (ho.mp q).2; rw [z] at this; exact Bool.noConfusion this), if_pos rfl]
  | n + 1, m + 1, p, S, hp, hS => by
    obtain ⟨i1, i2⟩ := cF_g hW n (m + 1) (p + 1) S (by omega) (fun i hi => hS i (by omega))
    obtain ⟨j1, j2⟩ := cF_g hW n m (p + 1) (S ||| bit (nI p)) (by omega) (fun i hi => by rw [tb_or, hS i (by omega), tb_bit (by omega)]; simp; omega)
    have e : cF W O (n + 1) (m + 1) p S = cF W O n m (p + 1) (S ||| bit (nI p)) + cF W O n (m + 1) (p + 1) S := rfl
    have eg : gF W O (n + 1) p (m + 1) = (if tb O p = true then 0 else gF W O n (p + 1) m) + (if tb W p = true then 0 else gF W O n (p + 1) (m + 1)) := by
      show (if tb O p = true ∨ m + 1 = 0 then 0 else _) + _ = _
      congr 1
      by_cases z : tb O p = true
      · rw [if_pos (Or.inl z), if_pos z]
      · rw [if_neg (by simp [z]), if_neg z]; rfl
    have ho := okP_s (W := W) (O := O) (S := S) (p := p) (hS p (Nat.le_refl _))
    have ht := okP_t (W := W) (O := O) (S := S) (p := p) (by omega)
    rw [e, eg]
    refine ⟨fun h => ?_, fun h => by rw [i2 (fun q => h (ho.mp q).1), j2 (fun q => h (ht.mp q).1)]⟩
    congr 1
    · cases z : tb O p
      · rw [j1 (ht.mpr ⟨h, z⟩), if_neg (by decide)]
      · rw [j2 (fun q => by have := (ht.mp q).2; rw [z] at this; exact Bool.noConfusion this), if_pos rfl]
    · cases z : tb W p
      · rw [i1 (ho.mpr ⟨h, z⟩), if_neg (by decide)]
      · rw [i2 (fun q => by have := (ho.mp q).2; rw [z] at this; exact Bool.noConfusion this), if_pos rfl]
def rC (x : Int32) : Nat → Nat → Nat
  | 0, _ => 0
  | n + 1, p => (tb x p).toNat + rC x n (p + 1)
def ch : Nat → Nat → Nat
  | _, 0 => 1
  | 0, _ + 1 => 0
  | n + 1, k + 1 => ch n k + ch n (k + 1)
theorem ch_0 (n : Nat) : ch n 0 = 1 := by cases n <;> rfl
theorem rC_le {W O : Int32} (hd : ∀ i, ¬ (tb W i = true ∧ tb O i = true)) : ∀ n p, rC W n p + rC O n p ≤ n
  | 0, _ => Nat.le_refl _
  | n + 1, p => by
    have := rC_le hd n (p + 1)
    show (tb W p).toNat + rC W n (p + 1) + ((tb O p).toNat + rC O n (p + 1)) ≤ n + 1
    have h := hd p
    cases a : tb W p <;> cases b : tb O p <;> first | (simp; omega) | exact absurd ⟨a, b⟩ h
theorem gF_c {W O : Int32} (hd : ∀ i, ¬ (tb W i = true ∧ tb O i = true)) : ∀ n p m, gF W O n p m = if rC W n p ≤ m then ch (n - rC W n p - rC O n p) (m - rC W n p) else 0
  | 0, p, m => by
    show (if m = 0 then 1 else 0) = if 0 ≤ m then ch 0 (m - 0) else 0
    rw [if_pos (Nat.zero_le _)]
    cases m <;> rfl
  | n + 1, p, m => by
    have i1 := gF_c hd n (p + 1)
    have hl := rC_le hd n (p + 1)
    have h := hd p
    have eW : rC W (n + 1) p = (tb W p).toNat + rC W n (p + 1) := rfl
    have eO : rC O (n + 1) p = (tb O p).toNat + rC O n (p + 1) := rfl
    have eg : gF W O (n + 1) p m = (if tb O p = true ∨ m = 0 then 0 else gF W O n (p + 1) (m - 1)) + (if tb W p = true then 0 else gF W O n (p + 1) m) := rfl
    rw [eg, i1, i1, eW, eO]
    generalize rC W n (p + 1) = w at *
    generalize rC O n (p + 1) = o at *
    cases a : tb W p <;> cases b : tb O p
    · rw [if_neg (show ¬ (false = true) by decide)]
      show (if false = true ∨ m = 0 then 0 else _) + _ = if 0 + w ≤ m then ch (n + 1 - (0 + w) - (0 + o)) (m - (0 + w)) else 0
      rw [Nat.zero_add, Nat.zero_add]
      by_cases m0 : m = 0
      · subst m0
        rw [if_pos (Or.inr rfl)]
        by_cases hw : w ≤ 0
        · rw [if_pos hw, if_pos hw, show w = 0 by omega, ch_0, ch_0]
        · rw [if_neg hw, if_neg hw]
      · rw [if_neg (by simp [m0])]
        by_cases hw : w ≤ m
        · rw [if_pos hw, if_pos hw]
          by_cases hw2 : w ≤ m - 1
          · rw [if_pos hw2, show n + 1 - w - o = (n - w - o) + 1 by omega, show m - w = (m - 1 - w) + 1 by omega]
            rfl
          · rw [if_neg hw2, show m - w = 0 by omega, ch_0, ch_0]
        · rw [if_neg hw, if_neg hw, if_neg (by omega)]
    · rw [if_neg (show ¬ (false = true) by decide), if_pos (Or.inl rfl)]
      show 0 + _ = if 0 + w ≤ m then ch (n + 1 - (0 + w) - (1 + o)) (m - (0 + w)) else 0
      rw [Nat.zero_add, Nat.zero_add, show n + 1 - w - (1 + o) = n - w - o by omega]
    · rw [if_pos rfl]
      show (if false = true ∨ m = 0 then 0 else _) + 0 = if 1 + w ≤ m then ch (n + 1 - (1 + w) - (0 + o)) (m - (1 + w)) else 0
      by_cases m0 : m = 0
      · subst m0
        rw [if_pos (Or.inr rfl), if_neg (by omega)]
      · rw [if_neg (by simp [m0]), Nat.add_zero, Nat.zero_add]
        by_cases hw : w ≤ m - 1
        · rw [if_pos hw, if_pos (by omega), show n + 1 - (1 + w) - o = n - w - o by omega, show m - (1 + w) = m - 1 - w by omega]
        · rw [if_neg hw, if_neg (by omega)]
    · exact absurd ⟨a, b⟩ h
theorem gF_z {W O : Int32} : ∀ n p m, (∃ i, p ≤ i ∧ i < p + n ∧ tb W i = true ∧ tb O i = true) → gF W O n p m = 0
  | 0, p, m, ⟨i, h1, h2, _⟩ => by omega
  | n + 1, p, m, ⟨i, h1, h2, h3, h4⟩ => by
    show (if tb O p = true ∨ m = 0 then 0 else gF W O n (p + 1) (m - 1)) + (if tb W p = true then 0 else gF W O n (p + 1) m) = 0
    by_cases z : i = p
    · subst z; rw [if_pos (Or.inl h4), if_pos h3]
    · have ih := fun m => gF_z (W := W) (O := O) n (p + 1) m ⟨i, by omega, by omega, h3, h4⟩
      rw [ih, ih, ite_self, ite_self]
theorem rC_s (x : Int32) : ∀ n p, rC x (n + 1) p = rC x n p + (tb x (p + n)).toNat
  | 0, p => by
    show (tb x p).toNat + 0 = 0 + (tb x (p + 0)).toNat
    rw [Nat.add_zero, Nat.zero_add]
    rfl
  | n + 1, p => by
    show (tb x p).toNat + rC x (n + 1) (p + 1) = (tb x p).toNat + rC x n (p + 1) + (tb x (p + (n + 1))).toNat
    rw [rC_s x n (p + 1), show p + (n + 1) = p + 1 + n by omega]
    omega
theorem rC_cB (x : Int32) : ∀ n, rC x n 0 = cB x n
  | 0 => rfl
  | n + 1 => by
    rw [rC_s, rC_cB x n, Nat.zero_add]
    rfl
theorem cB_hi {x : Int32} (h : ∀ i, 20 ≤ i → tb x i = false) : ∀ n, cB x (20 + n) = cB x 20
  | 0 => rfl
  | n + 1 => by
    show cB x (20 + n) + (tb x (20 + n)).toNat = _
    rw [cB_hi h n, h _ (by omega)]
    rfl
theorem pcN_rC {x : Int32} (h : ∀ i, 20 ≤ i → tb x i = false) : pcN x = rC x 20 0 := by
  rw [pcN_cB, show (32 : Nat) = 20 + 12 from rfl, cB_hi h, rC_cB]
theorem cB_orD {W O : Int32} (hd : ∀ i, ¬ (tb W i = true ∧ tb O i = true)) : ∀ n, cB (W ||| O) n = cB W n + cB O n
  | 0 => rfl
  | n + 1 => by
    have ih := cB_orD hd n
    show cB (W ||| O) n + (tb (W ||| O) n).toNat = cB W n + (tb W n).toNat + (cB O n + (tb O n).toNat)
    rw [ih, tb_or]
    have h := hd n
    cases a : tb W n
    · cases b : tb O n <;> simp <;> omega
    · cases b : tb O n
      · simp; omega
      · exact absurd ⟨a, b⟩ h
theorem ways_ch : ∀ f, f < 21 → ∀ j, j < 4 → waysI 4 (nI f) (nI j) = nI (ch f j) := by decide
theorem ch_le : ∀ f, f < 21 → ∀ j, j < 4 → ch f j ≤ 1140 := by decide
theorem disj {W O : Int32} : (W &&& O = 0) ↔ ∀ i, ¬ (tb W i = true ∧ tb O i = true) := by
  rw [zero_tb]
  constructor
  · rintro h i ⟨a, b⟩
    by_cases z : i < 32
    · have := h i z
      rw [tb_and, a, b] at this; exact Bool.noConfusion this
    · rw [tb_ge (by omega)] at a; exact Bool.noConfusion a
  · intro h i _
    rw [tb_and]
    cases a : tb W i
    · rfl
    · cases b : tb O i
      · rfl
      · exact absurd ⟨a, b⟩ (h i)
/-- the system's count is the model's -/
theorem setsW_c {W O : Int32} (hW : ∀ i, 20 ≤ i → tb W i = false) (hO : ∀ i, 20 ≤ i → tb O i = false) {m : Nat} (h1 : 1 ≤ m) (h3 : m ≤ 3) : setsW W O (nI m) = nI (cF W O 20 m 0 0) ∧ cF W O 20 m 0 0 ≤ 1140 := by
  have e := (cF_g (O := O) hW 20 m 0 0 rfl (fun i _ => tb_0)).1 (fun i hi => absurd hi (Nat.not_lt_zero i))
  rw [e]
  unfold setsW
  by_cases hd : W &&& O = 0
  · have hdd := disj.mp hd
    have hl := rC_le hdd 20 0
    have eg := gF_c hdd 20 0 m
    have eb1 : bcI (W ||| O) = nI (rC W 20 0 + rC O 20 0) := by
      rw [bcI_bits]
      unfold bitsI
      rw [pcN_cB, cB_orD hdd, ← pcN_cB, ← pcN_cB, pcN_rC hW, pcN_rC hO]
    have eb2 : bcI W = nI (rC W 20 0) := by
      rw [bcI_bits]
      unfold bitsI
      rw [pcN_rC hW]
    rw [if_pos hd, eb1, eb2, show (20 : Int32) = nI 20 from rfl, pk_sub hl, eg, show 20 - (rC W 20 0 + rC O 20 0) = 20 - rC W 20 0 - rC O 20 0 by omega]
    by_cases hw : rC W 20 0 ≤ m
    · rw [if_pos hw, pk_sub hw]
      exact ⟨ways_ch _ (by omega) _ (by omega), ch_le _ (by omega) _ (by omega)⟩
    · rw [if_neg hw]
      refine ⟨?_, Nat.zero_le _⟩
      rw [waysE, if_pos (pk_sneg (by omega) (by omega))]
      rfl
  · rw [if_neg hd]
    have : ∃ i, tb W i = true ∧ tb O i = true := Classical.byContradiction fun q => hd (disj.mpr fun i z => q ⟨i, z⟩)
    obtain ⟨i, a, b⟩ := this
    have hi : i < 20 := by
      rcases Nat.lt_or_ge i 20 with z | z
      · exact z
      · rw [hW i z] at a; exact Bool.noConfusion a
    rw [gF_z 20 0 m ⟨i, by omega, by omega, a, b⟩]
    exact ⟨rfl, by decide⟩
/-! the dates that were seen, on both sides -/
section DAT
variable {b : Bw} {e : Ew} {h : Int32}
theorem bookP_eq (hs : ∀ i, i < b.n → b.s i = 0 ∨ b.s i = 1) : ∀ n, n ≤ b.n → bookP b h (0, 0) n = (bookS b h 1 n, bookS b h 0 n)
  | 0, _ => rfl
  | n + 1, hn => by
    have ih := bookP_eq hs n (by omega)
    have e1 : bookP b h (0, 0) (n + 1) = if b.h n = h then noteP (bookP b h (0, 0) n) (b.d n % 20) (b.s n) else bookP b h (0, 0) n := rfl
    have e2 : ∀ z, bookS b h z (n + 1) = bookS b h z n ||| (if b.h n = h ∧ b.s n = z then bit (b.d n % 20) else 0) := fun z => rfl
    rw [e1, e2, e2, ih]
    by_cases hh : b.h n = h
    · rw [if_pos hh]
      rcases hs n (by omega) with z | z
      · rw [z, if_neg (fun q => absurd q.2 (by decide)), if_pos ⟨hh, rfl⟩, or_zero']; rfl
      · rw [z, if_pos ⟨hh, rfl⟩, if_neg (fun q => absurd q.2 (by decide)), or_zero']; rfl
    · rw [if_neg hh, if_neg (fun q => hh q.1), if_neg (fun q => hh q.1), or_zero', or_zero']
theorem seenP_eq (hs : ∀ i, i < e.n → e.s i = 0 ∨ e.s i = 1) (x y : Int32) : ∀ n, n ≤ e.n → seenP e h (x, y) n = (orAcc x (fun i => if e.h i = h ∧ e.s i = 1 then bit (e.d i) else 0) n, orAcc y (fun i => if e.h i = h ∧ e.s i = 0 then bit (e.d i) else 0) n)
  | 0, _ => rfl
  | n + 1, hn => by
    have ih := seenP_eq hs x y n (by omega)
    have e1 : seenP e h (x, y) (n + 1) = if e.h n = h then noteP (seenP e h (x, y) n) (e.d n) (e.s n) else seenP e h (x, y) n := rfl
    rw [e1, orAcc_s, orAcc_s, ih]
    by_cases hh : e.h n = h
    · rw [if_pos hh]
      rcases hs n (by omega) with z | z
      · rw [z, if_neg (fun q => absurd q.2 (by decide)), if_pos ⟨hh, rfl⟩, or_zero']; rfl
      · rw [z, if_pos ⟨hh, rfl⟩, if_neg (fun q => absurd q.2 (by decide)), or_zero']; rfl
    · rw [if_neg hh, if_neg (fun q => hh q.1), if_neg (fun q => hh q.1), or_zero', or_zero']
theorem datesP_eq (hb : ∀ i, i < b.n → b.s i = 0 ∨ b.s i = 1) (he : ∀ i, i < e.n → e.s i = 0 ∨ e.s i = 1) : datesP b e h = (datesS b e h 1, datesS b e h 0) := by
  unfold datesP datesS
  rw [bookP_eq hb b.n (Nat.le_refl _), seenP_eq he _ _ e.n (Nat.le_refl _)]
  rfl
theorem datesS_hi (hb : ∀ i, i < b.n → ∃ d, d < 20 ∧ b.d i % 20 = nI d) (he : ∀ i, i < e.n → ∃ d, d < 20 ∧ e.d i = nI d) (z : Int32) : ∀ i, 20 ≤ i → tb (datesS b e h z) i = false := by
  intro i hi
  cases q : tb (datesS b e h z) i
  · rfl
  · exfalso
    rcases (tb_orAcc e.n).mp q with p | ⟨k, hk, p⟩
    · obtain ⟨k, hk, p⟩ := (tb_orUp b.n).mp p
      obtain ⟨d, hd, ed⟩ := hb k hk
      split at p
      · rw [ed, tb_bit (by omega)] at p
        have := of_decide_eq_true p
        omega
      · rw [tb_0] at p; exact Bool.noConfusion p
    · obtain ⟨d, hd, ed⟩ := he k hk
      split at p
      · rw [ed, tb_bit (by omega)] at p
        have := of_decide_eq_true p
        omega
      · rw [tb_0] at p; exact Bool.noConfusion p
end DAT
theorem tb_full : ∀ i, i < 32 → tb 1048575 i = decide (i < 20) := by decide
theorem T0 (w : Nat → Int32) : Tq ((0 : Int32), (1048575 : Int32), zero20 w) 0 (fun _ => 0) := by
  refine ⟨rfl, fun d hd => ⟨?_, Nat.le_refl _, ?_⟩, fun d hd => ?_⟩
  · show mv w 0 (fun _ => 0) 20 d = nI 0
    rw [mv_in (by omega) (by omega)]; rfl
  · show tb 1048575 d = _
    rw [tb_full d (by omega)]
    simp [hd]
  · by_cases z : d < 32
    · show tb 1048575 d = _
      rw [tb_full d z]
      exact decide_eq_false (by omega)
    · exact tb_ge (by omega)
/-- the model's sets: how many, with each date, in all of them -/
theorem setsF_all {b : Bw} {e : Ew} {h : Int32} {m : Nat} (h1 : 1 ≤ m) (h3 : m ≤ 3) (w : Nat → Int32) (hb : ∀ i, i < b.n → (b.s i = 0 ∨ b.s i = 1) ∧ ∃ d, d < 20 ∧ b.d i % 20 = nI d) (he : ∀ i, i < e.n → (e.s i = 0 ∨ e.s i = 1) ∧ ∃ d, d < 20 ∧ e.d i = nI d) : ∃ (c : Nat) (u : Nat → Nat), c ≤ 1140 ∧ (setsF b e h (nI m) w).1 = nI c ∧ setsWS b e h (nI m) 0 = nI c ∧ (∀ d, d < 20 → u d ≤ c ∧ (setsF b e h (nI m) w).2.2 d = nI (u d) ∧ setsWS b e h (nI m) (bit (nI d)) = nI (u d) ∧ tb (setsF b e h (nI m) w).2.1 d = decide (u d = c)) ∧ ∀ d, 20 ≤ d → tb (setsF b e h (nI m) w).2.1 d = false := by
  have ed := datesP_eq (h := h) (fun i hi => (hb i hi).1) (fun i hi => (he i hi).1)
  have hW := datesS_hi (h := h) (fun i hi => (hb i hi).2) (fun i hi => (he i hi).2) 1
  have hO := datesS_hi (h := h) (fun i hi => (hb i hi).2) (fun i hi => (he i hi).2) 0
  unfold setsF setsWS
  rw [ed]
  dsimp only
  generalize datesS b e h 1 = W at hW
  generalize datesS b e h 0 = O at hO
  obtain ⟨t1, t2, t3⟩ := setsM_T (W := W) (O := O) h1 h3 (T0 w)
  rw [Nat.zero_add] at t1 t2
  obtain ⟨c1, c2⟩ := setsW_c hW hO h1 h3
  refine ⟨cF W O 20 m 0 0, fun d => cF (W ||| bit (nI d)) O 20 m 0 0, c2, t1, by rw [or_zero']; exact c1, fun d hd => ?_, t3⟩
  obtain ⟨p1, p2, p3⟩ := t2 d hd
  simp only [Nat.zero_add] at p1 p2 p3
  have hWd : ∀ i, 20 ≤ i → tb (W ||| bit (nI d)) i = false := fun i hi => by
    rw [tb_or, hW i hi, tb_bit (by omega)]
    simp
    omega
  exact ⟨p2, p1, (setsW_c hWd hO h1 h3).1, p3⟩
/-- the dates in all sets -/
theorem sure_eq {b : Bw} {e : Ew} {h : Int32} {m : Nat} {A : Int32} {c : Nat} {u : Nat → Nat} (hc : c ≤ 1140) (h0 : setsWS b e h (nI m) 0 = nI c) (hu : ∀ d, d < 20 → u d ≤ c ∧ setsWS b e h (nI m) (bit (nI d)) = nI (u d) ∧ tb A d = decide (u d = c)) (hA : ∀ d, 20 ≤ d → tb A d = false) : sureS b e h (nI m) 20 = A := by
  apply tb_ext
  intro i hi
  unfold sureS
  rw [Bool.eq_iff_iff, tb_orUp]
  constructor
  · rintro ⟨k, hk, p⟩
    obtain ⟨q1, q2, q3⟩ := hu k hk
    rw [h0, q2] at p
    split at p
    · rename_i z
      rw [tb_bit (by omega)] at p
      have e : i = k := of_decide_eq_true p
      subst e
      rw [q3]
      exact decide_eq_true ((nI_eq (by omega) (by omega)).mp z)
    · rw [tb_0] at p; exact Bool.noConfusion p
  · intro p
    have hi2 : i < 20 := by
      rcases Nat.lt_or_ge i 20 with z | z
      · exact z
      · rw [hA i z] at p; exact Bool.noConfusion p
    obtain ⟨q1, q2, q3⟩ := hu i hi2
    rw [q3] at p
    refine ⟨i, hi2, ?_⟩
    rw [h0, q2, of_decide_eq_true p, if_pos rfl, tb_bit (by omega)]
    simp
/-- how far from a half -/
def farN (c x : Nat) : Nat := if c < 2 * x then 2 * x - c else c - 2 * x
theorem far_n {c x : Nat} (hc : c ≤ 1140) (hx : x ≤ c) : farI (nI c) (nI x) = nI (farN c x) ∧ absI (2 * nI x - nI c) = nI (farN c x) ∧ (farN c x < c ↔ ¬ (x = 0 ∨ x = c)) ∧ farN c x ≤ c := by
  have e2 : (2 : Int32) * nI x = nI (2 * x) := by rw [show (2 : Int32) = nI 2 from rfl, nI_mul]
  unfold farI absI farN
  rw [e2]
  by_cases z : c < 2 * x
  · rw [if_pos (nI_lt z (by omega)), if_pos z, pk_sub (by omega), if_pos (nI_pos' (by omega))]
    exact ⟨rfl, rfl, by omega, by omega⟩
  · rw [if_neg (nI_nlt (by omega) (by omega)), if_neg z, pk_sub (by omega)]
    refine ⟨rfl, ?_, by omega, by omega⟩
    by_cases y : c = 2 * x
    · rw [pk_sub (a := 2 * x) (b := c) (by omega), if_pos (nI_pos' (by omega)), show 2 * x - c = 0 by omega, show c - 2 * x = 0 by omega]
    · have hneg := pk_sneg (a := 2 * x) (b := c) (by omega) (by omega)
      rw [if_neg (Int32.not_le.mpr hneg), Int32.zero_sub, Int32.neg_sub, pk_sub (by omega)]
theorem nk_eq {c : Nat} {u : Nat → Nat} {w ws : Nat → Int32} (hc : c ≤ 1140) (hu : ∀ d, d < 20 → u d ≤ c ∧ w d = nI (u d) ∧ ws d = nI (u d)) : ∀ k, k ≤ 20 → (nkF (nI c) w k).1 = (nkS (nI c) ws k).1 ∧ (((nkS (nI c) ws k).2 = nI c ∧ (nkF (nI c) w k).2 = 1000000000) ∨ ∃ t, t < c ∧ (nkS (nI c) ws k).2 = nI t ∧ (nkF (nI c) w k).2 = nI t)
  | 0, _ => ⟨rfl, Or.inl ⟨rfl, rfl⟩⟩
  | k + 1, hk => by
    obtain ⟨i1, i2⟩ := nk_eq hc hu k (by omega)
    obtain ⟨u1, u2, u3⟩ := hu k (by omega)
    obtain ⟨f1, f2, f3, f4⟩ := far_n hc u1
    have eF : nkF (nI c) w (k + 1) = if w k = 0 ∨ w k = nI c ∨ ¬ farI (nI c) (w k) < (nkF (nI c) w k).2 then nkF (nI c) w k else (nI k, farI (nI c) (w k)) := rfl
    have eS : nkS (nI c) ws (k + 1) = if absI (2 * ws k - nI c) < (nkS (nI c) ws k).2 then (nI k, absI (2 * ws k - nI c)) else nkS (nI c) ws k := rfl
    rw [eF, eS, u2, u3, f1, f2]
    have z0 : (nI (u k) = 0) ↔ u k = 0 := nI_eq (b := 0) (by omega) (by omega)
    have zc : (nI (u k) = nI c) ↔ u k = c := nI_eq (by omega) (by omega)
    rcases i2 with ⟨s2, m2⟩ | ⟨t, ht, s2, m2⟩
    · rw [s2, m2]
      have b1 : nI (farN c (u k)) < (1000000000 : Int32) := nI_lt (b := 1000000000) (by omega) (by decide)
      by_cases z : u k = 0 ∨ u k = c
      · rw [if_pos (by rcases z with z | z; exact Or.inl (z0.mpr z); exact Or.inr (Or.inl (zc.mpr z))), if_neg (fun q => (f3.mp ((nI_ltI (by omega) (by omega)).mp q)) z)]
        exact ⟨i1, Or.inl ⟨s2, m2⟩⟩
      · rw [if_neg (fun q => by rcases q with q | q | q; exact z (Or.inl (z0.mp q)); exact z (Or.inr (zc.mp q)); exact q b1), if_pos (nI_lt (f3.mpr z) (by omega))]
        exact ⟨rfl, Or.inr ⟨_, f3.mpr z, rfl, rfl⟩⟩
    · rw [s2, m2]
      by_cases y : farN c (u k) < t
      · have z : ¬ (u k = 0 ∨ u k = c) := f3.mp (by omega)
        rw [if_neg (fun q => by rcases q with q | q | q; exact z (Or.inl (z0.mp q)); exact z (Or.inr (zc.mp q)); exact q (nI_lt y (by omega))), if_pos (nI_lt y (by omega))]
        exact ⟨rfl, Or.inr ⟨_, f3.mpr z, rfl, rfl⟩⟩
      · rw [if_pos (Or.inr (Or.inr (nI_nlt (by omega) (by omega)))), if_neg (nI_nlt (by omega) (by omega))]
        exact ⟨i1, Or.inr ⟨t, ht, s2, m2⟩⟩
