/-! VALUES: what the objects say, against the code's steps (by hand) -/
set_option maxRecDepth 100000
theorem clip_mm (v : Int64) : maxL (-1000000) (minL 1000000 v) = clipL v := by
  have h1 : (1000000 : Int64).toInt = 1000000 := rfl
  have h2 : (-1000000 : Int64).toInt = -1000000 := rfl
  unfold maxL minL clipL
  by_cases a : (1000000 : Int64) < v
  · rw [if_neg (show ¬ v < 1000000 by rw [Int64.lt_iff_toInt_lt] at a ⊢; omega), if_pos a]
    rfl
  · rw [if_neg a]
    by_cases b : v < (1000000 : Int64)
    · rw [if_pos b]
    · have e : v = 1000000 := Int64.toInt_inj.mp (by rw [Int64.lt_iff_toInt_lt] at a b; omega)
      subst e
      decide
theorem clip_0 : clipL 0 = 0 := rfl
theorem two_3 (x y : Int64) : twoL 3 x y = chOp 43 x y := by
  unfold twoL chOp
  rw [clip_mm, if_pos rfl, if_pos rfl]
theorem two_4 (x y : Int64) : twoL 4 x y = chOp 45 x y := by
  unfold twoL chOp
  rw [clip_mm, if_neg (by decide), if_pos rfl, if_neg (by decide), if_pos rfl]
theorem two_5 (x y : Int64) : twoL 5 x y = chOp 42 x y := by
  unfold twoL chOp
  rw [clip_mm, if_neg (by decide), if_neg (by decide), if_pos rfl, if_neg (by decide), if_neg (by decide), if_pos rfl]
theorem two_6 (x y : Int64) : twoL 6 x y = chOp 47 x y := by
  have h1 : twoL 6 x y = if y = 0 then 0 else clipL (x / y) := rfl
  have h2 : chOp 47 x y = maxL (-1000000) (minL 1000000 (if y = 0 then 0 else x / y)) := rfl
  rw [h1, h2, clip_mm]
  split
  · rfl
  · rfl
theorem abs_M (a : Int64) : absM a = absL a := by
  have e0 : (0 : Int64).toInt = 0 := rfl
  unfold absM absL
  by_cases p : a < 0
  · rw [if_pos p, if_neg (by rw [Int64.lt_iff_toInt_lt] at p ⊢; omega)]
  · rw [if_neg p]
    by_cases q : 0 < a
    · rw [if_pos q]
    · rw [if_neg q]
      have e : a = 0 := Int64.toInt_inj.mp (by rw [Int64.lt_iff_toInt_lt] at p q; omega)
      subst e
      decide
theorem dig_M (p w : Int64) : digM p w = digX p w := by
  unfold digM digX
  rw [abs_M w]
theorem cmp_M {x y : Int64} (hx : -1000000000000 ≤ x.toInt ∧ x.toInt ≤ 1000000000000) (hy : -1000000000000 ≤ y.toInt ∧ y.toInt ≤ 1000000000000) : askB 10 x y = cmpX 60 (x - y) ∧ askB 11 x y = cmpX 303 (x - y) ∧ askB 12 x y = cmpX 62 (x - y) ∧ askB 13 x y = cmpX 304 (x - y) ∧ askB 14 x y = cmpX 61 (x - y) ∧ askB 15 x y = cmpX 35 (x - y) := by
  have e : (x - y).toInt = x.toInt - y.toInt := by
    rw [Int64.toInt_sub]
    exact Int.bmod_eq_of_le (by omega) (by omega)
  have e0 : (0 : Int64).toInt = 0 := rfl
  have eq : (x = y) ↔ (x - y = 0) := by
    rw [← Int64.toInt_inj, ← Int64.toInt_inj, e, e0]
    omega
  have lt : (x < y) ↔ (x - y < 0) := by
    rw [Int64.lt_iff_toInt_lt, Int64.lt_iff_toInt_lt, e, e0]
    omega
  have gt : (y < x) ↔ (0 < x - y) := by
    rw [Int64.lt_iff_toInt_lt, Int64.lt_iff_toInt_lt, e, e0]
    omega
  have le : (x ≤ y) ↔ (x - y ≤ 0) := by
    rw [Int64.le_iff_toInt_le, Int64.le_iff_toInt_le, e, e0]
    omega
  have ge : (y ≤ x) ↔ (0 ≤ x - y) := by
    rw [Int64.le_iff_toInt_le, Int64.le_iff_toInt_le, e, e0]
    omega
  have k1 : askB 10 x y = decide (x < y) := rfl
  have k2 : askB 11 x y = decide (x ≤ y) := rfl
  have k3 : askB 12 x y = decide (y < x) := rfl
  have k4 : askB 13 x y = decide (y ≤ x) := rfl
  have k5 : askB 14 x y = decide (x = y) := rfl
  have k6 : askB 15 x y = !decide (x = y) := rfl
  have m1 : cmpX 60 (x - y) = decide (x - y < 0) := rfl
  have m2 : cmpX 303 (x - y) = decide (x - y ≤ 0) := rfl
  have m3 : cmpX 62 (x - y) = decide (0 < x - y) := rfl
  have m4 : cmpX 304 (x - y) = decide (0 ≤ x - y) := rfl
  have m5 : cmpX 61 (x - y) = decide (x - y = 0) := rfl
  have m6 : cmpX 35 (x - y) = !decide (x - y = 0) := rfl
  rw [k1, k2, k3, k4, k5, k6, m1, m2, m3, m4, m5, m6]
  refine ⟨?_, ?_, ?_, ?_, ?_, ?_⟩
  · simp only [lt]
  · simp only [le]
  · simp only [gt]
  · simp only [ge]
  · simp only [eq]
  · simp only [eq]
/-- questions joined one by one -/
def jnX (p : Bool) (Fs : Nat → AskF) : Nat → AskF
  | 0 => Fs 0
  | m + 1 => fun N => joinB (if p then 21 else 22) (jnX p Fs m N) (Fs (m + 1) N)
theorem cnt_b {f : Nat → Bool} : ∀ n, n ≤ 1000 → ∃ c, c ≤ n ∧ sumUp (fun k => b2i (f k)) n = nI c ∧ ((c = n) ↔ ∀ k, k < n → f k = true) ∧ ((0 < c) ↔ ∃ k, k < n ∧ f k = true)
  | 0, _ => ⟨0, Nat.le_refl _, rfl, ⟨fun _ k hk => absurd hk (Nat.not_lt_zero k), fun _ => rfl⟩, ⟨fun h => absurd h (Nat.lt_irrefl 0), fun ⟨k, hk, _⟩ => absurd hk (Nat.not_lt_zero k)⟩⟩
  | n + 1, hn => by
    obtain ⟨c, c1, c2, c3, c4⟩ := cnt_b (f := f) n (by omega)
    cases hf : f n
    · refine ⟨c, by omega, ?_, ⟨fun h => by omega, fun h => ?_⟩, ⟨fun h => ?_, fun ⟨k, hk, hv⟩ => ?_⟩⟩
      · show sumUp _ n + b2i (f n) = _
        rw [c2, hf]
        show nI c + 0 = nI c
        exact Int32.add_zero _
      · have := h n (by omega)
        rw [hf] at this
        exact Bool.noConfusion this
      · obtain ⟨k, hk, hv⟩ := c4.mp h
        exact ⟨k, by omega, hv⟩
      · refine c4.mpr ⟨k, ?_, hv⟩
        by_cases e : k = n
        · rw [e, hf] at hv
          exact Bool.noConfusion hv
        · omega
    · refine ⟨c + 1, by omega, ?_, ⟨fun h k hk => ?_, fun h => ?_⟩, ⟨fun _ => ⟨n, by omega, hf⟩, fun _ => by omega⟩⟩
      · show sumUp _ n + b2i (f n) = _
        rw [c2, hf]
        exact (nI_succ c).symm
      · by_cases e : k = n
        · rw [e]; exact hf
        · exact c3.mp (by omega) k (by omega)
      · have := c3.mpr (fun k hk => h k (by omega))
        omega
theorem jn_t (Fs : Nat → AskF) (N : Nat → Int32) : ∀ m, jnX true Fs m N = true ↔ ∀ k, k < m + 1 → Fs k N = true
  | 0 => ⟨fun h k hk => by rw [show k = 0 by omega]; exact h, fun h => h 0 (by omega)⟩
  | m + 1 => by
    show (jnX true Fs m N && Fs (m + 1) N) = true ↔ _
    rw [Bool.and_eq_true_iff, jn_t Fs N m]
    constructor
    · intro ⟨a, b⟩ k hk
      by_cases e : k = m + 1
      · rw [e]; exact b
      · exact a k (by omega)
    · intro h
      exact ⟨fun k hk => h k (by omega), h _ (by omega)⟩
theorem jn_f (Fs : Nat → AskF) (N : Nat → Int32) : ∀ m, jnX false Fs m N = true ↔ ∃ k, k < m + 1 ∧ Fs k N = true
  | 0 => ⟨fun h => ⟨0, by omega, h⟩, fun ⟨k, hk, h⟩ => by rw [show k = 0 by omega] at h; exact h⟩
  | m + 1 => by
    show (jnX false Fs m N || Fs (m + 1) N) = true ↔ _
    rw [Bool.or_eq_true_iff, jn_f Fs N m]
    constructor
    · intro h
      rcases h with ⟨k, hk, hv⟩ | h
      · exact ⟨k, by omega, hv⟩
      · exact ⟨m + 1, by omega, h⟩
    · intro ⟨k, hk, hv⟩
      by_cases e : k = m + 1
      · rw [e] at hv
        exact Or.inr hv
      · exact Or.inl ⟨k, by omega, hv⟩
theorem jn_all (p : Bool) (Fs : Nat → AskF) (m : Nat) (hm : m ≤ 500) : jnX p Fs m = allX p Fs (m + 1) := by
  funext N
  obtain ⟨c, c1, c2, c3, c4⟩ := cnt_b (f := fun k => Fs k N) (m + 1) (by omega)
  rw [Bool.eq_iff_iff]
  unfold allX
  rw [c2]
  cases p
  · rw [jn_f, ← c4, if_neg (by decide), decide_eq_true_eq, Int32.lt_iff_toInt_lt, nI_t (by omega)]
    have e0 : (0 : Int32).toInt = 0 := rfl
    omega
  · rw [jn_t, ← c3, if_pos rfl, decide_eq_true_eq, ← Int32.toInt_inj, nI_t (by omega), nI_t (by omega)]
    omega
theorem jn_c {p : Bool} {Fs Gs : Nat → AskF} : ∀ m, (∀ k, k < m + 1 → Fs k = Gs k) → jnX p Fs m = jnX p Gs m
  | 0, h => h 0 (by omega)
  | m + 1, h => by
    show (fun N => joinB (if p then 21 else 22) (jnX p Fs m N) (Fs (m + 1) N)) = (fun N => joinB (if p then 21 else 22) (jnX p Gs m N) (Gs (m + 1) N))
    rw [jn_c m (fun k hk => h k (by omega)), h (m + 1) (by omega)]
