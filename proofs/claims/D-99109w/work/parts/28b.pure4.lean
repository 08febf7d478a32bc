/-! PURE 4: what a law says, by its steps -/
set_option maxRecDepth 100000
theorem nI_subN {a b : Nat} (h : b ≤ a) : nI a - nI b = nI (a - b) := by
  obtain ⟨c, rfl⟩ := Nat.exists_eq_add_of_le h
  rw [Nat.add_sub_cancel_left, ← nI_add, Int32.add_comm, Int32.add_sub_cancel]
theorem nI_m1 {a : Nat} (h : 1 ≤ a) : nI a + (-1) = nI (a - 1) := by
  rw [show (-1 : Int32) = -(nI 1) from rfl, ← Int32.sub_eq_add_neg, nI_subN h]
theorem nI_m2 {a : Nat} (h : 2 ≤ a) : nI a + (-2) = nI (a - 2) := by
  rw [show (-2 : Int32) = -(nI 2) from rfl, ← Int32.sub_eq_add_neg, nI_subN h]
theorem nI_s1 {a : Nat} (h : 1 ≤ a) : nI a - 1 = nI (a - 1) := nI_subN (b := 1) h
def digN (p : Int64) : Nat := if p < 0 then 0 else min p.toInt.toNat 10
theorem lN_t {k : Nat} (h : k < 2147483648) : (lN k).toInt = (k : Int) := lN_toInt h
theorem L0 : (0 : Int64).toInt = 0 := rfl
theorem L9 : (9 : Int64).toInt = 9 := rfl
theorem L10 : (10 : Int64).toInt = 10 := rfl
theorem digN_in {p : Int64} {k : Nat} (h : k < digN p) : lN k < p ∧ lN k < 10 := by
  unfold digN at h
  rw [Int64.lt_iff_toInt_lt, Int64.lt_iff_toInt_lt, L10]
  by_cases hp : p < 0
  · rw [if_pos hp] at h; omega
  · rw [if_neg hp] at h
    rw [Int64.lt_iff_toInt_lt, L0] at hp
    rw [lN_t (by omega)]
    omega
theorem digN_out {p : Int64} (h1 : lN (digN p) < p) (h2 : lN (digN p) < 10) : False := by
  have h3 : digN p ≤ 10 := by unfold digN; split <;> omega
  rw [Int64.lt_iff_toInt_lt, lN_t (by omega)] at h1 h2
  rw [L10] at h2
  unfold digN at h1 h2
  by_cases hp : p < 0
  · rw [if_pos hp] at h1
    rw [Int64.lt_iff_toInt_lt, L0] at hp
    omega
  · rw [if_neg hp] at h1 h2
    omega
theorem digN_eq {p : Int64} (h1 : ¬ p < 0) (h2 : ¬ 9 < p) : digN p = p.toInt.toNat := by
  unfold digN
  rw [if_neg h1]
  rw [Int64.lt_iff_toInt_lt, L9] at h2
  omega
theorem absM_n {w : Int64} (h : w < 0) : absM w = -w := if_pos h
theorem absM_p {w : Int64} (h : 0 ≤ w) : absM w = w := if_neg (Int64.not_lt.mpr h)
/-- how many values, how many truths, they themselves -/
abbrev Qk : Type := Nat × Nat × (Nat → Int64) × (Nat → Bool)
def stepE (nm : Nat → Int32) (o v : Int32) (q : Qk) : Qk :=
  if o ≤ 1 then (q.1 + 1, q.2.1, up q.2.2.1 q.1 (if o = 0 then v.toInt64 else (nm (cI v)).toInt64), q.2.2.2)
  else if o = 2 then (q.1, q.2.1, up q.2.2.1 (q.1 - 1) (-(q.2.2.1 (q.1 - 1))), q.2.2.2)
  else if o < 10 then (q.1 - 1, q.2.1, up q.2.2.1 (q.1 - 2) (if o = 7 then digM (q.2.2.1 (q.1 - 2)) (q.2.2.1 (q.1 - 1)) else twoL o (q.2.2.1 (q.1 - 2)) (q.2.2.1 (q.1 - 1))), q.2.2.2)
  else if o < 20 then (q.1 - 2, q.2.1 + 1, q.2.2.1, up q.2.2.2 q.2.1 (if o = 16 then divB (q.2.2.1 (q.1 - 2)) (q.2.2.1 (q.1 - 1)) else askB o (q.2.2.1 (q.1 - 2)) (q.2.2.1 (q.1 - 1))))
  else if o = 20 then (q.1, q.2.1, q.2.2.1, up q.2.2.2 (q.2.1 - 1) (!(q.2.2.2 (q.2.1 - 1))))
  else (q.1, q.2.1 - 1, q.2.2.1, up q.2.2.2 (q.2.1 - 2) (joinB o (q.2.2.2 (q.2.1 - 2)) (q.2.2.2 (q.2.1 - 1))))
def okE (o v : Int32) (n m : Nat) : Prop :=
  if o ≤ 1 then n < 330 ∧ (¬ o = 0 → 0 ≤ v.toInt ∧ v.toInt < 8) ∧ m ≤ 330
  else if o = 2 then 1 ≤ n ∧ n ≤ 330 ∧ m ≤ 330
  else if o < 10 then 2 ≤ n ∧ n ≤ 330 ∧ m ≤ 330
  else if o < 20 then 2 ≤ n ∧ n ≤ 330 ∧ m < 330
  else if o = 20 then 1 ≤ m ∧ m ≤ 330 ∧ n ≤ 330
  else 2 ≤ m ∧ m ≤ 330 ∧ n ≤ 330
def evE (nm : Nat → Int32) (C : Nat → Int32 × Int32) (q : Qk) : Nat → Qk
  | 0 => q
  | k + 1 => stepE nm (C k).1 (C k).2 (evE nm C q k)
/-- the state while a law is gone through -/
def sv (s : Sg) (V : Nat → Int64) (B : Nat → Bool) : Sg := (s.setV V).setA 633 (fun j => b2i (B j))
section SV
variable {s : Sg} {V : Nat → Int64} {B : Nat → Bool}
theorem sv_A {k : Nat} (h : k ≠ 633) : (sv s V B).A k = s.A k := up_ne h
theorem gv626 : (hp (sv s V B)).g 626 = some (ia 2308 (s.A 626)) := by rw [g626, sv_A (by decide)]
theorem gv628 : (hp (sv s V B)).g 628 = some (ia 2820 (s.A 628)) := by rw [g628, sv_A (by decide)]
theorem gv631 : (hp (sv s V B)).g 631 = some (ia 8 (s.A 631)) := by rw [g631, sv_A (by decide)]
theorem gv632 : (hp (sv s V B)).g 632 = some (la 330 V) := g632
theorem gv633 : (hp (sv s V B)).g 633 = some (za 330 (fun j => b2i (B j))) := by
  have e : (sv s V B).A 633 = fun j => b2i (B j) := up_eq (f := s.A) (k := 633) (x := fun j => b2i (B j))
  rw [g633, e]
theorem sv632 {f : Nat → Int64} : (hp (sv s V B)).set 632 (la 330 f) = hp (sv s f B) := s632
theorem sv633 {k : Nat} {b : Bool} : (hp (sv s V B)).set 633 (za 330 (up (fun j => b2i (B j)) k (b2i b))) = hp (sv s V (up B k b)) := by
  rw [s633]
  show hp (up (up s.A 633 _) 633 _, _) = hp (up s.A 633 _, _)
  rw [up_up]
  have e : up (fun j => b2i (B j)) k (b2i b) = fun j => b2i (up B k b j) := by
    funext j
    unfold up
    by_cases h : j = k <;> simp [h]
  rw [e]
  rfl
end SV
def nmV (v : Vw) (h day : Int32) (j : Nat) : Int32 := if j = 0 then day else if j = 1 then day % 20 else if j = 2 then h else if j = 3 then v.pu h else if j = 4 then v.fr h else if j = 5 then bitsI (v.sh h) else if j = 6 then v.openOn (day % 20) else v.beside h (day % 20)
def nmA (b : Nat → Int32) (v : Vw) (h day : Int32) : Nat → Int32 := up (up (up (up (up (up (up (up b 0 day) 1 (day % 20)) 2 h) 3 (v.pu h)) 4 (v.fr h)) 5 (bitsI (v.sh h))) 6 (v.openOn (day % 20))) 7 (v.beside h (day % 20))
theorem nmA_at {b : Nat → Int32} {v : Vw} {h day : Int32} {j : Nat} (hj : j < 8) : nmA b v h day j = nmV v h day j := by
  have : j = 0 ∨ j = 1 ∨ j = 2 ∨ j = 3 ∨ j = 4 ∨ j = 5 ∨ j = 6 ∨ j = 7 := by omega
  unfold nmA nmV
  rcases this with rfl | rfl | rfl | rfl | rfl | rfl | rfl | rfl <;> simp [up]
def clauseF (X : Nat → Int32) (t n : Nat) (sort : Int32) : Int32 := srch (fun k => decide (X (705 * t + 1 + 4 * k) = sort)) nI (-1) (n - 0) 0
abbrev codeC (X : Nat → Int32) (t lo k : Nat) : Int32 × Int32 := (X (705 * t + 97 + 2 * (lo + k)), X (705 * t + 97 + 2 * (lo + k) + 1))
section STE
variable {nm : Nat → Int32} {o v : Int32} {n m : Nat} {W : Nat → Int64} {B : Nat → Bool}
theorem stepE_0 (h : ¬ 1 < o) (h0 : o = 0) : stepE nm o v (n, m, W, B) = (n + 1, m, up W n v.toInt64, B) := by unfold stepE; rw [if_pos (Int32.not_lt.mp h), if_pos h0]
theorem stepE_1 (h : ¬ 1 < o) (h0 : ¬ o = 0) : stepE nm o v (n, m, W, B) = (n + 1, m, up W n (nm (cI v)).toInt64, B) := by unfold stepE; rw [if_pos (Int32.not_lt.mp h), if_neg h0]
theorem stepE_2 (h : 1 < o) (h2 : o = 2) : stepE nm o v (n, m, W, B) = (n, m, up W (n - 1) (-(W (n - 1))), B) := by unfold stepE; rw [if_neg (Int32.not_le.mpr h), if_pos h2]
theorem stepE_7 (h : 1 < o) (h2 : ¬ o = 2) (h3 : ¬ 10 ≤ o) (h7 : o = 7) : stepE nm o v (n, m, W, B) = (n - 1, m, up W (n - 2) (digM (W (n - 2)) (W (n - 1))), B) := by unfold stepE; rw [if_neg (Int32.not_le.mpr h), if_neg h2, if_pos (Int32.not_le.mp h3), if_pos h7]
theorem stepE_t (h : 1 < o) (h2 : ¬ o = 2) (h3 : ¬ 10 ≤ o) (h7 : ¬ o = 7) : stepE nm o v (n, m, W, B) = (n - 1, m, up W (n - 2) (twoL o (W (n - 2)) (W (n - 1))), B) := by unfold stepE; rw [if_neg (Int32.not_le.mpr h), if_neg h2, if_pos (Int32.not_le.mp h3), if_neg h7]
theorem stepE_d (h : 1 < o) (h2 : ¬ o = 2) (h3 : 10 ≤ o) (h4 : ¬ 20 ≤ o) (h7 : o = 16) : stepE nm o v (n, m, W, B) = (n - 2, m + 1, W, up B m (divB (W (n - 2)) (W (n - 1)))) := by unfold stepE; rw [if_neg (Int32.not_le.mpr h), if_neg h2, if_neg (Int32.not_lt.mpr h3), if_pos (Int32.not_le.mp h4), if_pos h7]
theorem stepE_a (h : 1 < o) (h2 : ¬ o = 2) (h3 : 10 ≤ o) (h4 : ¬ 20 ≤ o) (h7 : ¬ o = 16) : stepE nm o v (n, m, W, B) = (n - 2, m + 1, W, up B m (askB o (W (n - 2)) (W (n - 1)))) := by unfold stepE; rw [if_neg (Int32.not_le.mpr h), if_neg h2, if_neg (Int32.not_lt.mpr h3), if_pos (Int32.not_le.mp h4), if_neg h7]
theorem stepE_n (h : 1 < o) (h2 : ¬ o = 2) (h3 : 10 ≤ o) (h4 : 20 ≤ o) (h7 : o = 20) : stepE nm o v (n, m, W, B) = (n, m, W, up B (m - 1) (!(B (m - 1)))) := by unfold stepE; rw [if_neg (Int32.not_le.mpr h), if_neg h2, if_neg (Int32.not_lt.mpr h3), if_neg (Int32.not_lt.mpr h4), if_pos h7]
theorem stepE_j (h : 1 < o) (h2 : ¬ o = 2) (h3 : 10 ≤ o) (h4 : 20 ≤ o) (h7 : ¬ o = 20) : stepE nm o v (n, m, W, B) = (n, m - 1, W, up B (m - 2) (joinB o (B (m - 2)) (B (m - 1)))) := by unfold stepE; rw [if_neg (Int32.not_le.mpr h), if_neg h2, if_neg (Int32.not_lt.mpr h3), if_neg (Int32.not_lt.mpr h4), if_neg h7]
theorem okE_0 (h : ¬ 1 < o) (k : okE o v n m) : n < 330 ∧ (¬ o = 0 → 0 ≤ v.toInt ∧ v.toInt < 8) ∧ m ≤ 330 := by unfold okE at k; rwa [if_pos (Int32.not_lt.mp h)] at k
theorem okE_2 (h : 1 < o) (h2 : o = 2) (k : okE o v n m) : 1 ≤ n ∧ n ≤ 330 ∧ m ≤ 330 := by unfold okE at k; rwa [if_neg (Int32.not_le.mpr h), if_pos h2] at k
theorem okE_t (h : 1 < o) (h2 : ¬ o = 2) (h3 : ¬ 10 ≤ o) (k : okE o v n m) : 2 ≤ n ∧ n ≤ 330 ∧ m ≤ 330 := by unfold okE at k; rwa [if_neg (Int32.not_le.mpr h), if_neg h2, if_pos (Int32.not_le.mp h3)] at k
theorem okE_a (h : 1 < o) (h2 : ¬ o = 2) (h3 : 10 ≤ o) (h4 : ¬ 20 ≤ o) (k : okE o v n m) : 2 ≤ n ∧ n ≤ 330 ∧ m < 330 := by unfold okE at k; rwa [if_neg (Int32.not_le.mpr h), if_neg h2, if_neg (Int32.not_lt.mpr h3), if_pos (Int32.not_le.mp h4)] at k
theorem okE_n (h : 1 < o) (h2 : ¬ o = 2) (h3 : 10 ≤ o) (h4 : 20 ≤ o) (h7 : o = 20) (k : okE o v n m) : 1 ≤ m ∧ m ≤ 330 ∧ n ≤ 330 := by unfold okE at k; rwa [if_neg (Int32.not_le.mpr h), if_neg h2, if_neg (Int32.not_lt.mpr h3), if_neg (Int32.not_lt.mpr h4), if_pos h7] at k
theorem okE_j (h : 1 < o) (h2 : ¬ o = 2) (h3 : 10 ≤ o) (h4 : 20 ≤ o) (h7 : ¬ o = 20) (k : okE o v n m) : 2 ≤ m ∧ m ≤ 330 ∧ n ≤ 330 := by unfold okE at k; rwa [if_neg (Int32.not_le.mpr h), if_neg h2, if_neg (Int32.not_lt.mpr h3), if_neg (Int32.not_lt.mpr h4), if_neg h7] at k
end STE
theorem b2i_or (b : Bool) : b2i b = 0 ∨ b2i b = 1 := by cases b; exact Or.inl rfl; exact Or.inr rfl
