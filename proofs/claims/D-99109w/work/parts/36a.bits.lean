/-! BITS: one bit of a number; how many there are (by hand) -/
set_option maxRecDepth 100000
def tb (x : Int32) (i : Nat) : Bool := x.toBitVec.getLsbD i
section TBS
variable {x y : Int32} {i k : Nat}
theorem tb_or : tb (x ||| y) i = (tb x i || tb y i) := by
  unfold tb
  rw [Int32.toBitVec_or, BitVec.getLsbD_or]
theorem tb_and : tb (x &&& y) i = (tb x i && tb y i) := by
  unfold tb
  rw [Int32.toBitVec_and, BitVec.getLsbD_and]
theorem tb_xor : tb (x ^^^ y) i = (tb x i ^^ tb y i) := by
  unfold tb
  rw [Int32.toBitVec_xor, BitVec.getLsbD_xor]
theorem tb_m1 : tb (-1) i = decide (i < 32) := by
  unfold tb
  rw [show (-1 : Int32).toBitVec = BitVec.allOnes 32 from rfl, BitVec.getLsbD_allOnes]
theorem tb_0 : tb 0 i = false := by
  unfold tb
  rw [show (0 : Int32).toBitVec = 0#32 from rfl, BitVec.getLsbD_zero]
theorem tb_ge (h : 32 ≤ i) : tb x i = false := BitVec.getLsbD_of_ge _ _ h
theorem tb_ext (h : ∀ i, i < 32 → tb x i = tb y i) : x = y := Int32.toBitVec_inj.mp (BitVec.eq_of_getLsbD_eq h)
theorem tb_n {m : Nat} : tb (nI m) i = (decide (i < 32) && m.testBit i) := by
  unfold tb
  rw [show (nI m).toBitVec = BitVec.ofNat 32 m from rfl, BitVec.getLsbD_ofNat]
theorem bitn : ∀ k, k < 32 → bit (nI k) = nI (2 ^ k) := by decide
theorem tb_bit (h : k < 32) : tb (bit (nI k)) i = decide (i = k) := by
  rw [bitn k h, tb_n, Nat.testBit_two_pow]
  by_cases e : i = k
  · subst e; simp [h]
  · simp [e, Ne.symm e]
theorem tb_andn : tb (x &&& (y ^^^ -1)) i = (tb x i && !tb y i) := by
  rw [tb_and, tb_xor, tb_m1]
  by_cases e : i < 32
  · simp [e]
  · rw [tb_ge (x := x) (by omega)]; simp
theorem smod_k : ∀ k, k < 32 → ((nI k &&& 31).toBitVec.smod 32).toNat = k := by decide
theorem and1_tb : (x &&& 1 = 1) ↔ tb x 0 = true := by
  constructor
  · intro h
    have h2 : tb (x &&& 1) 0 = tb 1 0 := by rw [h]
    rw [tb_and, show tb 1 0 = true from rfl, Bool.and_true] at h2
    exact h2
  · intro h
    apply tb_ext
    intro i hi
    rw [tb_and]
    by_cases e : i = 0
    · subst e; rw [h]; rfl
    · rw [show (1 : Int32) = nI 1 from rfl, tb_n, show (1 : Nat) = 2 ^ 0 from rfl, Nat.testBit_two_pow]
      simp [Ne.symm e]
theorem has_tb (hk : k < 32) : hasI x (nI k) = tb x k := by
  have e : tb (x >>> (nI k &&& 31)) 0 = tb x k := by
    unfold tb
    rw [Int32.toBitVec_shiftRight, BitVec.sshiftRight_eq', smod_k k hk, BitVec.getLsbD_sshiftRight]
    simp [hk]
  unfold hasI
  rw [← e]
  by_cases h : tb (x >>> (nI k &&& 31)) 0 = true
  · rw [h]; exact decide_eq_true (and1_tb.mpr h)
  · rw [Bool.not_eq_true] at h
    rw [h]; exact decide_eq_false (fun q => by rw [and1_tb.mp q] at h; exact Bool.noConfusion h)
theorem zero_tb : x = 0 ↔ ∀ i, i < 32 → tb x i = false := by
  constructor
  · rintro rfl i _; exact tb_0
  · intro h; exact tb_ext (fun i hi => by rw [h i hi, tb_0])
end TBS
/-- how many of the lowest f bits there are -/
def cB (x : Int32) : Nat → Nat
  | 0 => 0
  | f + 1 => cB x f + (tb x f).toNat
def cN (n : Nat) : Nat → Nat
  | 0 => 0
  | f + 1 => cN n f + n / 2 ^ f % 2
theorem cN_half (n : Nat) : ∀ f, cN n (f + 1) = n % 2 + cN (n / 2) f
  | 0 => by
    show 0 + n / 2 ^ 0 % 2 = n % 2 + 0
    rw [Nat.pow_zero, Nat.div_one]
    omega
  | f + 1 => by
    have h := cN_half n f
    show cN n (f + 1) + n / 2 ^ (f + 1) % 2 = n % 2 + (cN (n / 2) f + n / 2 / 2 ^ f % 2)
    rw [h, Nat.div_div_eq_div_mul, Nat.pow_succ, Nat.mul_comm (2 ^ f) 2]
    omega
theorem pcF_cN : ∀ (f n : Nat), pcF f n = cN n f
  | 0, _ => rfl
  | f + 1, n => by
    rw [cN_half, ← pcF_cN f (n / 2)]
    rfl
theorem cB_cN (x : Int32) : ∀ f, cB x f = cN (bN x) f
  | 0 => rfl
  | f + 1 => by
    show cB x f + (tb x f).toNat = cN (bN x) f + bN x / 2 ^ f % 2
    rw [cB_cN x f]
    congr 1
    unfold tb
    rw [BitVec.getLsbD, Nat.testBit_eq_decide_div_mod_eq]
    show (decide (bN x / 2 ^ f % 2 = 1)).toNat = _
    rcases Nat.mod_two_eq_zero_or_one (bN x / 2 ^ f) with e | e <;> rw [e] <;> rfl
theorem pcN_cB (x : Int32) : pcN x = cB x 32 := by
  unfold pcN
  rw [pcF_cN, cB_cN]
theorem cB_mono {x y : Int32} : ∀ f, (∀ i, i < f → tb x i = true → tb y i = true) → cB x f ≤ cB y f
  | 0, _ => Nat.le_refl _
  | f + 1, h => by
    have h1 := cB_mono f (fun i hi => h i (by omega))
    have h2 := h f (by omega)
    show cB x f + (tb x f).toNat ≤ cB y f + (tb y f).toNat
    cases ex : tb x f
    · show _ + 0 ≤ _; omega
    · rw [h2 ex]; omega
theorem pcN_mono {x y : Int32} (h : ∀ i, i < 32 → tb x i = true → tb y i = true) : pcN x ≤ pcN y := by
  rw [pcN_cB, pcN_cB]
  exact cB_mono 32 h
theorem cB_or1 {x : Int32} {k : Nat} (hk : k < 32) : ∀ f, cB (x ||| bit (nI k)) f ≤ cB x f + (if k < f then 1 else 0)
  | 0 => by simp [cB]
  | f + 1 => by
    have h := cB_or1 (x := x) hk f
    show cB (x ||| bit (nI k)) f + (tb (x ||| bit (nI k)) f).toNat ≤ cB x f + (tb x f).toNat + _
    rw [tb_or, tb_bit hk]
    by_cases e : f = k
    · subst e
      rw [if_neg (by omega)] at h
      rw [if_pos (by omega)]
      cases tb x f <;> simp <;> omega
    · by_cases l : k < f
      · rw [if_pos l] at h; rw [if_pos (by omega)]; simp [e]; omega
      · rw [if_neg l] at h; rw [if_neg (by omega)]; simp [e]; omega
theorem pcN_or1 {x : Int32} {k : Nat} (hk : k < 32) : pcN (x ||| bit (nI k)) ≤ pcN x + 1 := by
  have h := cB_or1 (x := x) hk 32
  rw [pcN_cB, pcN_cB]
  rw [if_pos hk] at h
  exact h
theorem bits_le {x : Int32} {c : Nat} (hc : c < 1000) : bitsI x ≤ nI c ↔ pcN x ≤ c := by
  have := pcN_le x
  unfold bitsI
  exact nI_leI (by omega) (by omega)
theorem bits_lt {x : Int32} {c : Nat} (hc : c < 1000) : bitsI x < nI c ↔ pcN x < c := by
  have := pcN_le x
  unfold bitsI
  exact nI_ltI (by omega) (by omega)
/-- the count of bits by fields -/
theorem and_spl (w a b : Nat) : a &&& b = (a % 2 ^ w &&& b % 2 ^ w) + 2 ^ w * (a / 2 ^ w &&& b / 2 ^ w) := by
  have h1 : (a &&& b) % 2 ^ w = a % 2 ^ w &&& b % 2 ^ w := Nat.and_mod_two_pow
  have h2 : (a &&& b) / 2 ^ w = a / 2 ^ w &&& b / 2 ^ w := Nat.and_div_two_pow
  rw [← h1, ← h2]
  exact (Nat.mod_add_div _ _).symm
def mk4 : Nat → Nat
  | 0 => 0
  | k + 1 => 1 + 4 * mk4 k
def mk16 : Nat → Nat
  | 0 => 0
  | k + 1 => 3 + 16 * mk16 k
def mk256 : Nat → Nat
  | 0 => 0
  | k + 1 => 15 + 256 * mk256 k
def fA : Nat → Nat → Nat
  | 0, _ => 0
  | k + 1, n => (n % 2 + n / 2 % 2) + 4 * fA k (n / 4)
def fB : Nat → Nat → Nat
  | 0, _ => 0
  | k + 1, n => (n % 4 + n / 4 % 4) + 16 * fB k (n / 16)
def fC : Nat → Nat → Nat
  | 0, _ => 0
  | k + 1, n => (n % 16 + n / 16 % 16) + 256 * fC k (n / 256)
theorem and_1 (a : Nat) : a &&& 1 = a % 2 := Nat.and_one_is_mod a
theorem and_3 (a : Nat) : a &&& 3 = a % 4 := Nat.and_two_pow_sub_one_eq_mod a 2
theorem and_15 (a : Nat) : a &&& 15 = a % 16 := Nat.and_two_pow_sub_one_eq_mod a 4
theorem lA : ∀ (k n : Nat), n < 4 ^ k → (n / 2 &&& mk4 k) ≤ n ∧ n - (n / 2 &&& mk4 k) = fA k n
  | 0, n, h => by
    have : n = 0 := by simpa using h
    subst this
    exact ⟨Nat.le_refl _, rfl⟩
  | k + 1, n, h => by
    obtain ⟨h1, h2⟩ := lA k (n / 4) (by rw [Nat.pow_succ] at h; omega)
    have e : (n / 2 &&& mk4 (k + 1)) = n / 2 % 2 + 4 * (n / 4 / 2 &&& mk4 k) := by
      rw [and_spl 2 (n / 2) (mk4 (k + 1)), show mk4 (k + 1) % 2 ^ 2 = 1 by show (1 + 4 * mk4 k) % 4 = 1; omega, show mk4 (k + 1) / 2 ^ 2 = mk4 k by show (1 + 4 * mk4 k) / 4 = mk4 k; omega, and_1]
      show n / 2 % 4 % 2 + 4 * (n / 2 / 4 &&& mk4 k) = _
      rw [show n / 2 / 4 = n / 4 / 2 by omega]
      omega
    rw [e]
    show _ ∧ _ = (n % 2 + n / 2 % 2) + 4 * fA k (n / 4)
    rw [← h2]
    generalize (n / 4 / 2 &&& mk4 k) = X at h1 ⊢
    omega
theorem lB : ∀ (k n : Nat), n < 16 ^ k → (n &&& mk16 k) + (n / 4 &&& mk16 k) = fB k n
  | 0, n, h => by
    have : n = 0 := by simpa using h
    subst this
    rfl
  | k + 1, n, h => by
    have h2 := lB k (n / 16) (by rw [Nat.pow_succ] at h; omega)
    have e0 : ∀ a, (a &&& mk16 (k + 1)) = a % 4 + 16 * (a / 16 &&& mk16 k) := by
      intro a
      rw [and_spl 4 a (mk16 (k + 1)), show mk16 (k + 1) % 2 ^ 4 = 3 by show (3 + 16 * mk16 k) % 16 = 3; omega, show mk16 (k + 1) / 2 ^ 4 = mk16 k by show (3 + 16 * mk16 k) / 16 = mk16 k; omega, and_3]
      show a % 16 % 4 + 16 * (a / 16 &&& mk16 k) = _
      omega
    rw [e0, e0]
    show _ = (n % 4 + n / 4 % 4) + 16 * fB k (n / 16)
    rw [← h2, show n / 4 / 16 = n / 16 / 4 by omega]
    generalize (n / 16 &&& mk16 k) = X
    generalize (n / 16 / 4 &&& mk16 k) = Y
    omega
def nibL : Nat → Nat → Prop
  | 0, _ => True
  | k + 1, n => n % 16 ≤ 6 ∧ nibL k (n / 16)
theorem nib_0 {k n : Nat} (h : nibL k n) (hn : n < 16 ^ k) : n % 16 ≤ 6 := by
  cases k with
  | zero => have : n = 0 := by simpa using hn
            omega
  | succ k => exact h.1
theorem nb1 (X A B : Nat) (hA : A ≤ 12) (hB : B ≤ 12) : (256 * X + (16 * A + B)) / 256 = X ∧ (256 * X + (16 * A + B)) % 256 % 16 = B := by omega
theorem lC : ∀ (k n : Nat), n < 256 ^ k → nibL (2 * k) n → (n + n / 16 &&& mk256 k) = fC k n
  | 0, n, h, _ => by
    have : n = 0 := by simpa using h
    subst this
    rfl
  | k + 1, n, h, hn => by
    have hn1 : n % 16 ≤ 6 ∧ n / 16 % 16 ≤ 6 ∧ nibL (2 * k) (n / 16 / 16) := hn
    rw [show n / 16 / 16 = n / 256 by omega] at hn1
    obtain ⟨a1, a2, a3⟩ := hn1
    have hb : n / 256 < 256 ^ k := by rw [Nat.pow_succ] at h; omega
    have a4 := nib_0 a3 (by rw [Nat.pow_mul]; exact hb)
    have h2 := lC k (n / 256) hb a3
    have e : n + n / 16 = 256 * (n / 256 + n / 256 / 16) + (16 * (n / 16 % 16 + n / 256 % 16) + (n % 16 + n / 16 % 16)) := by omega
    have nb := nb1 (n / 256 + n / 256 / 16) (n / 16 % 16 + n / 256 % 16) (n % 16 + n / 16 % 16) (by omega) (by omega)
    rw [← e] at nb
    obtain ⟨e1, e2⟩ := nb
    rw [and_spl 8 (n + n / 16) (mk256 (k + 1)), show mk256 (k + 1) % 2 ^ 8 = 15 by show (15 + 256 * mk256 k) % 256 = 15; omega, show mk256 (k + 1) / 2 ^ 8 = mk256 k by show (15 + 256 * mk256 k) / 256 = mk256 k; omega, and_15]
    show (n + n / 16) % 256 % 16 + 256 * ((n + n / 16) / 256 &&& mk256 k) = (n % 16 + n / 16 % 16) + 256 * fC k (n / 256)
    rw [← h2, e1, e2]
theorem fA_lt : ∀ (k n : Nat), fA k n < 4 ^ k
  | 0, _ => Nat.one_pos
  | k + 1, n => by
    have := fA_lt k (n / 4)
    show (n % 2 + n / 2 % 2) + 4 * fA k (n / 4) < 4 ^ (k + 1)
    rw [Nat.pow_succ]
    omega
theorem fB_lt : ∀ (k n : Nat), fB k n < 16 ^ k ∧ nibL k (fB k n)
  | 0, _ => ⟨Nat.one_pos, trivial⟩
  | k + 1, n => by
    obtain ⟨h1, h2⟩ := fB_lt k (n / 16)
    refine ⟨?_, ?_, ?_⟩
    · show (n % 4 + n / 4 % 4) + 16 * fB k (n / 16) < 16 ^ (k + 1)
      rw [Nat.pow_succ]
      omega
    · show ((n % 4 + n / 4 % 4) + 16 * fB k (n / 16)) % 16 ≤ 6
      omega
    · rw [show fB (k + 1) n / 16 = fB k (n / 16) by show ((n % 4 + n / 4 % 4) + 16 * fB k (n / 16)) / 16 = _; omega]
      exact h2
/-- the sum of the fields of 2, 4, 8 bits -/
def sF4 : Nat → Nat → Nat
  | 0, _ => 0
  | k + 1, n => n % 4 + sF4 k (n / 4)
def sF16 : Nat → Nat → Nat
  | 0, _ => 0
  | k + 1, n => n % 16 + sF16 k (n / 16)
def sF256 : Nat → Nat → Nat
  | 0, _ => 0
  | k + 1, n => n % 256 + sF256 k (n / 256)
theorem sA_eq4 : ∀ (k n : Nat), sF4 k (fA k n) = pcF (2 * k) n
  | 0, _ => rfl
  | k + 1, n => by
    have h := sA_eq4 k (n / 4)
    show fA (k + 1) n % 4 + sF4 k (fA (k + 1) n / 4) = n % 2 + (n / 2 % 2 + pcF (2 * k) (n / 2 / 2))
    rw [show fA (k + 1) n % 4 = n % 2 + n / 2 % 2 by show ((n % 2 + n / 2 % 2) + 4 * fA k (n / 4)) % 4 = _; omega, show fA (k + 1) n / 4 = fA k (n / 4) by show ((n % 2 + n / 2 % 2) + 4 * fA k (n / 4)) / 4 = _; omega, h, show n / 2 / 2 = n / 4 by omega]
    omega
theorem sB_eq16 : ∀ (k n : Nat), sF16 k (fB k n) = sF4 (2 * k) n
  | 0, _ => rfl
  | k + 1, n => by
    have h := sB_eq16 k (n / 16)
    show fB (k + 1) n % 16 + sF16 k (fB (k + 1) n / 16) = n % 4 + (n / 4 % 4 + sF4 (2 * k) (n / 4 / 4))
    rw [show fB (k + 1) n % 16 = n % 4 + n / 4 % 4 by show ((n % 4 + n / 4 % 4) + 16 * fB k (n / 16)) % 16 = _; omega, show fB (k + 1) n / 16 = fB k (n / 16) by show ((n % 4 + n / 4 % 4) + 16 * fB k (n / 16)) / 16 = _; omega, h, show n / 4 / 4 = n / 16 by omega]
    omega
theorem sC_eq256 : ∀ (k n : Nat), sF256 k (fC k n) = sF16 (2 * k) n
  | 0, _ => rfl
  | k + 1, n => by
    have h := sC_eq256 k (n / 256)
    show fC (k + 1) n % 256 + sF256 k (fC (k + 1) n / 256) = n % 16 + (n / 16 % 16 + sF16 (2 * k) (n / 16 / 16))
    rw [show fC (k + 1) n % 256 = n % 16 + n / 16 % 16 by show ((n % 16 + n / 16 % 16) + 256 * fC k (n / 256)) % 256 = _; omega, show fC (k + 1) n / 256 = fC k (n / 256) by show ((n % 16 + n / 16 % 16) + 256 * fC k (n / 256)) / 256 = _; omega, h, show n / 16 / 16 = n / 256 by omega]
    omega
/-- the last two steps: the four bytes of c, each small -/
theorem lD {c : Nat} (b0 b1 b2 b3 : Nat) (hc : c = b0 + 256 * (b1 + 256 * (b2 + 256 * b3))) (h0 : b0 ≤ 30) (h1 : b1 ≤ 30) (h2 : b2 ≤ 30) (h3 : b3 ≤ 30) (h : b0 + b1 + b2 + b3 < 64) : (c + c / 256 + (c + c / 256) / 65536) % 64 = b0 + b1 + b2 + b3 := by
  subst hc
  have e1 : (b0 + 256 * (b1 + 256 * (b2 + 256 * b3))) / 256 = b1 + 256 * (b2 + 256 * b3) := by omega
  rw [e1]
  have e2 : (b0 + 256 * (b1 + 256 * (b2 + 256 * b3)) + (b1 + 256 * (b2 + 256 * b3))) / 65536 = (b2 + b3) + 256 * b3 := by omega
  rw [e2]
  omega
theorem bN_inj {x y : Int32} (h : bN x = bN y) : x = y := Int32.toBitVec_inj.mp (BitVec.eq_of_toNat_eq h)
theorem bN_and' (x y : Int32) : bN (x &&& y) = bN x &&& bN y := by
  show (x &&& y).toBitVec.toNat = _
  rw [Int32.toBitVec_and, BitVec.toNat_and]
  rfl
theorem bN_add' (x y : Int32) : bN (x + y) = (bN x + bN y) % 2 ^ 32 := by
  show (x + y).toBitVec.toNat = _
  rw [Int32.toBitVec_add, BitVec.toNat_add]
  rfl
theorem bN_sub' (x y : Int32) : bN (x - y) = (2 ^ 32 - bN y + bN x) % 2 ^ 32 := by
  show (x - y).toBitVec.toNat = _
  rw [Int32.toBitVec_sub, BitVec.toNat_sub]
  rfl
theorem bN_shr (x s : Int32) (k : Nat) (hs : ((s.toUInt32 &&& Int32.toUInt32 31).toBitVec % 32).toNat = k) : bN (shrU x s) = bN x / 2 ^ k := pk_ushr x s k hs
theorem bc_A (x : Int32) : bN (bcA x) = fA 16 (bN x) := by
  have hl := bN_lt x
  obtain ⟨h1, h2⟩ := lA 16 (bN x) hl
  have e : bN (shrU x 1 &&& 1431655765) = bN x / 2 &&& mk4 16 := by
    rw [bN_and', bN_shr x 1 1 rfl]
    rfl
  unfold bcA
  rw [bN_sub', e, ← h2]
  generalize (bN x / 2 &&& mk4 16) = X at h1 ⊢
  omega
theorem bc_B (x : Int32) : bN (bcB x) = fB 8 (bN x) := by
  have hl := bN_lt x
  have h2 := lB 8 (bN x) hl
  have e1 : bN (x &&& 858993459) = bN x &&& mk16 8 := by rw [bN_and']; rfl
  have e2 : bN (shrU x 2 &&& 858993459) = bN x / 4 &&& mk16 8 := by
    rw [bN_and', bN_shr x 2 2 rfl]
    rfl
  have := (fB_lt 8 (bN x)).1
  unfold bcB
  rw [bN_add', e1, e2, h2]
  exact Nat.mod_eq_of_lt this
theorem bc_C (x : Int32) (hn : nibL 8 (bN x)) (hs : bN x < 16 ^ 8) (h7 : bN x / 268435456 ≤ 6) : bN (bcC x) = fC 4 (bN x) := by
  have h2 := lC 4 (bN x) hs hn
  unfold bcC
  rw [bN_and', bN_add', bN_shr x 4 4 rfl, ← h2, Nat.mod_eq_of_lt (by show bN x + bN x / 2 ^ 4 < 2 ^ 32; omega)]
  rfl
theorem fC_by (n : Nat) (h : nibL 8 n) : ∃ b0 b1 b2 b3, fC 4 n = b0 + 256 * (b1 + 256 * (b2 + 256 * b3)) ∧ b0 ≤ 12 ∧ b1 ≤ 12 ∧ b2 ≤ 12 ∧ b3 ≤ 12 ∧ sF256 4 (fC 4 n) = b0 + b1 + b2 + b3 := by
  obtain ⟨a0, a1, a2, a3, a4, a5, a6, a7, -⟩ := h
  have d1 : n / 16 / 16 = n / 256 := by omega
  have d2 : n / 256 / 16 / 16 = n / 256 / 256 := by omega
  have d3 : n / 256 / 256 / 16 / 16 = n / 256 / 256 / 256 := by omega
  rw [d1] at a2 a3 a4 a5 a6 a7
  rw [d2] at a4 a5 a6 a7
  rw [d3] at a6 a7
  have e : fC 4 n = (n % 16 + n / 16 % 16) + 256 * ((n / 256 % 16 + n / 256 / 16 % 16) + 256 * ((n / 256 / 256 % 16 + n / 256 / 256 / 16 % 16) + 256 * (n / 256 / 256 / 256 % 16 + n / 256 / 256 / 256 / 16 % 16))) := rfl
  refine ⟨_, _, _, _, e, by omega, by omega, by omega, by omega, ?_⟩
  rw [e]
  have g0 : n % 16 + n / 16 % 16 ≤ 12 := by omega
  have g1 : n / 256 % 16 + n / 256 / 16 % 16 ≤ 12 := by omega
  have g2 : n / 256 / 256 % 16 + n / 256 / 256 / 16 % 16 ≤ 12 := by omega
  have g3 : n / 256 / 256 / 256 % 16 + n / 256 / 256 / 256 / 16 % 16 ≤ 12 := by omega
  clear e a0 a1 a2 a3 a4 a5 a6 a7 d1 d2 d3
  generalize n % 16 + n / 16 % 16 = b0 at *
  generalize n / 256 % 16 + n / 256 / 16 % 16 = b1 at *
  generalize n / 256 / 256 % 16 + n / 256 / 256 / 16 % 16 = b2 at *
  generalize n / 256 / 256 / 256 % 16 + n / 256 / 256 / 256 / 16 % 16 = b3 at *
  have q0 : ∀ x y, x ≤ 12 → (x + 256 * y) % 256 = x ∧ (x + 256 * y) / 256 = y := fun x y hx => by omega
  show (b0 + 256 * (b1 + 256 * (b2 + 256 * b3))) % 256 + ((b0 + 256 * (b1 + 256 * (b2 + 256 * b3))) / 256 % 256 + ((b0 + 256 * (b1 + 256 * (b2 + 256 * b3))) / 256 / 256 % 256 + ((b0 + 256 * (b1 + 256 * (b2 + 256 * b3))) / 256 / 256 / 256 % 256 + 0))) = _
  rw [(q0 b0 _ g0).1, (q0 b0 _ g0).2, (q0 b1 _ g1).1, (q0 b1 _ g1).2, (q0 b2 _ g2).1, (q0 b2 _ g2).2, Nat.mod_eq_of_lt (by omega)]
  omega
theorem bcI_bits (x : Int32) : bcI x = bitsI x := by
  apply bN_inj
  have hy := fB_lt 8 (bN (bcA x))
  have eB := bc_B (bcA x)
  have h7 : bN (bcB (bcA x)) / 268435456 ≤ 6 := by
    rw [eB]
    obtain ⟨-, -, -, -, -, -, -, a7, -⟩ := hy.2
    have := hy.1
    omega
  have eC := bc_C (bcB (bcA x)) (by rw [eB]; exact hy.2) (by rw [eB]; exact hy.1) h7
  obtain ⟨b0, b1, b2, b3, f1, f2, f3, f4, f5, f6⟩ := fC_by (bN (bcB (bcA x))) (by rw [eB]; exact hy.2)
  have hs : b0 + b1 + b2 + b3 = pcN x := by
    rw [← f6, sC_eq256, eB]
    show sF16 8 (fB 8 (bN (bcA x))) = _
    rw [sB_eq16, bc_A]
    exact sA_eq4 16 (bN x)
  have e3 : bN (bcI x) = (bN (bcC (bcB (bcA x))) + bN (bcC (bcB (bcA x))) / 256 + (bN (bcC (bcB (bcA x))) + bN (bcC (bcB (bcA x))) / 256) / 65536) % 64 := by
    unfold bcI
    generalize hc : bcC (bcB (bcA x)) = c at *
    show bN ((c + shrU c 8) + shrU (c + shrU c 8) 16 &&& 63) = _
    have el : bN (c + shrU c 8) = bN c + bN c / 256 := by
      rw [bN_add', bN_shr c 8 8 rfl]
      exact Nat.mod_eq_of_lt (by rw [eC, f1]; omega)
    have e63 : ∀ z : Int32, bN (z &&& 63) = bN z % 64 := fun z => by
      rw [bN_and']
      exact Nat.and_two_pow_sub_one_eq_mod _ 6
    rw [e63, bN_add', bN_shr _ 16 16 rfl, el]
    rw [Nat.mod_eq_of_lt (a := bN c + bN c / 256 + (bN c + bN c / 256) / 2 ^ 16) (by rw [eC, f1]; omega)]
  rw [e3, eC, lD b0 b1 b2 b3 f1 (by omega) (by omega) (by omega) (by omega) (by omega), hs]
  have := pcN_le x
  exact (pk_tn (by omega)).symm
