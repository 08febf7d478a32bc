/-! WORD: what a word's letters pack to (u_tn, g_or, g_shl, pf_lI, pf_shr are the kit's, out of laws/BITS) -/
set_option maxRecDepth 100000
theorem u_tn {n : Nat} (h : n < 2 ^ 64) : (UInt64.ofNat n).toNat = n := Nat.mod_eq_of_lt h
theorem g_or {k p a b : Nat} (hp : 2 ^ k = p) (ha : a < p) (h : b * p + a < 2 ^ 64) : lN (b * p) ||| lN a = lN (b * p + a) := by
  subst hp
  have h1 : b * 2 ^ k ||| a = b * 2 ^ k + a := by rw [← Nat.shiftLeft_eq, Nat.shiftLeft_add_eq_or_of_lt ha]
  have h3 : UInt64.ofNat (b * 2 ^ k) ||| UInt64.ofNat a = UInt64.ofNat (b * 2 ^ k + a) := UInt64.toNat_inj.mp (by rw [UInt64.toNat_or, u_tn (by omega), u_tn (by omega), u_tn h, h1])
  have h2 := congrArg UInt64.toInt64 h3
  exact h2
theorem g_shl {a k p : Nat} {y : Int64} (hy : y.toBitVec.smod 64 = BitVec.ofNat 64 k) (hk : k < 64) (hp : 2 ^ k = p) (ha : a < 2 ^ 64) : lN a <<< y = lN (a * p) := by
  subst hp
  apply Int64.toBitVec_inj.mp
  rw [Int64.toBitVec_shiftLeft, hy]
  apply BitVec.eq_of_toNat_eq
  have hb : (lN a).toBitVec.toNat = a := Nat.mod_eq_of_lt ha
  have hk' : (BitVec.ofNat 64 k).toNat = k := Nat.mod_eq_of_lt (by omega)
  have h : ((lN a).toBitVec <<< BitVec.ofNat 64 k).toNat = (a * 2 ^ k) % 2 ^ 64 := by simp only [BitVec.shiftLeft_eq', BitVec.toNat_shiftLeft, hb, hk', Nat.shiftLeft_eq]
  exact h
theorem pf_lI {a : Nat} (h : a < 2 ^ 63) : (lN a).toInt = (a : Int) := lg_ofNat_toInt h
theorem pf_shr {a d : Nat} {D : Int64} (hD : (D.toBitVec.smod 64).toNat = d) (h : a < 2 ^ 62) : lN a >>> D = lN (a / 2 ^ d) := by
  have hd : a / 2 ^ d ≤ a := Nat.div_le_self _ _
  apply Int64.toInt_inj.mp
  have e : (lN a >>> D).toInt = (lN a).toInt >>> d := by
    rw [← hD]
    exact BitVec.toInt_sshiftRight ..
  rw [e, Int.shiftRight_eq_div_pow, pf_lI (by omega), pf_lI (by omega)]
  rfl
def lwN (B : Nat → Int32) (p : Nat) : Nat → Nat
  | 0 => 0
  | m + 1 => lwN B p m * 256 + cI (B (p + m))
theorem let_b {x : Int32} (h : isLet x = true) : 65 ≤ cI x ∧ cI x ≤ 122 ∧ x = nI (cI x) := by
  simp only [isLet, Bool.or_eq_true, Bool.and_eq_true, decide_eq_true_eq, Int32.le_iff_toInt_le] at h
  have e1 : (97 : Int32).toInt = 97 := rfl
  have e2 : (122 : Int32).toInt = 122 := rfl
  have e3 : (65 : Int32).toInt = 65 := rfl
  have e4 : (90 : Int32).toInt = 90 := rfl
  have h0 : 0 ≤ x.toInt := by omega
  have h5 := cI_of h0
  exact ⟨by omega, by omega, (nI_cI h0).symm⟩
theorem pack {a c : Nat} (ha : a < 281474976710656) (hc : c < 256) : lN a <<< 8 ||| (nI c).toInt64 = lN (a * 256 + c) := by
  rw [g_shl (y := 8) (k := 8) (p := 256) (by decide) (by decide) rfl (by omega), nI_l (by omega), g_or (k := 8) (p := 256) rfl hc (by omega)]
theorem wordM_lo {a c : Nat} (ha : a < 281474976710656) (hc : c < 256) : wordM (lN a) (nI c) = lN (a * 256 + c) := by
  unfold wordM
  rw [pf_shr (D := 48) (d := 48) (by decide) (by omega), if_pos (by rw [Nat.div_eq_of_lt (by omega)]; rfl), pack ha hc]
theorem wordM_hi {a : Nat} {c : Int32} (ha : 281474976710656 ≤ a) (h2 : a < 4611686018427387904) : wordM (lN a) c = lN 1152921504606846976 := by
  unfold wordM
  rw [pf_shr (D := 48) (d := 48) (by decide) (by omega), if_neg]
  · rfl
  · intro z
    have e := congrArg Int64.toInt z
    have hd : a / 2 ^ 48 ≤ a := Nat.div_le_self _ _
    rw [pf_lI (by omega)] at e
    have e0 : (0 : Int64).toInt = 0 := rfl
    have h1 : 1 ≤ a / 2 ^ 48 := Nat.div_pos (by omega) (by omega)
    omega
theorem lwN_lt {B : Nat → Int32} {p : Nat} : ∀ m, (∀ j, j < m → isLet (B (p + j)) = true) → lwN B p m < 256 ^ m
  | 0, _ => Nat.one_pos
  | m + 1, h => by
    have h1 := lwN_lt m (fun j hj => h j (by omega))
    have h2 := let_b (h m (by omega))
    show lwN B p m * 256 + _ < 256 ^ m * 256
    omega
theorem lwN_ge {B : Nat → Int32} {p : Nat} : ∀ m, (∀ j, j < m + 1 → isLet (B (p + j)) = true) → 65 * 256 ^ m ≤ lwN B p (m + 1)
  | 0, h => by
    have h2 := let_b (h 0 (by omega))
    show 65 * 1 ≤ 0 * 256 + cI (B (p + 0))
    omega
  | m + 1, h => by
    have h1 := lwN_ge m (fun j hj => h j (by omega))
    show 65 * (256 ^ m * 256) ≤ lwN B p (m + 1) * 256 + cI (B (p + (m + 1)))
    omega
section WSP
variable {q : Int32 → Bool} {B : Nat → Int32} {n : Nat}
theorem spn_all : ∀ (m k : Nat), n - k = m → k ≤ n → ∀ j, k ≤ j → j < spn q B n k → q (B j) = true
  | 0, k, h, hk, j, h1, h2 => by
    have : k = n := by omega
    subst this
    rw [spn_e] at h2
    omega
  | m + 1, k, h, hk, j, h1, h2 => by
    rw [spn_u (by omega)] at h2
    by_cases hq : q (B k) = true
    · rw [if_pos hq] at h2
      by_cases e : j = k
      · rw [e]; exact hq
      · exact spn_all m (k + 1) (by omega) (by omega) j (by omega) h2
    · rw [if_neg hq] at h2
      omega
theorem spn_out : ∀ (m k : Nat), n - k = m → k ≤ n → spn q B n k < n → q (B (spn q B n k)) = false
  | 0, k, h, hk, h2 => by
    have : k = n := by omega
    subst this
    rw [spn_e] at h2
    omega
  | m + 1, k, h, hk, h2 => by
    rw [spn_u (by omega)] at h2 ⊢
    by_cases hq : q (B k) = true
    · rw [if_pos hq] at h2 ⊢
      exact spn_out m (k + 1) (by omega) (by omega) h2
    · rw [if_neg hq]
      cases z : q (B k)
      · rfl
      · exact absurd z hq
theorem acc_hi : ∀ (m k : Nat), n - k = m → k ≤ n → acc isLet B wordM n k (lN 1152921504606846976) = lN 1152921504606846976
  | 0, k, h, hk => by
    have : k = n := by omega
    subst this
    exact acc_e
  | m + 1, k, h, hk => by
    rw [acc_u (by omega)]
    split
    · rw [wordM_hi (by omega) (by omega)]
      exact acc_hi m (k + 1) (by omega) (by omega)
    · rfl
theorem acc_lo {p : Nat} : ∀ m, m ≤ 7 → (∀ j, j < m → isLet (B (p + j)) = true) → p + m ≤ n → acc isLet B wordM n p 0 = acc isLet B wordM n (p + m) (lN (lwN B p m))
  | 0, _, _, _ => rfl
  | m + 1, h7, h, hn => by
    rw [acc_lo m (by omega) (fun j hj => h j (by omega)) (by omega), acc_t (by omega) (h m (by omega))]
    have h2 := let_b (h m (by omega))
    have h3 := lwN_lt m (fun j hj => h j (by omega))
    have h4 : 256 ^ m ≤ 256 ^ 6 := Nat.pow_le_pow_right (by omega) (by omega)
    have h5 : wordM (lN (lwN B p m)) (B (p + m)) = lN (lwN B p (m + 1)) := by
      rw [h2.2.2, wordM_lo (by omega) (by omega)]
      rfl
    rw [h5]
    rfl
end WSP
/-- a word: where it lies, how many letters, what they pack to -/
def WordT (B : Nat → Int32) (n : Nat) (L : Lq) (p M : Nat) : Prop := p + M ≤ n ∧ 1 ≤ M ∧ L.2.1 = nI p ∧ L.1 = nI (p + M) ∧ (∀ j, j < M → isLet (B (p + j)) = true) ∧ (M ≤ 7 → L.2.2.2.2 = lN (lwN B p M)) ∧ (7 < M → L.2.2.2.2 = lN 1152921504606846976)
theorem lexT_word {B : Nat → Int32} {n p : Nat} {L : Lq} (hp : p ≤ n) (h : (lexT B n p L).2.2.1 = 2) : ∃ M, WordT B n (lexT B n p L) p M := by
  unfold lexT at h ⊢
  by_cases h0 : p = n
  · rw [if_pos h0] at h
    exact absurd (show (0 : Int32) = 2 from h) (by decide)
  rw [if_neg h0] at h ⊢
  by_cases h1 : isFig (B p) = true
  · rw [if_pos h1] at h
    exact absurd (show (1 : Int32) = 2 from h) (by decide)
  rw [if_neg h1] at h ⊢
  by_cases h2 : isLet (B p) = true
  · rw [if_pos h2]
    have hg : p + 1 ≤ spn isLet B n p := by
      rw [spn_t (by omega) h2]
      exact spn_ge (by omega)
    have hl := spn_le (p := isLet) (B := B) hp
    have ha := spn_all (q := isLet) (B := B) (n := n) _ p rfl hp
    have ho := spn_out (q := isLet) (B := B) (n := n) _ p rfl hp
    generalize spn isLet B n p = z at hg hl ha ho
    obtain ⟨M, rfl⟩ := Nat.exists_eq_add_of_le (show p ≤ z by omega)
    have hall : ∀ j, j < M → isLet (B (p + j)) = true := fun j hj => ha (p + j) (by omega) (by omega)
    refine ⟨M, hl, by omega, rfl, rfl, hall, fun h7 => ?_, fun h7 => ?_⟩
    · show acc isLet B wordM n p 0 = _
      rw [acc_lo M h7 hall hl]
      by_cases e : p + M = n
      · rw [e]; exact acc_e
      · exact acc_f (by omega) (ho (by omega))
    · show acc isLet B wordM n p 0 = _
      rw [acc_lo 7 (by omega) (fun j hj => hall j (by omega)) (by omega), acc_t (by omega) (hall 7 h7)]
      have h3 : 65 * 256 ^ 6 ≤ lwN B p 7 := lwN_ge 6 (fun j hj => hall j (by omega))
      have h4 := lwN_lt 7 (fun j hj => hall j (by omega))
      rw [wordM_hi (by omega) (by omega)]
      exact acc_hi _ _ rfl (by omega)
  rw [if_neg h2] at h
  by_cases h3 : (B p = 60 ∨ B p = 62) ∧ B (p + 1) = 61
  · rw [if_pos h3] at h
    have h' : (if B p = 60 then (4 : Int32) else 5) = 2 := h
    split at h' <;> exact absurd h' (by decide)
  rw [if_neg h3] at h
  have h' : (if isSig (B p) = true then B p else 3) = 2 := h
  by_cases h4 : isSig (B p) = true
  · rw [if_pos h4] at h'
    rw [h'] at h4
    exact absurd h4 (by decide)
  · rw [if_neg h4] at h'
    exact absurd h' (by decide)
theorem tk_word {t : Nat → Int32} {n : Nat} {L0 : Lq} (hn : n ≤ 300) (i : Nat) (h : (tkL t n L0 i).2.2.1 = 2) : ∃ p M, WordT (byteF t n) n (tkL t n L0 i) p M := by
  cases i with
  | zero => exact ⟨_, lexT_word (spn_le (by omega)) h⟩
  | succ i =>
    have hk := (tk_L (t := t) (L0 := L0) hn i).2
    exact ⟨_, lexT_word (spn_le hk) h⟩
/-- a word of at most six letters has no seven -/
theorem wd_7 {t : Nat → Int32} {n : Nat} {L0 : Lq} (hn : n ≤ 300) {i c : Nat} {f g : Int64} {q : Nat} (hw : isWd (tkL t n L0 i) (lN c) = true) (hc : c < 281474976710656) : isLongF (byteF t n) (tkL t n L0 i) q f g = false := by
  have h2 := Bool.and_eq_true_iff.mp hw
  have ht := of_decide_eq_true h2.1
  have hv := of_decide_eq_true h2.2
  obtain ⟨p, M, h3, h4, h5, h6, h7, h8, h9⟩ := tk_word hn i ht
  cases z : isLongF (byteF t n) (tkL t n L0 i) q f g
  · rfl
  · have z2 := of_decide_eq_true (Bool.and_eq_true_iff.mp (Bool.and_eq_true_iff.mp z).2).1
    rw [h5, h6, nI_subN (by omega), Nat.add_sub_cancel_left] at z2
    have e := congrArg Int32.toInt z2
    rw [nI_t (by omega)] at e
    have e7 : (7 : Int32).toInt = 7 := rfl
    have hM : M = 7 := by omega
    subst hM
    have h10 : 65 * 256 ^ 6 ≤ lwN (byteF t n) p 7 := lwN_ge 6 h7
    have h11 := lwN_lt 7 h7
    have e2 := congrArg Int64.toInt (hv.symm.trans (h8 (by omega)))
    rw [pf_lI (by omega), pf_lI (by omega)] at e2
    omega
