/-! LEX: tokens, as both sides see them -/
set_option maxRecDepth 100000
def byteF (t : Nat → Int32) (n k : Nat) : Int32 := if k < n then t k else -1
def isWs (c : Int32) : Bool := decide (c = 32) || decide (c = 10)
def isFig (c : Int32) : Bool := decide (48 ≤ c) && decide (c ≤ 57)
def isLet (c : Int32) : Bool := (decide (97 ≤ c) && decide (c ≤ 122)) || (decide (65 ≤ c) && decide (c ≤ 90))
def isSig (c : Int32) : Bool := decide (c = 35) || decide (c = 40) || decide (c = 41) || decide (c = 42) || decide (c = 43) || decide (c = 45) || decide (c = 47) || decide (c = 58) || decide (c = 59) || decide (c = 60) || decide (c = 61) || decide (c = 62)
def spanF (p : Int32 → Bool) (B : Nat → Int32) : Nat → Nat → Nat
  | 0, k => k
  | m + 1, k => if p (B k) = true then spanF p B m (k + 1) else k
def spn (p : Int32 → Bool) (B : Nat → Int32) (n k : Nat) : Nat := spanF p B (n - k) k
theorem spn_e {p : Int32 → Bool} {B : Nat → Int32} {n : Nat} : spn p B n n = n := by unfold spn; rw [Nat.sub_self]; rfl
theorem spn_u {p : Int32 → Bool} {B : Nat → Int32} {n k : Nat} (h : k < n) : spn p B n k = if p (B k) = true then spn p B n (k + 1) else k := by
  obtain ⟨j, rfl⟩ := Nat.exists_eq_add_of_lt h
  unfold spn
  rw [show k + j + 1 - k = j + 1 by omega, show k + j + 1 - (k + 1) = j by omega]
  rfl
theorem spn_t {p : Int32 → Bool} {B : Nat → Int32} {n k : Nat} (h : k < n) (e : p (B k) = true) : spn p B n k = spn p B n (k + 1) := by rw [spn_u h, if_pos e]
theorem spn_f {p : Int32 → Bool} {B : Nat → Int32} {n k : Nat} (h : k < n) (e : p (B k) = false) : spn p B n k = k := by rw [spn_u h, if_neg (by rw [e]; decide)]
theorem spn_b {p : Int32 → Bool} {B : Nat → Int32} {n : Nat} : ∀ (m k : Nat), n - k = m → k ≤ n → k ≤ spn p B n k ∧ spn p B n k ≤ n
  | 0, k, h, hk => by
    have : k = n := by omega
    subst this
    rw [spn_e]
    exact ⟨Nat.le_refl _, Nat.le_refl _⟩
  | m + 1, k, h, hk => by
    rw [spn_u (by omega)]
    have := spn_b (p := p) (B := B) (n := n) m (k + 1) (by omega) (by omega)
    split <;> omega
theorem spn_ge {p : Int32 → Bool} {B : Nat → Int32} {n k : Nat} (hk : k ≤ n) : k ≤ spn p B n k := (spn_b _ k rfl hk).1
theorem spn_le {p : Int32 → Bool} {B : Nat → Int32} {n k : Nat} (hk : k ≤ n) : spn p B n k ≤ n := (spn_b _ k rfl hk).2
/-- what is put together along a span -/
def accF {β : Type} (p : Int32 → Bool) (B : Nat → Int32) (f : β → Int32 → β) : Nat → Nat → β → β
  | 0, _, a => a
  | m + 1, k, a => if p (B k) = true then accF p B f m (k + 1) (f a (B k)) else a
def acc {β : Type} (p : Int32 → Bool) (B : Nat → Int32) (f : β → Int32 → β) (n k : Nat) (a : β) : β := accF p B f (n - k) k a
section ACC
variable {β : Type} {p : Int32 → Bool} {B : Nat → Int32} {f : β → Int32 → β} {n k : Nat} {a : β}
theorem acc_e : acc p B f n n a = a := by unfold acc; rw [Nat.sub_self]; rfl
theorem acc_u (h : k < n) : acc p B f n k a = if p (B k) = true then acc p B f n (k + 1) (f a (B k)) else a := by
  obtain ⟨j, rfl⟩ := Nat.exists_eq_add_of_lt h
  unfold acc
  rw [show k + j + 1 - k = j + 1 by omega, show k + j + 1 - (k + 1) = j by omega]
  rfl
theorem acc_t (h : k < n) (e : p (B k) = true) : acc p B f n k a = acc p B f n (k + 1) (f a (B k)) := by rw [acc_u h, if_pos e]
theorem acc_f (h : k < n) (e : p (B k) = false) : acc p B f n k a = a := by rw [acc_u h, if_neg (by rw [e]; decide)]
end ACC
/-- the model's number and word, digit by digit, letter by letter -/
def numM (a c : Int32) : Int32 := if 99999 < a then a else 10 * a + c - 48
def wordM (a : Int64) (c : Int32) : Int64 := if a >>> 48 = 0 then a <<< 8 ||| c.toInt64 else 1152921504606846976
abbrev Lq : Type := Int32 × Int32 × Int32 × Int32 × Int64
abbrev Gq : Type := Int32 × Int32 × Int32 × Int32 × (Nat → Int32) × (Nat → Int32)
def lexT (B : Nat → Int32) (n p : Nat) (L : Lq) : Lq :=
  if p = n then (nI p, nI p, 0, L.2.2.2.1, L.2.2.2.2)
  else if isFig (B p) = true then (nI (spn isFig B n p), nI p, 1, acc isFig B numM n p 0, L.2.2.2.2)
  else if isLet (B p) = true then (nI (spn isLet B n p), nI p, 2, L.2.2.2.1, acc isLet B wordM n p 0)
  else if (B p = 60 ∨ B p = 62) ∧ B (p + 1) = 61 then (nI (p + 2), nI p, if B p = 60 then 4 else 5, L.2.2.2.1, L.2.2.2.2)
  else (nI (p + 1), nI p, if isSig (B p) = true then B p else 3, L.2.2.2.1, L.2.2.2.2)
def lexL (t : Nat → Int32) (n k : Nat) (L : Lq) : Lq := lexT (byteF t n) n (spn isWs (byteF t n) n k) L
theorem byteF_n {t : Nat → Int32} {n : Nat} : byteF t n n = -1 := if_neg (by omega)
theorem byteF_k {t : Nat → Int32} {n k : Nat} (h : k < n) : byteF t n k = t k := if_pos h
/-- the state while a text is read -/
def ps (s : Sg) (L : Lq) (G : Gq) : Sg := (fun k => if k = 628 then G.2.2.2.2.1 else if k = 630 then G.2.2.2.2.2 else s.A k,
  fun k => if k = 7 then L.1 else if k = 8 then L.2.1 else if k = 9 then L.2.2.1 else if k = 10 then L.2.2.2.1 else if k = 13 then G.1 else if k = 16 then G.2.1 else if k = 17 then G.2.2.1 else if k = 18 then G.2.2.2.1 else s.S k,
  s.V, L.2.2.2.2, s.2.2.2.2)
section PST
variable {s : Sg} {L : Lq} {G : Gq}
theorem ps_A {k : Nat} (h : k ≠ 628) (h2 : k ≠ 630) : (ps s L G).A k = s.A k := by
  show (if k = 628 then _ else if k = 630 then _ else s.A k) = _
  rw [if_neg h, if_neg h2]
theorem ps_id : ps s (s.S 7, s.S 8, s.S 9, s.S 10, s.w) (s.S 13, s.S 16, s.S 17, s.S 18, s.A 628, s.A 630) = s := by
  have e1 : (fun k => if k = 628 then s.A 628 else if k = 630 then s.A 630 else s.A k) = s.A := by
    funext k
    by_cases h1 : k = 628
    · rw [if_pos h1, h1]
    · rw [if_neg h1]
      by_cases h2 : k = 630
      · rw [if_pos h2, h2]
      · rw [if_neg h2]
  have e2 : (fun k => if k = 7 then s.S 7 else if k = 8 then s.S 8 else if k = 9 then s.S 9 else if k = 10 then s.S 10 else if k = 13 then s.S 13 else if k = 16 then s.S 16 else if k = 17 then s.S 17 else if k = 18 then s.S 18 else s.S k) = s.S := by
    funext k
    repeat' (split; rename_i h; rw [h])
    rfl
  show (_, _, s.V, s.w, s.2.2.2.2) = s
  rw [e1, e2]
  rfl
end PST
