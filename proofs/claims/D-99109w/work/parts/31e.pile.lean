/-! PILE: what waits, what is written, as lists -/
set_option maxRecDepth 100000
abbrev Cd : Type := List (Int32 × Int32)
/-- steps laid down from base on -/
def layC (X : Nat → Int32) (base : Nat) : Cd → (Nat → Int32)
  | [] => X
  | c :: C => layC (up (up X base c.1) (base + 1) c.2) (base + 2) C
theorem layC_app {X : Nat → Int32} {base : Nat} {C : Cd} {o v : Int32} : up (up (layC X base C) (base + 2 * C.length) o) (base + 2 * C.length + 1) v = layC X base (C ++ [(o, v)]) := by
  induction C generalizing X base with
  | nil => rfl
  | cons c C ih =>
    show up (up (layC _ (base + 2) C) _ o) _ v = layC _ (base + 2) (C ++ [(o, v)])
    rw [← ih]
    simp only [List.length_cons]
    rw [show base + 2 * (C.length + 1) = base + 2 + 2 * C.length by omega]
theorem layC_out {X : Nat → Int32} {base j : Nat} {C : Cd} (h : j < base ∨ base + 2 * C.length ≤ j) : layC X base C j = X j := by
  induction C generalizing X base with
  | nil => rfl
  | cons c C ih =>
    simp only [List.length_cons] at h
    show layC _ (base + 2) C j = X j
    rw [ih (by omega), up_ne (by omega), up_ne (by omega)]
theorem layC_up {X : Nat → Int32} {base j : Nat} {C : Cd} {x : Int32} (h : j < base) : up (layC X base C) j x = layC (up X j x) base C := by
  induction C generalizing X base with
  | nil => rfl
  | cons c C ih =>
    show up (layC _ (base + 2) C) j x = layC _ (base + 2) C
    rw [ih (by omega), up_com (by omega : base + 1 ≠ j), up_com (by omega : base ≠ j)]
/-- the pile: its top first -/
def pileR (P : Nat → Int32) : List Int32 → Prop
  | [] => True
  | o :: Q => P Q.length = o ∧ pileR P Q
theorem pileR_up {P : Nat → Int32} {Q : List Int32} {k : Nat} {x : Int32} (h : Q.length ≤ k) (hp : pileR P Q) : pileR (up P k x) Q := by
  induction Q with
  | nil => trivial
  | cons o Q ih =>
    simp only [List.length_cons] at h
    exact ⟨(up_ne (by omega)).trans hp.1, ih (by omega) hp.2⟩
theorem pileR_push {P : Nat → Int32} {Q : List Int32} {x : Int32} (hp : pileR P Q) : pileR (up P Q.length x) (x :: Q) := ⟨up_eq, pileR_up (Nat.le_refl _) hp⟩
def shutL (Q : List Int32) : Bool := Q.any (fun o => decide (o = 40))
def settleL (least : Int32) : List Int32 → Cd → Int32 → List Int32 × Cd × Int32
  | [], C, o => ([], C, o)
  | q :: Q, C, o => if least ≤ rankF q then settleL least Q (C ++ [(q, 0)]) (if rankF q = 7 ∨ q = 20 then o - 1 else o) else (q :: Q, C, o)
/-- whether what is asked at last has been compared -/
def comparedL : List Int32 → Bool
  | [] => false
  | q :: Q => if 4 < rankF q then comparedL Q else decide (rankF q = 4)
def askL (e : Bool) (Q : List Int32) : Bool := e && ((match Q with | [] => true | q :: _ => inI (rankF q) 1 3) && !shutL Q)
/-- the reader's state with its lists -/
def gq (X : Nat → Int32) (base : Nat) (C : Cd) (P : Nat → Int32) (Q : List Int32) (o : Int32) (w : Bool) : Gq := (nI C.length, nI Q.length, o, b2i w, layC X base C, P)
