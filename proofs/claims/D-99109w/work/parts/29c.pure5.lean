/-! PURE 5: a text's laws, as a meaning -/
set_option maxRecDepth 100000
def CodeAt (X : Nat → Int32) (t n : Nat) (sort : Int32) (c lo hi : Nat) : Prop :=
  c < n ∧ clauseF X t n sort = nI c ∧ X (705 * t + 1 + 4 * c + 1) = nI lo ∧ X (705 * t + 1 + 4 * c + 2) = nI hi ∧ lo ≤ hi ∧ hi ≤ 304 ∧
  ∀ nm V B k, k < hi - lo → okE (codeC X t lo k).1 (codeC X t lo k).2 (evE nm (codeC X t lo) (0, 0, V, B) k).1 (evE nm (codeC X t lo) (0, 0, V, B) k).2.1
section CAT
variable {X : Nat → Int32} {t n : Nat} {sort : Int32} {c l r : Nat}
theorem CodeAt.cn (k : CodeAt X t n sort c l r) : c < n := k.1
theorem CodeAt.cl (k : CodeAt X t n sort c l r) : clauseF X t n sort = nI c := k.2.1
theorem CodeAt.lo (k : CodeAt X t n sort c l r) : X (705 * t + 1 + 4 * c + 1) = nI l := k.2.2.1
theorem CodeAt.hi (k : CodeAt X t n sort c l r) : X (705 * t + 1 + 4 * c + 2) = nI r := k.2.2.2.1
theorem CodeAt.le (k : CodeAt X t n sort c l r) : l ≤ r := k.2.2.2.2.1
theorem CodeAt.top (k : CodeAt X t n sort c l r) : r ≤ 304 := k.2.2.2.2.2.1
theorem CodeAt.ok (k : CodeAt X t n sort c l r) : ∀ nm V B k, k < r - l → okE (codeC X t l k).1 (codeC X t l k).2 (evE nm (codeC X t l) (0, 0, V, B) k).1 (evE nm (codeC X t l) (0, 0, V, B) k).2.1 := k.2.2.2.2.2.2
end CAT
abbrev SumF : Type := (Nat → Int32) → Int64
abbrev AskF : Type := (Nat → Int32) → Bool
def SumT (X : Nat → Int32) (t n : Nat) (sort : Int32) (f : Option SumF) : Prop :=
  (clauseF X t n sort = -1 ∧ f = none) ∨ ∃ c lo hi F, CodeAt X t n sort c lo hi ∧ f = some F ∧ ∀ nm V B, (evE nm (codeC X t lo) (0, 0, V, B) (hi - lo)).2.2.1 0 = F nm
def AskT (X : Nat → Int32) (t n : Nat) (sort : Int32) (f : Option AskF) : Prop :=
  (clauseF X t n sort = -1 ∧ f = none) ∨ ∃ c lo hi F, CodeAt X t n sort c lo hi ∧ f = some F ∧ ∀ nm V B, (evE nm (codeC X t lo) (0, 0, V, B) (hi - lo)).2.2.2 0 = F nm
def SumL (a X : Nat → Int32) (sort : Int32) (f : Option SumF) : Prop :=
  (a 2 < 0 ∧ f = none) ∨ ∃ t n, a 2 = nI t ∧ t < 4 ∧ X (705 * t) = nI n ∧ n ≤ 24 ∧ SumT X t n sort f
def AskL (a X : Nat → Int32) (sort : Int32) (f : Option AskF) : Prop :=
  (a 2 < 0 ∧ f = none) ∨ ∃ t n, a 2 = nI t ∧ t < 4 ∧ X (705 * t) = nI n ∧ n ≤ 24 ∧ AskT X t n sort f
abbrev Lw : Type := Option SumF × Option SumF × Option AskF
def extF {β : Type} (f : Option ((Nat → Int32) → β)) : Prop := ∀ F, f = some F → ∀ a b : Nat → Int32, (∀ j, j < 8 → a j = b j) → F a = F b
def LawM (a X : Nat → Int32) (L : Lw) : Prop := SumL a X 0 L.1 ∧ SumL a X 1 L.2.1 ∧ AskL a X 2 L.2.2 ∧ extF L.1 ∧ extF L.2.1 ∧ extF L.2.2
section LMW
variable {a X : Nat → Int32} {L : Lw}
theorem LawM.e (k : LawM a X L) : SumL a X 0 L.1 := k.1
theorem LawM.l (k : LawM a X L) : SumL a X 1 L.2.1 := k.2.1
theorem LawM.q (k : LawM a X L) : AskL a X 2 L.2.2 := k.2.2.1
theorem LawM.xe (k : LawM a X L) : extF L.1 := k.2.2.2.1
theorem LawM.xl (k : LawM a X L) : extF L.2.1 := k.2.2.2.2.1
theorem LawM.xq (k : LawM a X L) : extF L.2.2 := k.2.2.2.2.2
end LMW
/-- the state with its scratch laid down -/
def sn (s : Sg) (N : Nat → Int32) (V : Nat → Int64) (B : Nat → Bool) : Sg := sv (s.setA 631 N) V B
def Qn (s : Sg) (h' : AH) : Prop := ∃ N V B, h' = hp (sn s N V B)
section SN
variable {s : Sg} {N : Nat → Int32} {V : Nat → Int64} {B : Nat → Bool}
theorem sn_A {k : Nat} (h : k ≠ 633) (h2 : k ≠ 631) : (sn s N V B).A k = s.A k := (up_ne h).trans (up_ne h2)
theorem up_com {α : Type} {f : Nat → α} {j k : Nat} {x y : α} (h : j ≠ k) : up (up f j x) k y = up (up f k y) j x := by
  funext i
  unfold up
  by_cases h1 : i = k
  · by_cases h2 : i = j
    · exact absurd (h2.symm.trans h1) h
    · simp [h1]
      intro h3
      exact absurd (h3 ▸ h1 ▸ rfl) (fun e : i = j => h2 e)
  · simp [h1]
theorem sn_set {k : Nat} {f : Nat → Int32} (h : k ≠ 633) (h2 : k ≠ 631) : (sn s N V B).setA k f = sn (s.setA k f) N V B := by
  show (up (up (up s.A 631 N) 633 _) k f, s.S, V, s.2.2.2) = (up (up (up s.A k f) 631 N) 633 _, s.S, V, s.2.2.2)
  rw [up_com (Ne.symm h), up_com (Ne.symm h2)]
theorem sn_631 {f : Nat → Int32} : (sn s N V B).setA 631 f = sn s f V B := by
  show (up (up (up s.A 631 N) 633 _) 631 f, s.S, V, s.2.2.2) = (up (up s.A 631 f) 633 _, s.S, V, s.2.2.2)
  rw [up_com (by decide), up_up]
theorem sn_N : (sn s N V B).A 631 = N := by
  have e1 : (sn s N V B).A 631 = (s.setA 631 N).A 631 := sv_A (s := s.setA 631 N) (V := V) (B := B) (k := 631) (by decide)
  have e2 : (s.setA 631 N).A 631 = N := up_eq (f := s.A) (k := 631) (x := N)
  rw [e1, e2]
theorem sn_id (h : s.A 633 = fun j => b2i (B j)) : sn s (s.A 631) s.V B = s := by
  show (up (up s.A 631 (s.A 631)) 633 _, s.S, s.V, s.2.2.2) = s
  rw [← h]
  have e : ∀ (f : Nat → Nat → Int32) k, up f k (f k) = f := fun f k => by funext j; unfold up; split; rename_i q; rw [q]; rfl
  have e2 : up (up s.A 631 (s.A 631)) 633 (s.A 633) = s.A := by rw [e s.A 631, e s.A 633]
  rw [e2]
  rfl
theorem Qn.of : Qn s (hp (sn s N V B)) := ⟨_, _, _, rfl⟩
end SN
def sayF (f : Option SumF) (w : Int32) (N : Nat → Int32) : Int32 := match f with
  | none => w
  | some F => cutL (F N) 0 99
