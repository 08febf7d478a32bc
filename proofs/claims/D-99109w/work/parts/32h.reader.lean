/-! READER: a text's clauses, as both sides read them -/
set_option maxRecDepth 100000
/-- a clause: its sort, three numbers (of a law: from where to where its steps lie) -/
abbrev Cl : Type := Int32 × Int32 × Int32 × Int32
def hasS (cls : List Cl) (s : Int32) : Bool := cls.any (fun c => decide (c.1 = s))
abbrev BR : Type := Sum (Int32 × Nat) ((Int32 × Int32 × Int32) × Nat)
abbrev CR : Type := Sum (Int32 × Nat) (Cl × Cd × Nat)
section READER
variable (B : Nat → Int32) (K : Nat → Lq)
def fgR (i : Nat) (lo hi : Int32) (k : BR) : BR := if figF (K i) lo hi = 0 then k else .inl (figF (K i) lo hi, i)
def wdR (i : Nat) (x : Int64) (k : BR) : BR := if isWd (K i) x = true then k else .inl (1, i)
def bodyR (so : Int32) (i : Nat) : BR :=
  if so = 3 then fgR K i 0 19 (wdR K (i + 1) (w5F 112 117 114 115 101) (fgR K (i + 2) 0 9999 (if isFrF B (K (i + 3)) (cI (K (i + 3)).2.1) = true then fgR K (i + 4) 0 99 (.inr (((K i).2.2.2.1, (K (i + 2)).2.2.2.1, (K (i + 4)).2.2.2.1), i + 5)) else .inl (1, i + 3))))
  else if so = 5 then fgR K i 0 6 (wdR K (i + 1) (w2F 116 111) (fgR K (i + 2) 0 6 (.inr (((K i).2.2.2.1, (K (i + 2)).2.2.2.1, -1), i + 3))))
  else if so = 7 then fgR K i 0 19 (wdR K (i + 1) (w2F 111 102) (fgR K (i + 2) 0 6 (.inr (((K i).2.2.2.1, (K (i + 2)).2.2.2.1, -1), i + 3))))
  else if so = 8 then fgR K i 1 60 (.inr (((K i).2.2.2.1, -1, -1), i + 1))
  else fgR K i 0 6 (.inr (((K i).2.2.2.1, -1, -1), i + 1))
/-- the descent's fuel, enough for any text -/
def FU : Nat := 4000
def lawR (so : Int32) (i : Nat) : RD := rd B K (decide (so = 2)) FU (if so = 2 then 8 else 3) [] i 0
def clB (so : Int32) (C : Cd) (i : Nat) : CR :=
  if so ≤ 2 then (match lawR B K so i with
    | .inl e => .inl e
    | .inr q => .inr ((so, nI C.length, nI (C ++ q.1).length, 0), C ++ q.1, q.2))
  else (match bodyR B K so i with
    | .inl e => .inl e
    | .inr q => .inr ((so, q.1), C, q.2))
def semi (r : CR) : CR := match r with
  | .inl e => .inl e
  | .inr q => if (K q.2.2).2.2.1 = 59 then .inr (q.1, q.2.1, q.2.2 + 1) else .inl (1, q.2.2)
def clR (cls : List Cl) (C : Cd) (i : Nat) : CR :=
  if sortF (K i) < 0 then .inl (1, i)
  else if sortF (K i) ≤ 2 ∧ hasS cls (sortF (K i)) = true then .inl (4, i)
  else if cls.length = 24 then .inl (6, i)
  else semi K (clB B K (sortF (K i)) C (i + 1))
def rdT : Nat → List Cl → Cd → Nat → Sum (Int32 × Nat) (List Cl × Cd × Nat)
  | 0, _, _, i => .inl (0, i)
  | f + 1, cls, C, i => if (K i).2.2.1 = 0 then .inr (cls, C, i) else match clR B K cls C i with
    | .inl e => .inl e
    | .inr q => rdT f (cls ++ [q.1]) q.2.1 q.2.2
end READER
/-- which came, as the model keeps it -/
def onI (p q r : Bool) : Int32 := (if p then 1 else 0) ||| (if q then 2 else 0) ||| (if r then 4 else 0)
def onc (cls : List Cl) : Int32 := onI (hasS cls 0) (hasS cls 1) (hasS cls 2)
theorem sort_or {L : Lq} : sortF L = -1 ∨ sortF L = 0 ∨ sortF L = 1 ∨ sortF L = 2 ∨ sortF L = 3 ∨ sortF L = 4 ∨ sortF L = 5 ∨ sortF L = 6 ∨ sortF L = 7 ∨ sortF L = 8 := by
  unfold sortF
  repeat' split
  all_goals simp
theorem onc_has {cls : List Cl} {so : Int32} (h : so = 0 ∨ so = 1 ∨ so = 2) : hasI (onc cls) so = hasS cls so := by
  unfold onc
  rcases h with rfl | rfl | rfl <;> cases hasS cls 0 <;> cases hasS cls 1 <;> cases hasS cls 2 <;> rfl
/-- the clauses as they lie in the model's texts -/
def TI (X : Nat → Int32) (t : Nat) (cls : List Cl) : Prop := X (705 * t) = nI cls.length ∧ cls.length ≤ 24 ∧ ∀ k cl, cls[k]? = some cl → X (705 * t + 1 + 4 * k) = cl.1 ∧ X (705 * t + 2 + 4 * k) = cl.2.1 ∧ (cl.1 ≤ 2 ∨ cl.1 = 3 ∨ cl.1 = 5 ∨ cl.1 = 7 → X (705 * t + 3 + 4 * k) = cl.2.2.1) ∧ (cl.1 = 3 → X (705 * t + 4 + 4 * k) = cl.2.2.2)
theorem TI.nil {X : Nat → Int32} {t : Nat} (h : X (705 * t) = 0) : TI X t [] := ⟨h, by decide, fun k cl q => by simp at q⟩
theorem TI.snoc {X X2 : Nat → Int32} {t : Nat} {cls : List Cl} {cl : Cl} (h : TI X t cls) (hl : cls.length < 24) (h0 : X2 (705 * t) = nI (cls.length + 1)) (hs : ∀ j, 705 * t < j → j < 705 * t + 1 + 4 * cls.length → X2 j = X j) (hc : X2 (705 * t + 1 + 4 * cls.length) = cl.1 ∧ X2 (705 * t + 2 + 4 * cls.length) = cl.2.1 ∧ (cl.1 ≤ 2 ∨ cl.1 = 3 ∨ cl.1 = 5 ∨ cl.1 = 7 → X2 (705 * t + 3 + 4 * cls.length) = cl.2.2.1) ∧ (cl.1 = 3 → X2 (705 * t + 4 + 4 * cls.length) = cl.2.2.2)) : TI X2 t (cls ++ [cl]) := by
  refine ⟨by rw [h0, List.length_append]; rfl, by rw [List.length_append]; simp only [List.length_cons, List.length_nil]; omega, fun k c hk => ?_⟩
  by_cases hkl : k < cls.length
  · rw [List.getElem?_append_left hkl] at hk
    have := h.2.2 k c hk
    rw [hs _ (by omega) (by omega), hs _ (by omega) (by omega), hs _ (by omega) (by omega), hs _ (by omega) (by omega)]
    exact this
  · rw [List.getElem?_append_right (by omega)] at hk
    by_cases e : k = cls.length
    · subst e
      rw [Nat.sub_self] at hk
      cases hk
      exact hc
    · rw [List.getElem?_eq_none (by simp only [List.length_cons, List.length_nil]; omega)] at hk
      cases hk
/-- the reader's state with what changes beside -/
def rs (s : Sg) (a b c : Int32) : Sg := ((s.setS 14 a).setS 19 b).setS 20 c
section RSS
variable {s : Sg} {a b c x : Int32} {L : Lq} {G : Gq}
theorem ps_s14 : (hp (ps (rs s a b c) L G)).set 625 (.inr (2, (mfl (ps (rs s a b c) L G)).set 14 (.int x))) = hp (ps (rs s x b c) L G) := by
  rw [sM14]
  have e : up (ps (rs s a b c) L G).S 14 x = (ps (rs s x b c) L G).S := by
    funext j
    by_cases h : j = 14
    · rw [h, up_eq]; rfl
    · rw [up_ne h]
      unfold ps rs Sg.setS Sg.S up
      dsimp only
      simp only [h, if_false]
  show hp ((ps (rs s a b c) L G).A, up (ps (rs s a b c) L G).S 14 x, (ps (rs s a b c) L G).2.2) = _
  rw [e]
  rfl
theorem ps_s19 : (hp (ps (rs s a b c) L G)).set 625 (.inr (2, (mfl (ps (rs s a b c) L G)).set 19 (.int x))) = hp (ps (rs s a x c) L G) := by
  rw [sM19]
  have e : up (ps (rs s a b c) L G).S 19 x = (ps (rs s a x c) L G).S := by
    funext j
    by_cases h : j = 19
    · rw [h, up_eq]; rfl
    · rw [up_ne h]
      unfold ps rs Sg.setS Sg.S up
      dsimp only
      simp only [h, if_false]
  show hp ((ps (rs s a b c) L G).A, up (ps (rs s a b c) L G).S 19 x, (ps (rs s a b c) L G).2.2) = _
  rw [e]
  rfl
theorem ps_s20 : (hp (ps (rs s a b c) L G)).set 625 (.inr (2, (mfl (ps (rs s a b c) L G)).set 20 (.int x))) = hp (ps (rs s a b x) L G) := by
  rw [sM20]
  have e : up (ps (rs s a b c) L G).S 20 x = (ps (rs s a b x) L G).S := by
    funext j
    by_cases h : j = 20
    · rw [h, up_eq]; rfl
    · rw [up_ne h]
      unfold ps rs Sg.setS Sg.S up
      dsimp only
      simp only [h, if_false]
  show hp ((ps (rs s a b c) L G).A, up (ps (rs s a b c) L G).S 20 x, (ps (rs s a b c) L G).2.2) = _
  rw [e]
  rfl
end RSS
