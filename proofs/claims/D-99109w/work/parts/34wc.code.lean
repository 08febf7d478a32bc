/-! CODE: what a piece of code leaves behind, and what its parts say -/
set_option maxRecDepth 100000
def evL (nm : Nat → Int32) : Cd → Qk → Qk
  | [], q => q
  | c :: r, q => evL nm r (stepE nm c.1 c.2 q)
def okL (nm : Nat → Int32) : Cd → Qk → Prop
  | [], _ => True
  | c :: r, q => okE c.1 c.2 q.1 q.2.1 ∧ okL nm r (stepE nm c.1 c.2 q)
theorem evL_app {nm : Nat → Int32} : ∀ (c e : Cd) (q : Qk), evL nm (c ++ e) q = evL nm e (evL nm c q)
  | [], _, _ => rfl
  | _ :: c, e, _ => evL_app c e _
theorem okL_app {nm : Nat → Int32} : ∀ (c e : Cd) (q : Qk), okL nm c q → okL nm e (evL nm c q) → okL nm (c ++ e) q
  | [], _, _, _, h => h
  | _ :: c, e, _, h1, h2 => ⟨h1.1, okL_app c e _ h1.2 h2⟩
/-- no value is great: what is told is small -/
def smallF (F : SumF) : Prop := ∀ N, -1000000000000 ≤ (F N).toInt ∧ (F N).toInt ≤ 1000000000000
/-- the code c lays one value: F of the names -/
def CS (c : Cd) (F : SumF) : Prop := smallF F ∧ (extF (some F) ∧ 1 ≤ c.length) ∧ ∀ (nm : Nat → Int32) (q : Qk),
  (evL nm c q).1 = q.1 + 1 ∧ (evL nm c q).2.1 = q.2.1 ∧ (evL nm c q).2.2.1 q.1 = F nm ∧ (∀ j, j < q.1 → (evL nm c q).2.2.1 j = q.2.2.1 j) ∧ (∀ j, j < q.2.1 → (evL nm c q).2.2.2 j = q.2.2.2 j) ∧ (q.1 + c.length ≤ 330 → q.2.1 + c.length ≤ 330 → okL nm c q)
/-- the code c lays one truth -/
def CA (c : Cd) (F : AskF) : Prop := (extF (some F) ∧ 1 ≤ c.length) ∧ ∀ (nm : Nat → Int32) (q : Qk),
  (evL nm c q).1 = q.1 ∧ (evL nm c q).2.1 = q.2.1 + 1 ∧ (evL nm c q).2.2.2 q.2.1 = F nm ∧ (∀ j, j < q.1 → (evL nm c q).2.2.1 j = q.2.2.1 j) ∧ (∀ j, j < q.2.1 → (evL nm c q).2.2.2 j = q.2.2.2 j) ∧ (q.1 + c.length ≤ 330 → q.2.1 + c.length ≤ 330 → okL nm c q)
theorem extF_of {β : Type} {F : (Nat → Int32) → β} (h : ∀ a b : Nat → Int32, (∀ j, j < 8 → a j = b j) → F a = F b) : extF (some F) := fun G e a b k => by
  cases e
  exact h a b k
theorem extF_at {β : Type} {F : (Nat → Int32) → β} (h : extF (some F)) {a b : Nat → Int32} (k : ∀ j, j < 8 → a j = b j) : F a = F b := h F rfl a b k
/-- two pieces, then a step that takes both -/
theorem CS.two {c e : Cd} {F G : SumF} (hc : CS c F) (he : CS e G) (o : Int32) (op : Int64 → Int64 → Int64) (ho : ¬ o ≤ 1) (h2 : ¬ o = 2) (h10 : o < 10) (hop : ∀ x y, (if o = 7 then digM x y else twoL o x y) = op x y) (hs : smallF (fun N => op (F N) (G N))) : CS (c ++ e ++ [(o, 0)]) (fun N => op (F N) (G N)) := by
  refine ⟨hs, ⟨extF_of fun a b k => by rw [extF_at hc.2.1.1 k, extF_at he.2.1.1 k], by simp only [List.length_append, List.length_cons, List.length_nil]; omega⟩, fun nm q => ?_⟩
  obtain ⟨c1, c2, c3, c4, c5, c6⟩ := hc.2.2 nm q
  have lc := hc.2.1.2
  have le_ := he.2.1.2
  obtain ⟨e1, e2, e3, e4, e5, e6⟩ := he.2.2 nm (evL nm c q)
  rw [evL_app, evL_app]
  have es : evL nm [(o, 0)] (evL nm e (evL nm c q)) = ((evL nm e (evL nm c q)).1 - 1, (evL nm e (evL nm c q)).2.1, up (evL nm e (evL nm c q)).2.2.1 ((evL nm e (evL nm c q)).1 - 2) (if o = 7 then digM ((evL nm e (evL nm c q)).2.2.1 ((evL nm e (evL nm c q)).1 - 2)) ((evL nm e (evL nm c q)).2.2.1 ((evL nm e (evL nm c q)).1 - 1)) else twoL o ((evL nm e (evL nm c q)).2.2.1 ((evL nm e (evL nm c q)).1 - 2)) ((evL nm e (evL nm c q)).2.2.1 ((evL nm e (evL nm c q)).1 - 1))), (evL nm e (evL nm c q)).2.2.2) := by
    show stepE nm o 0 _ = _
    unfold stepE
    rw [if_neg ho, if_neg h2, if_pos h10]
  have n2 : (evL nm e (evL nm c q)).1 = q.1 + 2 := by omega
  have v1 : (evL nm e (evL nm c q)).2.2.1 (q.1 + 1) = G nm := by rw [← c1]; exact e3
  have v0 : (evL nm e (evL nm c q)).2.2.1 q.1 = F nm := (e4 q.1 (by omega)).trans c3
  rw [es]
  refine ⟨by show _ - 1 = _; omega, by show (evL nm e (evL nm c q)).2.1 = _; omega, ?_, fun j hj => ?_, fun j hj => (e5 j (by omega)).trans (c5 j hj), fun l1 l2 => ?_⟩
  · show up _ _ _ q.1 = _
    rw [n2, show q.1 + 2 - 2 = q.1 by omega, up_eq, show q.1 + 2 - 1 = q.1 + 1 by omega, v0, v1, hop]
  · show up _ _ _ j = _
    rw [up_ne (by omega)]
    exact (e4 j (by omega)).trans (c4 j hj)
  · simp only [List.length_append, List.length_cons, List.length_nil] at l1 l2
    refine okL_app _ _ _ (okL_app _ _ _ (c6 (by omega) (by omega)) (e6 (by omega) (by omega))) ?_
    rw [evL_app]
    refine ⟨?_, trivial⟩
    show okE o 0 _ _
    unfold okE
    rw [if_neg ho, if_neg h2, if_pos h10]
    omega
/-- two sums, then a step that asks of both -/
theorem CA.two {c e : Cd} {F G : SumF} (hc : CS c F) (he : CS e G) (o : Int32) (op : Int64 → Int64 → Bool) (ho : ¬ o ≤ 1) (h2 : ¬ o = 2) (h10 : ¬ o < 10) (h20 : o < 20) (hop : ∀ x y, (if o = 16 then divB x y else askB o x y) = op x y) : CA (c ++ e ++ [(o, 0)]) (fun N => op (F N) (G N)) := by
  refine ⟨⟨extF_of fun a b k => by rw [extF_at hc.2.1.1 k, extF_at he.2.1.1 k], by simp only [List.length_append, List.length_cons, List.length_nil]; omega⟩, fun nm q => ?_⟩
  obtain ⟨c1, c2, c3, c4, c5, c6⟩ := hc.2.2 nm q
  have lc := hc.2.1.2
  have le_ := he.2.1.2
  obtain ⟨e1, e2, e3, e4, e5, e6⟩ := he.2.2 nm (evL nm c q)
  rw [evL_app, evL_app]
  have es : evL nm [(o, 0)] (evL nm e (evL nm c q)) = ((evL nm e (evL nm c q)).1 - 2, (evL nm e (evL nm c q)).2.1 + 1, (evL nm e (evL nm c q)).2.2.1, up (evL nm e (evL nm c q)).2.2.2 (evL nm e (evL nm c q)).2.1 (if o = 16 then divB ((evL nm e (evL nm c q)).2.2.1 ((evL nm e (evL nm c q)).1 - 2)) ((evL nm e (evL nm c q)).2.2.1 ((evL nm e (evL nm c q)).1 - 1)) else askB o ((evL nm e (evL nm c q)).2.2.1 ((evL nm e (evL nm c q)).1 - 2)) ((evL nm e (evL nm c q)).2.2.1 ((evL nm e (evL nm c q)).1 - 1)))) := by
    show stepE nm o 0 _ = _
    unfold stepE
    rw [if_neg ho, if_neg h2, if_neg h10, if_pos h20]
  have n2 : (evL nm e (evL nm c q)).1 = q.1 + 2 := by omega
  have m2 : (evL nm e (evL nm c q)).2.1 = q.2.1 := by omega
  have v1 : (evL nm e (evL nm c q)).2.2.1 (q.1 + 1) = G nm := by rw [← c1]; exact e3
  have v0 : (evL nm e (evL nm c q)).2.2.1 q.1 = F nm := (e4 q.1 (by omega)).trans c3
  rw [es]
  refine ⟨by show _ - 2 = _; omega, by show _ + 1 = _; omega, ?_, fun j hj => (e4 j (by omega)).trans (c4 j hj), fun j hj => ?_, fun l1 l2 => ?_⟩
  · show up _ _ _ q.2.1 = _
    rw [m2, up_eq, n2, show q.1 + 2 - 2 = q.1 by omega, show q.1 + 2 - 1 = q.1 + 1 by omega, v0, v1, hop]
  · show up _ _ _ j = _
    rw [up_ne (by omega)]
    exact (e5 j (by omega)).trans (c5 j hj)
  · simp only [List.length_append, List.length_cons, List.length_nil] at l1 l2
    refine okL_app _ _ _ (okL_app _ _ _ (c6 (by omega) (by omega)) (e6 (by omega) (by omega))) ?_
    rw [evL_app]
    refine ⟨?_, trivial⟩
    show okE o 0 _ _
    unfold okE
    rw [if_neg ho, if_neg h2, if_neg h10, if_pos h20]
    omega
/-- two truths joined -/
theorem CA.join {c e : Cd} {F G : AskF} (hc : CA c F) (he : CA e G) (o : Int32) (ho : ¬ o ≤ 1) (h2 : ¬ o = 2) (h10 : ¬ o < 10) (h20 : ¬ o < 20) (h20' : ¬ o = 20) : CA (c ++ e ++ [(o, 0)]) (fun N => joinB o (F N) (G N)) := by
  refine ⟨⟨extF_of fun a b k => by rw [extF_at hc.1.1 k, extF_at he.1.1 k], by simp only [List.length_append, List.length_cons, List.length_nil]; omega⟩, fun nm q => ?_⟩
  obtain ⟨c1, c2, c3, c4, c5, c6⟩ := hc.2 nm q
  have lc := hc.1.2
  have le_ := he.1.2
  obtain ⟨e1, e2, e3, e4, e5, e6⟩ := he.2 nm (evL nm c q)
  rw [evL_app, evL_app]
  have es : evL nm [(o, 0)] (evL nm e (evL nm c q)) = ((evL nm e (evL nm c q)).1, (evL nm e (evL nm c q)).2.1 - 1, (evL nm e (evL nm c q)).2.2.1, up (evL nm e (evL nm c q)).2.2.2 ((evL nm e (evL nm c q)).2.1 - 2) (joinB o ((evL nm e (evL nm c q)).2.2.2 ((evL nm e (evL nm c q)).2.1 - 2)) ((evL nm e (evL nm c q)).2.2.2 ((evL nm e (evL nm c q)).2.1 - 1)))) := by
    show stepE nm o 0 _ = _
    unfold stepE
    rw [if_neg ho, if_neg h2, if_neg h10, if_neg h20, if_neg h20']
  have n2 : (evL nm e (evL nm c q)).1 = q.1 := by omega
  have m2 : (evL nm e (evL nm c q)).2.1 = q.2.1 + 2 := by omega
  have v1 : (evL nm e (evL nm c q)).2.2.2 (q.2.1 + 1) = G nm := by rw [← c2]; exact e3
  have v0 : (evL nm e (evL nm c q)).2.2.2 q.2.1 = F nm := (e5 q.2.1 (by omega)).trans c3
  rw [es]
  refine ⟨by show (evL nm e (evL nm c q)).1 = _; omega, by show _ - 1 = _; omega, ?_, fun j hj => (e4 j (by omega)).trans (c4 j hj), fun j hj => ?_, fun l1 l2 => ?_⟩
  · show up _ _ _ q.2.1 = _
    rw [m2, show q.2.1 + 2 - 2 = q.2.1 by omega, up_eq, show q.2.1 + 2 - 1 = q.2.1 + 1 by omega, v0, v1]
  · show up _ _ _ j = _
    rw [up_ne (by omega)]
    exact (e5 j (by omega)).trans (c5 j hj)
  · simp only [List.length_append, List.length_cons, List.length_nil] at l1 l2
    refine okL_app _ _ _ (okL_app _ _ _ (c6 (by omega) (by omega)) (e6 (by omega) (by omega))) ?_
    rw [evL_app]
    refine ⟨?_, trivial⟩
    show okE o 0 _ _
    unfold okE
    rw [if_neg ho, if_neg h2, if_neg h10, if_neg h20, if_neg h20']
    omega
theorem CA.not {c : Cd} {F : AskF} (hc : CA c F) : CA (c ++ [(20, 0)]) (fun N => !F N) := by
  refine ⟨⟨extF_of fun a b k => by rw [extF_at hc.1.1 k], by simp only [List.length_append, List.length_cons, List.length_nil]; omega⟩, fun nm q => ?_⟩
  obtain ⟨c1, c2, c3, c4, c5, c6⟩ := hc.2 nm q
  rw [evL_app]
  have es : evL nm [(20, 0)] (evL nm c q) = ((evL nm c q).1, (evL nm c q).2.1, (evL nm c q).2.2.1, up (evL nm c q).2.2.2 ((evL nm c q).2.1 - 1) (!((evL nm c q).2.2.2 ((evL nm c q).2.1 - 1)))) := by
    show stepE nm 20 0 _ = _
    unfold stepE
    rw [if_neg (by decide), if_neg (by decide), if_neg (by decide), if_neg (by decide), if_pos rfl]
  rw [es]
  refine ⟨c1, c2, ?_, c4, fun j hj => ?_, fun l1 l2 => ?_⟩
  · show up _ _ _ q.2.1 = _
    rw [c2, show q.2.1 + 1 - 1 = q.2.1 by omega, up_eq, c3]
  · show up _ _ _ j = _
    rw [up_ne (by omega)]
    exact c5 j hj
  · simp only [List.length_append, List.length_cons, List.length_nil] at l1 l2
    refine okL_app _ _ _ (c6 (by omega) (by omega)) ⟨?_, trivial⟩
    show okE 20 0 _ _
    unfold okE
    rw [if_neg (by decide), if_neg (by decide), if_neg (by decide), if_neg (by decide), if_pos rfl]
    omega
theorem CS.minus {c : Cd} {F : SumF} (hc : CS c F) : CS (c ++ [(2, 0)]) (fun N => -(F N)) := by
  refine ⟨fun N => ?_, ⟨extF_of fun a b k => by rw [extF_at hc.2.1.1 k], by simp only [List.length_append, List.length_cons, List.length_nil]; omega⟩, fun nm q => ?_⟩
  · have h := hc.1 N
    have e : (-(F N)).toInt = -(F N).toInt := by
      rw [Int64.toInt_neg]
      exact Int.bmod_eq_of_le (by omega) (by omega)
    rw [e]
    omega
  obtain ⟨c1, c2, c3, c4, c5, c6⟩ := hc.2.2 nm q
  rw [evL_app]
  have es : evL nm [(2, 0)] (evL nm c q) = ((evL nm c q).1, (evL nm c q).2.1, up (evL nm c q).2.2.1 ((evL nm c q).1 - 1) (-((evL nm c q).2.2.1 ((evL nm c q).1 - 1))), (evL nm c q).2.2.2) := by
    show stepE nm 2 0 _ = _
    unfold stepE
    rw [if_neg (by decide), if_pos rfl]
  rw [es]
  refine ⟨c1, c2, ?_, fun j hj => ?_, c5, fun l1 l2 => ?_⟩
  · show up _ _ _ q.1 = _
    rw [c1, show q.1 + 1 - 1 = q.1 by omega, up_eq, c3]
  · show up _ _ _ j = _
    rw [up_ne (by omega)]
    exact c4 j hj
  · simp only [List.length_append, List.length_cons, List.length_nil] at l1 l2
    refine okL_app _ _ _ (c6 (by omega) (by omega)) ⟨?_, trivial⟩
    show okE 2 0 _ _
    unfold okE
    rw [if_neg (by decide), if_pos rfl]
    omega
theorem s64_32 (x : Int32) : -2147483648 ≤ x.toInt64.toInt ∧ x.toInt64.toInt ≤ 2147483647 := by
  rw [Int32.toInt_toInt64]
  have h1 := Int32.le_toInt x
  have h2 := Int32.toInt_lt x
  omega
theorem CS.num (n : Int32) : CS [(0, n)] (fun _ => n.toInt64) := by
  refine ⟨fun N => by have := s64_32 n; show _ ≤ n.toInt64.toInt ∧ n.toInt64.toInt ≤ _; omega, ⟨extF_of fun a b k => rfl, Nat.le_refl _⟩, fun nm q => ?_⟩
  have es : evL nm [(0, n)] q = (q.1 + 1, q.2.1, up q.2.2.1 q.1 n.toInt64, q.2.2.2) := by
    show stepE nm 0 n q = _
    unfold stepE
    rw [if_pos (by decide), if_pos rfl]
  rw [es]
  refine ⟨rfl, rfl, up_eq, fun j hj => up_ne (by omega), fun _ _ => rfl, fun l1 l2 => ⟨?_, trivial⟩⟩
  show okE 0 n _ _
  unfold okE
  rw [if_pos (by decide)]
  simp only [List.length_cons, List.length_nil] at l1 l2
  exact ⟨by omega, fun z => absurd rfl z, by omega⟩
theorem CS.name {w : Int32} (h0 : 0 ≤ w.toInt) (h8 : w.toInt < 8) : CS [(1, w)] (fun N => (N (cI w)).toInt64) := by
  have hc := cI_of h0
  refine ⟨fun N => by have := s64_32 (N (cI w)); show _ ≤ (N (cI w)).toInt64.toInt ∧ (N (cI w)).toInt64.toInt ≤ _; omega, ⟨extF_of fun a b k => by rw [k (cI w) (by omega)], Nat.le_refl _⟩, fun nm q => ?_⟩
  have es : evL nm [(1, w)] q = (q.1 + 1, q.2.1, up q.2.2.1 q.1 (nm (cI w)).toInt64, q.2.2.2) := by
    show stepE nm 1 w q = _
    unfold stepE
    rw [if_pos (by decide), if_neg (by decide)]
  rw [es]
  refine ⟨rfl, rfl, up_eq, fun j hj => up_ne (by omega), fun _ _ => rfl, fun l1 l2 => ⟨?_, trivial⟩⟩
  show okE 1 w _ _
  unfold okE
  rw [if_pos (by decide)]
  simp only [List.length_cons, List.length_nil] at l1 l2
  exact ⟨by omega, fun _ => ⟨h0, h8⟩, by omega⟩
theorem clipL_b (v : Int64) : -1000000 ≤ (clipL v).toInt ∧ (clipL v).toInt ≤ 1000000 := by
  have h1 : (1000000 : Int64).toInt = 1000000 := rfl
  have h2 : (-1000000 : Int64).toInt = -1000000 := rfl
  unfold clipL
  split
  · rw [h1]; omega
  · rename_i a
    split
    · rw [h2]; omega
    · rename_i b
      rw [Int64.lt_iff_toInt_lt, h1] at a
      rw [Int64.lt_iff_toInt_lt, h2] at b
      omega
theorem twoL_b (o : Int32) (x y : Int64) : -1000000 ≤ (twoL o x y).toInt ∧ (twoL o x y).toInt ≤ 1000000 := by
  unfold twoL
  split
  · exact clipL_b _
  split
  · exact clipL_b _
  split
  · exact clipL_b _
  split
  · exact ⟨by decide, by decide⟩
  · exact clipL_b _
theorem CS.bin {c e : Cd} {F G : SumF} (hc : CS c F) (he : CS e G) (o : Int32) (ho : ¬ o ≤ 1) (h2 : ¬ o = 2) (h10 : o < 10) (h7 : ¬ o = 7) : CS (c ++ e ++ [(o, 0)]) (fun N => twoL o (F N) (G N)) :=
  CS.two hc he o (twoL o) ho h2 h10 (fun x y => if_neg h7) (fun N => by have := twoL_b o (F N) (G N); show _ ≤ (twoL o (F N) (G N)).toInt ∧ (twoL o (F N) (G N)).toInt ≤ _; omega)
