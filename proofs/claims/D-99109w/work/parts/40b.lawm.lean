/-! LAW: a text of the model says what the system's text says (by hand) -/
set_option maxRecDepth 100000
theorem srch_1st {p : Nat → Bool} {f : Nat → Int32} {d : Int32} : ∀ (m k j : Nat), k ≤ j → j < k + m → p j = true → (∀ i, k ≤ i → i < j → p i = false) → srch p f d m k = f j
  | 0, k, j, h1, h2, _, _ => by omega
  | m + 1, k, j, h1, h2, h3, h4 => by
    have e : srch p f d (m + 1) k = if p k then f k else srch p f d m (k + 1) := rfl
    rw [e]
    by_cases y : j = k
    · subst y; rw [if_pos h3]
    · rw [if_neg (by rw [h4 k (Nat.le_refl _) (by omega)]; decide)]
      exact srch_1st m (k + 1) j (by omega) (by omega) h3 (fun i a b => h4 i (by omega) b)
theorem evE_take {nm : Nat → Int32} {C : Nat → Int32 × Int32} {q : Cd} {Q : Qk} (h : ∀ (k : Nat) cd, q[k]? = some cd → C k = cd) : ∀ k, k ≤ q.length → evE nm C Q k = evL nm (q.take k) Q
  | 0, _ => rfl
  | k + 1, hk => by
    have e : q[k]? = some (q[k]'(by omega)) := List.getElem?_eq_getElem (by omega)
    rw [List.take_succ, e, evL_app, ← evE_take h k (by omega)]
    show stepE nm (C k).1 (C k).2 _ = stepE nm _ _ _
    rw [h k _ e]
theorem okL_take {nm : Nat → Int32} : ∀ (q : Cd) (Q : Qk), okL nm q Q → ∀ (k : Nat) cd, q[k]? = some cd → okE cd.1 cd.2 (evL nm (q.take k) Q).1 (evL nm (q.take k) Q).2.1
  | [], _, _, k, cd, h => by simp at h
  | c :: r, Q, h, 0, cd, hk => by
    rw [List.getElem?_cons_zero] at hk
    cases hk
    exact h.1
  | c :: r, Q, h, k + 1, cd, hk => by
    rw [List.getElem?_cons_succ] at hk
    exact okL_take r _ h.2 k cd hk
/-- the code of a text of the model -/
def CdI (X : Nat → Int32) (t : Nat) (C : Cd) : Prop := C.length ≤ 300 ∧ ∀ (k : Nat) cd, C[k]? = some cd → X (705 * t + 97 + 2 * k) = cd.1 ∧ X (705 * t + 97 + 2 * k + 1) = cd.2
theorem TI.cong {X Y : Nat → Int32} {t : Nat} {cls : List Cl} (h : TI X t cls) (e : ∀ m, 705 * t ≤ m → m < 705 * (t + 1) → Y m = X m) : TI Y t cls := by
  obtain ⟨h1, h2, h3⟩ := h
  refine ⟨by rw [e _ (by omega) (by omega)]; exact h1, h2, fun k cl hk => ?_⟩
  have hl : k < cls.length := (List.getElem?_eq_some_iff.mp hk).1
  obtain ⟨a, b, c, d⟩ := h3 k cl hk
  exact ⟨by rw [e _ (by omega) (by omega)]; exact a, by rw [e _ (by omega) (by omega)]; exact b, fun z => by rw [e _ (by omega) (by omega)]; exact c z, fun z => by rw [e _ (by omega) (by omega)]; exact d z⟩
theorem CdI.cong {X Y : Nat → Int32} {t : Nat} {C : Cd} (h : CdI X t C) (e : ∀ m, 705 * t ≤ m → m < 705 * (t + 1) → Y m = X m) : CdI Y t C := by
  obtain ⟨h1, h2⟩ := h
  refine ⟨h1, fun k cd hk => ?_⟩
  have hl : k < C.length := (List.getElem?_eq_some_iff.mp hk).1
  obtain ⟨a, b⟩ := h2 k cd hk
  exact ⟨by rw [e _ (by omega) (by omega)]; exact a, by rw [e _ (by omega) (by omega)]; exact b⟩
section LWM
variable {X : Nat → Int32} {t : Nat} {cls : List Cl} {C : Cd} {so : Int32}
theorem cl_none (h : TI X t cls) (hs : hasS cls so = false) : clauseF X t cls.length so = -1 := by
  unfold clauseF
  rcases srch_v (p := fun k => decide (X (705 * t + 1 + 4 * k) = so)) (f := nI) (d := -1) (cls.length - 0) 0 with ⟨-, e⟩ | ⟨j, j1, j2, j3, -⟩
  · exact e
  · have hj : j < cls.length := by omega
    obtain ⟨a, -⟩ := h.2.2 j _ (List.getElem?_eq_getElem hj)
    have e := of_decide_eq_true j3
    rw [a] at e
    have : hasS cls so = true := List.any_eq_true.mpr ⟨cls[j], List.getElem_mem hj, decide_eq_true e⟩
    rw [this] at hs
    exact Bool.noConfusion hs
theorem cl_some (h : TI X t cls) {cl : Cl} (hf : cls.find? (fun c => decide (c.1 = so)) = some cl) : ∃ c, c < cls.length ∧ cls[c]? = some cl ∧ clauseF X t cls.length so = nI c := by
  obtain ⟨hp, as, bs, e, hn⟩ := List.find?_eq_some_iff_append.mp hf
  have g : ∀ (j : Nat) c, cls[j]? = some c → X (705 * t + 1 + 4 * j) = c.1 := fun j c hj => (h.2.2 j c hj).1
  have hl : as.length < cls.length := by rw [e, List.length_append, List.length_cons]; omega
  have hc : cls[as.length]? = some cl := by rw [e, List.getElem?_append_right (Nat.le_refl _), Nat.sub_self]; rfl
  refine ⟨as.length, hl, hc, ?_⟩
  unfold clauseF
  refine srch_1st _ 0 as.length (Nat.zero_le _) (by omega) ?_ (fun i _ hi => ?_)
  · show decide (X (705 * t + 1 + 4 * as.length) = so) = true
    rw [g _ _ hc]; exact hp
  · show decide (X (705 * t + 1 + 4 * i) = so) = false
    have hi2 : cls[i]? = some as[i] := by rw [e, List.getElem?_append_left hi]; exact List.getElem?_eq_getElem hi
    rw [g _ _ hi2]
    have := hn _ (List.getElem_mem hi)
    simpa using this
theorem code_at {β : Type} {P : Cd → β → Prop} (h : TI X t cls) (hC : CdI X t C) {F : β} (hso : so ≤ 2) (hl : lwOne P so cls C (some F)) : ∃ c lo hi q, c < cls.length ∧ clauseF X t cls.length so = nI c ∧ X (705 * t + 1 + 4 * c + 1) = nI lo ∧ X (705 * t + 1 + 4 * c + 2) = nI hi ∧ lo ≤ hi ∧ hi ≤ 304 ∧ hi - lo = q.length ∧ q.length ≤ 300 ∧ (∀ (k : Nat) cd, q[k]? = some cd → codeC X t lo k = cd) ∧ P q F := by
  obtain ⟨p, q, r, eC, hf, hP⟩ := hl
  obtain ⟨c, c1, c2, c3⟩ := cl_some h hf
  obtain ⟨a1, a2, a3, -⟩ := h.2.2 c _ c2
  have hlen : p.length + (q.length + r.length) = C.length := by rw [eC, List.length_append, List.length_append]; omega
  have h3 := hC.1
  refine ⟨c, p.length, (p ++ q).length, q, c1, c3, ?_, ?_, by rw [List.length_append]; omega, by rw [List.length_append]; omega, by rw [List.length_append]; omega, by omega, fun k cd hk => ?_, hP⟩
  · rw [show 705 * t + 1 + 4 * c + 1 = 705 * t + 2 + 4 * c by omega]; exact a2
  · rw [show 705 * t + 1 + 4 * c + 2 = 705 * t + 3 + 4 * c by omega]; exact a3 (Or.inl hso)
  · have hk2 : C[p.length + k]? = some cd := by
      have hkl : k < q.length := (List.getElem?_eq_some_iff.mp hk).1
      rw [eC, List.append_assoc, List.getElem?_append_right (by omega), show p.length + k - p.length = k by omega, List.getElem?_append_left hkl]
      exact hk
    obtain ⟨x, y⟩ := hC.2 _ _ hk2
    exact Prod.ext x y
theorem sumT_of (h : TI X t cls) (hC : CdI X t C) {o : Option SumF} (hso : so ≤ 2) (hl : lwOne CS so cls C o) : SumT X t cls.length so o := by
  cases o with
  | none => exact Or.inl ⟨cl_none h hl, rfl⟩
  | some F =>
    obtain ⟨c, lo, hi, q, c1, c2, c3, c4, c5, c6, c7, c8, c9, hS⟩ := code_at h hC hso hl
    have ev : ∀ nm V B k, k ≤ q.length → evE nm (codeC X t lo) (0, 0, V, B) k = evL nm (q.take k) (0, 0, V, B) := fun nm V B k hk => evE_take c9 k hk
    refine Or.inr ⟨c, lo, hi, F, ⟨c1, c2, c3, c4, c5, c6, fun nm V B k hk => ?_⟩, rfl, fun nm V B => ?_⟩
    · have hkl : k < q.length := by omega
      have e : q[k]? = some (q[k]'hkl) := List.getElem?_eq_getElem hkl
      rw [ev nm V B k (by omega), c9 k _ e]
      exact okL_take q _ ((hS.2.2 nm (0, 0, V, B)).2.2.2.2.2 (by show 0 + q.length ≤ 330; omega) (by show 0 + q.length ≤ 330; omega)) k _ e
    · rw [c7, ev nm V B _ (Nat.le_refl _), List.take_length]
      exact (hS.2.2 nm (0, 0, V, B)).2.2.1
theorem askT_of (h : TI X t cls) (hC : CdI X t C) {o : Option AskF} (hso : so ≤ 2) (hl : lwOne CA so cls C o) : AskT X t cls.length so o := by
  cases o with
  | none => exact Or.inl ⟨cl_none h hl, rfl⟩
  | some F =>
    obtain ⟨c, lo, hi, q, c1, c2, c3, c4, c5, c6, c7, c8, c9, hS⟩ := code_at h hC hso hl
    have ev : ∀ nm V B k, k ≤ q.length → evE nm (codeC X t lo) (0, 0, V, B) k = evL nm (q.take k) (0, 0, V, B) := fun nm V B k hk => evE_take c9 k hk
    refine Or.inr ⟨c, lo, hi, F, ⟨c1, c2, c3, c4, c5, c6, fun nm V B k hk => ?_⟩, rfl, fun nm V B => ?_⟩
    · have hkl : k < q.length := by omega
      have e : q[k]? = some (q[k]'hkl) := List.getElem?_eq_getElem hkl
      rw [ev nm V B k (by omega), c9 k _ e]
      exact okL_take q _ ((hS.2 nm (0, 0, V, B)).2.2.2.2.2 (by show 0 + q.length ≤ 330; omega) (by show 0 + q.length ≤ 330; omega)) k _ e
    · rw [c7, ev nm V B _ (Nat.le_refl _), List.take_length]
      exact (hS.2 nm (0, 0, V, B)).2.2.1
/-- the text t, of both sides -/
def TxI (b : AH) (X : Nat → Int32) (t : Nat) (v : Value) (x ix : Nat) (cls : List Cl) (L : Lw) : Prop := v = .ref x ∧ ∃ lo Dl C, RdS b lo x Dl ix cls C L ∧ TI X t cls ∧ CdI X t C ∧ ∀ c, c ∈ cls → okCl c
variable {b b2 : AH} {v : Value} {x ix : Nat} {L : Lw} {Y a : Nat → Int32}
theorem TxI.law (h : TxI b X t v x ix cls L) (ht : t < 4) (ha : a 2 = nI t) : LawM a X L ∧ LawT b x L ∧ extL L := by
  obtain ⟨-, lo, Dl, C, hR, hT, hC, -⟩ := h
  obtain ⟨q1, q2, q3, q4⟩ := hR.law
  obtain ⟨E, ve, vl, vq, dv, -, -, -, -, -, l0, l1, l2⟩ := id hR
  exact ⟨⟨Or.inr ⟨t, _, ha, ht, hT.1, hT.2.1, sumT_of hT hC (by decide) l0⟩, Or.inr ⟨t, _, ha, ht, hT.1, hT.2.1, sumT_of hT hC (by decide) l1⟩, Or.inr ⟨t, _, ha, ht, hT.1, hT.2.1, askT_of hT hC (by decide) l2⟩, q2, q3, q4⟩, q1, q2, q3, q4⟩
theorem TxI.cong (h : TxI b X t v x ix cls L) (e : ∀ m, 705 * t ≤ m → m < 705 * (t + 1) → Y m = X m) : TxI b Y t v x ix cls L := by
  obtain ⟨h0, lo, Dl, C, h1, h2, h3, h4⟩ := h
  exact ⟨h0, lo, Dl, C, h1, h2.cong e, h3.cong e, h4⟩
theorem TxI.ext {c u : Nat} (h : TxI b X t v x ix cls L) (e : Ext c u b b2) : TxI b2 X t v x ix cls L := by
  obtain ⟨h0, lo, Dl, C, h1, h2, h3, h4⟩ := h
  exact ⟨h0, lo, Dl, C, h1.by_ e.1 (fun k hk _ => e.2.2.2.2 k hk), h2, h3, h4⟩
end LWM
