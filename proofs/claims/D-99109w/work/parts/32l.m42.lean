/-! MODEL 42: a clause as a whole (printed by tools/m42.py) -/
set_option maxRecDepth 100000
theorem has_app {cls : List Cl} {cl : Cl} {k : Int32} : hasS (cls ++ [cl]) k = (hasS cls k || decide (cl.1 = k)) := by
  unfold hasS
  rw [List.any_append]
  show (_ || (decide (cl.1 = k) || false)) = _
  rw [Bool.or_false]
theorem onc_lo {cls : List Cl} {cl : Cl} {so : Int32} (hs : so = 0 ∨ so = 1 ∨ so = 2) (h : cl.1 = so) : onc cls ||| 1 <<< (so &&& 31) = onc (cls ++ [cl]) := by
  unfold onc
  rw [has_app, has_app, has_app, h]
  rcases hs with rfl | rfl | rfl <;> cases hasS cls 0 <;> cases hasS cls 1 <;> cases hasS cls 2 <;> rfl
theorem onc_hi {cls : List Cl} {cl : Cl} {so : Int32} (h0 : ¬ so = 0) (h1 : ¬ so = 1) (h2 : ¬ so = 2) (h : cl.1 = so) : onc (cls ++ [cl]) = onc cls := by
  unfold onc
  rw [has_app, has_app, has_app, h, decide_eq_false h0, decide_eq_false h1, decide_eq_false h2, Bool.or_false, Bool.or_false, Bool.or_false]
theorem sort_pos {L : Lq} (h : ¬ sortF L < 0) : sortF L = 0 ∨ sortF L = 1 ∨ sortF L = 2 ∨ sortF L = 3 ∨ sortF L = 4 ∨ sortF L = 5 ∨ sortF L = 6 ∨ sortF L = 7 ∨ sortF L = 8 := by
  rcases sort_or (L := L) with q | q
  · rw [q] at h
    exact absurd (by decide) h
  · exact q
theorem sort_lo {L : Lq} (h : ¬ sortF L < 0) (h2 : sortF L ≤ 2) : sortF L = 0 ∨ sortF L = 1 ∨ sortF L = 2 := by
  rcases sort_pos h with q | q | q | q | q | q | q | q | q
  · exact Or.inl q
  · exact Or.inr (Or.inl q)
  · exact Or.inr (Or.inr q)
  all_goals (rw [q] at h2; exact absurd h2 (by decide))
theorem sort_nz {L : Lq} (h : ¬ sortF L < 0) : ¬ L.2.2.1 = 0 := by
  intro q
  have e : sortF L = -1 := by
    have hw : ∀ x, isWd L x = false := fun x => by
      unfold isWd
      rw [q]
      rfl
    unfold sortF
    simp only [hw]
    rfl
  rw [e] at h
  exact h (by decide)
theorem clause_f {s : Sg} {a b : Int32} {X PA : Nat → Int32} {base : Nat} {C : Cd} {Q : List Int32} {o : Int32} {w : Bool} {n : Nat} {L0 : Lq} {i : Nat} {cls : List Cl} {t : Nat} (ht4 : t < 4) (h12 : s.S 12 = nI (705 * t)) (hb2 : base = 705 * t + 97) (hn : s.S 4 = nI n) (h300 : n ≤ 300) (hby : ∀ k, k < n → 0 ≤ s.A 629 k) (hT : TI X t cls) (hg : gd (s.A 629) n L0 i) (hc : C.length ≤ i) {r : Int32} {j : Nat} (h : clR (byteF (s.A 629) n) (tkL (s.A 629) n L0) cls C i = .inl (r, j)) (hr : ¬ r = 0) : ∃ X2 a2 b2 c2 C2 PA2 Q2 o2 w2, Run 11 mX2_clause [.ref 625] (hp (ps (rs s a b (onc cls)) (tkL (s.A 629) n L0 i) (gq X base C PA Q o w))) (.inl (some (.int r))) (hp (ps (rs s a2 b2 c2) (tkL (s.A 629) n L0 j) (gq X2 base C2 PA2 Q2 o2 w2))) ∧ ∀ m, m < 705 * t → X2 m = X m := by
  have h12b : s.S 12 + 97 = nI base := by rw [h12, hb2, show (97 : Int32) = nI 97 from rfl, nI_add]
  have hX := hT.1
  have hl24 := hT.2.1
  unfold clR at h
  by_cases h0 : (sortF (tkL (s.A 629) n L0 i)) < 0
  · rw [if_pos h0] at h
    obtain ⟨e1, e2⟩ := Prod.mk.inj (Sum.inl.inj h)
    subst e1
    subst e2
    exact ⟨_, _, _, _, _, _, _, _, _, clause_1 hn h300 hby (Int32.not_le.mpr h0), fun m hm => rfl⟩
  rw [if_neg h0] at h
  have h0' : 0 ≤ (sortF (tkL (s.A 629) n L0 i)) := Int32.not_lt.mp h0
  by_cases hd : (sortF (tkL (s.A 629) n L0 i)) ≤ 2 ∧ hasS cls (sortF (tkL (s.A 629) n L0 i)) = true
  · rw [if_pos hd] at h
    have hon : hasI (onc cls) (sortF (tkL (s.A 629) n L0 i)) = true := (onc_has (sort_lo h0 hd.1)).trans hd.2
    obtain ⟨e1, e2⟩ := Prod.mk.inj (Sum.inl.inj h)
    subst e1
    subst e2
    exact ⟨_, _, _, _, _, _, _, _, _, clause_4 hn h300 hby h0' (Int32.not_lt.mpr hd.1) hon, fun m hm => rfl⟩
  rw [if_neg hd] at h
  by_cases m24 : cls.length = 24
  · rw [if_pos m24] at h
    obtain ⟨e1, e2⟩ := Prod.mk.inj (Sum.inl.inj h)
    subst e1
    subst e2
    by_cases hle : (sortF (tkL (s.A 629) n L0 i)) ≤ 2
    · have hon : hasI (onc cls) (sortF (tkL (s.A 629) n L0 i)) = false := by
        rw [onc_has (sort_lo h0 hle)]
        cases q : hasS cls (sortF (tkL (s.A 629) n L0 i))
        · rfl
        · exact absurd ⟨hle, q⟩ hd
      exact ⟨_, _, _, _, _, _, _, _, _, clause_6l hn h300 hby ht4 h12 hb2 hX h0' (Int32.not_lt.mpr hle) hon m24, fun m hm => rfl⟩
    · exact ⟨_, _, _, _, _, _, _, _, _, clause_6h hn h300 hby ht4 h12 hb2 hX h0' (Int32.not_le.mp hle) m24, fun m hm => rfl⟩
  rw [if_neg m24] at h
  have hm : cls.length < 24 := by omega
  have hx : (705 * t + 1 + 4 * cls.length) + 3 < base := by omega
  have hb3 : base + 608 ≤ 2820 := by omega
  have hgi : gd (s.A 629) n L0 (i + 1) := gd_s hg (sort_nz h0)
  have hci : C.length ≤ i + 1 := by omega
  have e0 : ∀ (X2 : Nat → Int32), (∀ m, m ≤ (705 * t + 1 + 4 * cls.length) → X2 m = up X (705 * t + 1 + 4 * cls.length) (sortF (tkL (s.A 629) n L0 i)) m) → X2 (705 * t) = nI cls.length := fun X2 hX2 => (hX2 _ (by omega)).trans ((up_ne (by omega)).trans hX)
  have hso := sort_pos h0
  by_cases hle : (sortF (tkL (s.A 629) n L0 i)) ≤ 2
  · have hle2 : ¬ 2 < (sortF (tkL (s.A 629) n L0 i)) := Int32.not_lt.mpr hle
    have hlo := sort_lo h0 hle
    have hon : hasI (onc cls) (sortF (tkL (s.A 629) n L0 i)) = false := by
      rw [onc_has hlo]
      cases q : hasS cls (sortF (tkL (s.A 629) n L0 i))
      · rfl
      · exact absurd ⟨hle, q⟩ hd
    cases hb : clB (byteF (s.A 629) n) (tkL (s.A 629) n L0) (sortF (tkL (s.A 629) n L0 i)) C (i + 1) with
    | inl q =>
      rw [hb] at h
      obtain ⟨r9, j9⟩ := q
      obtain ⟨e1, e2⟩ := Prod.mk.inj (Sum.inl.inj h)
      subst e1
      subst e2
      obtain ⟨X2, a2, b2, C2, PA2, Q2, o2, w2, hw, hX2⟩ := body_f (a := a) (b := b) (c := (onc cls ||| 1 <<< ((sortF (tkL (s.A 629) n L0 i)) &&& 31))) (X := up X (705 * t + 1 + 4 * cls.length) (sortF (tkL (s.A 629) n L0 i))) (PA := PA) (Q := Q) (o := o) (w := w) hso h12b hn h300 hby (705 * t + 1 + 4 * cls.length) hx hb3 hgi hci r9 j9 hb hr
      exact ⟨X2, a2, b2, _, C2, PA2, Q2, o2, w2, clause_bl hn h300 hby ht4 hm h12 hb2 hX h0' hle2 hon hr hw, fun m hm => (hX2 m (by omega)).trans (up_ne (by omega))⟩
    | inr q =>
      rw [hb] at h
      obtain ⟨cl, C2, j9⟩ := q
      by_cases h59 : (tkL (s.A 629) n L0 j9).2.2.1 = 59
      · exact (inr_inl ((if_pos h59).symm.trans h)).elim
      · obtain ⟨e1, e2⟩ := Prod.mk.inj (Sum.inl.inj ((if_neg h59).symm.trans h))
        subst e1
        subst e2
        obtain ⟨g1, g2, X2, a2, b2, PA2, Q2, o2, w2, hw, hX2, hcl⟩ := body_t (a := a) (b := b) (c := (onc cls ||| 1 <<< ((sortF (tkL (s.A 629) n L0 i)) &&& 31))) (X := up X (705 * t + 1 + 4 * cls.length) (sortF (tkL (s.A 629) n L0 i))) (PA := PA) (Q := Q) (o := o) (w := w) hso h12b hn h300 hby (705 * t + 1 + 4 * cls.length) hx hb3 hgi hci cl C2 j9 hb
        exact ⟨_, a2, b2, _, C2, PA2, Q2, o2, w2, clause_sl (r := 0) (a := a) hn h300 hby ht4 hm h12 hb2 hX h0' hle2 hon (e0 X2 hX2) hw h59, fun m hm => (up_ne (by omega)).trans ((hX2 m (by omega)).trans (up_ne (by omega)))⟩
  · have hgt : 2 < (sortF (tkL (s.A 629) n L0 i)) := Int32.not_le.mp hle
    cases hb : clB (byteF (s.A 629) n) (tkL (s.A 629) n L0) (sortF (tkL (s.A 629) n L0 i)) C (i + 1) with
    | inl q =>
      rw [hb] at h
      obtain ⟨r9, j9⟩ := q
      obtain ⟨e1, e2⟩ := Prod.mk.inj (Sum.inl.inj h)
      subst e1
      subst e2
      obtain ⟨X2, a2, b2, C2, PA2, Q2, o2, w2, hw, hX2⟩ := body_f (a := a) (b := b) (c := (onc cls)) (X := up X (705 * t + 1 + 4 * cls.length) (sortF (tkL (s.A 629) n L0 i))) (PA := PA) (Q := Q) (o := o) (w := w) hso h12b hn h300 hby (705 * t + 1 + 4 * cls.length) hx hb3 hgi hci r9 j9 hb hr
      exact ⟨X2, a2, b2, _, C2, PA2, Q2, o2, w2, clause_bh hn h300 hby ht4 hm h12 hb2 hX h0' hgt hr hw, fun m hm => (hX2 m (by omega)).trans (up_ne (by omega))⟩
    | inr q =>
      rw [hb] at h
      obtain ⟨cl, C2, j9⟩ := q
      by_cases h59 : (tkL (s.A 629) n L0 j9).2.2.1 = 59
      · exact (inr_inl ((if_pos h59).symm.trans h)).elim
      · obtain ⟨e1, e2⟩ := Prod.mk.inj (Sum.inl.inj ((if_neg h59).symm.trans h))
        subst e1
        subst e2
        obtain ⟨g1, g2, X2, a2, b2, PA2, Q2, o2, w2, hw, hX2, hcl⟩ := body_t (a := a) (b := b) (c := (onc cls)) (X := up X (705 * t + 1 + 4 * cls.length) (sortF (tkL (s.A 629) n L0 i))) (PA := PA) (Q := Q) (o := o) (w := w) hso h12b hn h300 hby (705 * t + 1 + 4 * cls.length) hx hb3 hgi hci cl C2 j9 hb
        exact ⟨_, a2, b2, _, C2, PA2, Q2, o2, w2, clause_sh (r := 0) (a := a) hn h300 hby ht4 hm h12 hb2 hX h0' hgt (e0 X2 hX2) hw h59, fun m hm => (up_ne (by omega)).trans ((hX2 m (by omega)).trans (up_ne (by omega)))⟩
theorem clause_t {s : Sg} {a b : Int32} {X PA : Nat → Int32} {base : Nat} {C : Cd} {Q : List Int32} {o : Int32} {w : Bool} {n : Nat} {L0 : Lq} {i : Nat} {cls : List Cl} {t : Nat} (ht4 : t < 4) (h12 : s.S 12 = nI (705 * t)) (hb2 : base = 705 * t + 97) (hn : s.S 4 = nI n) (h300 : n ≤ 300) (hby : ∀ k, k < n → 0 ≤ s.A 629 k) (hT : TI X t cls) (hg : gd (s.A 629) n L0 i) (hc : C.length ≤ i) {cl : Cl} {C2 : Cd} {j : Nat} (h : clR (byteF (s.A 629) n) (tkL (s.A 629) n L0) cls C i = .inr (cl, C2, j)) : gd (s.A 629) n L0 j ∧ C2.length ≤ j ∧ ∃ X2 a2 b2 PA2 Q2 o2 w2, Run 11 mX2_clause [.ref 625] (hp (ps (rs s a b (onc cls)) (tkL (s.A 629) n L0 i) (gq X base C PA Q o w))) (.inl (some (.int 0))) (hp (ps (rs s a2 b2 (onc (cls ++ [cl]))) (tkL (s.A 629) n L0 j) (gq X2 base C2 PA2 Q2 o2 w2))) ∧ TI X2 t (cls ++ [cl]) ∧ ∀ m, m < 705 * t → X2 m = X m := by
  have h12b : s.S 12 + 97 = nI base := by rw [h12, hb2, show (97 : Int32) = nI 97 from rfl, nI_add]
  have hX := hT.1
  have hl24 := hT.2.1
  unfold clR at h
  by_cases h0 : (sortF (tkL (s.A 629) n L0 i)) < 0
  · rw [if_pos h0] at h
    exact (inl_inr h).elim
  rw [if_neg h0] at h
  have h0' : 0 ≤ (sortF (tkL (s.A 629) n L0 i)) := Int32.not_lt.mp h0
  by_cases hd : (sortF (tkL (s.A 629) n L0 i)) ≤ 2 ∧ hasS cls (sortF (tkL (s.A 629) n L0 i)) = true
  · rw [if_pos hd] at h
    have hon : hasI (onc cls) (sortF (tkL (s.A 629) n L0 i)) = true := (onc_has (sort_lo h0 hd.1)).trans hd.2
    exact (inl_inr h).elim
  rw [if_neg hd] at h
  by_cases m24 : cls.length = 24
  · rw [if_pos m24] at h
    exact (inl_inr h).elim
  rw [if_neg m24] at h
  have hm : cls.length < 24 := by omega
  have hx : (705 * t + 1 + 4 * cls.length) + 3 < base := by omega
  have hb3 : base + 608 ≤ 2820 := by omega
  have hgi : gd (s.A 629) n L0 (i + 1) := gd_s hg (sort_nz h0)
  have hci : C.length ≤ i + 1 := by omega
  have e0 : ∀ (X2 : Nat → Int32), (∀ m, m ≤ (705 * t + 1 + 4 * cls.length) → X2 m = up X (705 * t + 1 + 4 * cls.length) (sortF (tkL (s.A 629) n L0 i)) m) → X2 (705 * t) = nI cls.length := fun X2 hX2 => (hX2 _ (by omega)).trans ((up_ne (by omega)).trans hX)
  have hso := sort_pos h0
  by_cases hle : (sortF (tkL (s.A 629) n L0 i)) ≤ 2
  · have hle2 : ¬ 2 < (sortF (tkL (s.A 629) n L0 i)) := Int32.not_lt.mpr hle
    have hlo := sort_lo h0 hle
    have hon : hasI (onc cls) (sortF (tkL (s.A 629) n L0 i)) = false := by
      rw [onc_has hlo]
      cases q : hasS cls (sortF (tkL (s.A 629) n L0 i))
      · rfl
      · exact absurd ⟨hle, q⟩ hd
    cases hb : clB (byteF (s.A 629) n) (tkL (s.A 629) n L0) (sortF (tkL (s.A 629) n L0 i)) C (i + 1) with
    | inl q =>
      rw [hb] at h
      exact (inl_inr h).elim
    | inr q =>
      rw [hb] at h
      obtain ⟨cl9, C9, j9⟩ := q
      by_cases h59 : (tkL (s.A 629) n L0 j9).2.2.1 = 59
      · obtain ⟨e1, e2⟩ := Prod.mk.inj (Sum.inr.inj ((if_pos h59).symm.trans h))
        obtain ⟨e2, e3⟩ := Prod.mk.inj e2
        subst e1
        subst e2
        subst e3
        obtain ⟨g1, g2, X2, a2, b2, PA2, Q2, o2, w2, hw, hX2, hcl⟩ := body_t (a := a) (b := b) (c := (onc cls ||| 1 <<< ((sortF (tkL (s.A 629) n L0 i)) &&& 31))) (X := up X (705 * t + 1 + 4 * cls.length) (sortF (tkL (s.A 629) n L0 i))) (PA := PA) (Q := Q) (o := o) (w := w) hso h12b hn h300 hby (705 * t + 1 + 4 * cls.length) hx hb3 hgi hci cl9 C9 j9 hb
        have hoo : (onc cls ||| 1 <<< ((sortF (tkL (s.A 629) n L0 i)) &&& 31)) = onc (cls ++ [cl9]) := (onc_lo hlo hcl.1)
        have hrun := clause_tl (r := 0) (a := a) hn h300 hby ht4 hm h12 hb2 hX h0' hle2 hon (e0 X2 hX2) hw h59
        rw [← hoo]
        refine ⟨gd_s g1 (by rw [h59]; decide), Nat.le_succ_of_le g2, _, a2, b2, PA2, Q2, o2, w2, hrun, ?_, fun m hm => (up_ne (by omega)).trans ((hX2 m (by omega)).trans (up_ne (by omega)))⟩
        obtain ⟨k1, k2, k3, k4⟩ := hcl
        refine hT.snoc hm up_eq (fun m h1 h2 => (up_ne (by omega)).trans ((hX2 m (by omega)).trans (up_ne (by omega)))) ⟨(up_ne (by omega)).trans ((hX2 _ (Nat.le_refl _)).trans (up_eq.trans k1.symm)), ?_, fun z => ?_, fun z => ?_⟩
        · rw [up_ne (by omega), show 705 * t + 2 + 4 * cls.length = (705 * t + 1 + 4 * cls.length) + 1 by omega]; exact k2
        · rw [up_ne (by omega), show 705 * t + 3 + 4 * cls.length = (705 * t + 1 + 4 * cls.length) + 2 by omega]; exact k3 (by rw [← k1]; exact z)
        · rw [up_ne (by omega), show 705 * t + 4 + 4 * cls.length = (705 * t + 1 + 4 * cls.length) + 3 by omega]; exact k4 (by rw [← k1]; exact z)
      · exact (inl_inr ((if_neg h59).symm.trans h)).elim
  · have hgt : 2 < (sortF (tkL (s.A 629) n L0 i)) := Int32.not_le.mp hle
    cases hb : clB (byteF (s.A 629) n) (tkL (s.A 629) n L0) (sortF (tkL (s.A 629) n L0 i)) C (i + 1) with
    | inl q =>
      rw [hb] at h
      exact (inl_inr h).elim
    | inr q =>
      rw [hb] at h
      obtain ⟨cl9, C9, j9⟩ := q
      by_cases h59 : (tkL (s.A 629) n L0 j9).2.2.1 = 59
      · obtain ⟨e1, e2⟩ := Prod.mk.inj (Sum.inr.inj ((if_pos h59).symm.trans h))
        obtain ⟨e2, e3⟩ := Prod.mk.inj e2
        subst e1
        subst e2
        subst e3
        obtain ⟨g1, g2, X2, a2, b2, PA2, Q2, o2, w2, hw, hX2, hcl⟩ := body_t (a := a) (b := b) (c := (onc cls)) (X := up X (705 * t + 1 + 4 * cls.length) (sortF (tkL (s.A 629) n L0 i))) (PA := PA) (Q := Q) (o := o) (w := w) hso h12b hn h300 hby (705 * t + 1 + 4 * cls.length) hx hb3 hgi hci cl9 C9 j9 hb
        have hoo : (onc cls) = onc (cls ++ [cl9]) := (onc_hi (fun z => hle (by rw [z]; decide)) (fun z => hle (by rw [z]; decide)) (fun z => hle (by rw [z]; decide)) hcl.1).symm
        have hrun := clause_th (r := 0) (a := a) hn h300 hby ht4 hm h12 hb2 hX h0' hgt (e0 X2 hX2) hw h59
        rw [← hoo]
        refine ⟨gd_s g1 (by rw [h59]; decide), Nat.le_succ_of_le g2, _, a2, b2, PA2, Q2, o2, w2, hrun, ?_, fun m hm => (up_ne (by omega)).trans ((hX2 m (by omega)).trans (up_ne (by omega)))⟩
        obtain ⟨k1, k2, k3, k4⟩ := hcl
        refine hT.snoc hm up_eq (fun m h1 h2 => (up_ne (by omega)).trans ((hX2 m (by omega)).trans (up_ne (by omega)))) ⟨(up_ne (by omega)).trans ((hX2 _ (Nat.le_refl _)).trans (up_eq.trans k1.symm)), ?_, fun z => ?_, fun z => ?_⟩
        · rw [up_ne (by omega), show 705 * t + 2 + 4 * cls.length = (705 * t + 1 + 4 * cls.length) + 1 by omega]; exact k2
        · rw [up_ne (by omega), show 705 * t + 3 + 4 * cls.length = (705 * t + 1 + 4 * cls.length) + 2 by omega]; exact k3 (by rw [← k1]; exact z)
        · rw [up_ne (by omega), show 705 * t + 4 + 4 * cls.length = (705 * t + 1 + 4 * cls.length) + 3 by omega]; exact k4 (by rw [← k1]; exact z)
      · exact (inl_inr ((if_neg h59).symm.trans h)).elim
