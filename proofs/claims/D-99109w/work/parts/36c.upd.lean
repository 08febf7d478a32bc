/-! UPDATES of the row at hand: one field changed on both sides; a day that passes (by hand) -/
set_option maxRecDepth 100000
/-- but for the row at hand all is as it was -/
def Cu (a b : Nat → Int32) : Prop := ∀ j, (j < 8 ∨ (12 ≤ j ∧ j < 68 ∧ 4 ≤ (j - 12) % 8) ∨ (68 ≤ j ∧ j < 2268)) → b j = a j
theorem Cu.refl (a : Nat → Int32) : Cu a a := fun _ _ => rfl
theorem Cu.trans {a b c : Nat → Int32} (h : Cu a b) (k : Cu b c) : Cu a c := fun j hj => (k j hj).trans (h j hj)
theorem Cu.h {a : Nat → Int32} {h k : Nat} {v : Int32} (hh : h < 7) (hk : k < 4) : Cu a (up a (12 + 8 * h + k) v) := fun j hj => up_ne (by omega)
theorem Cu.p {a : Nat → Int32} {k : Nat} {v : Int32} (hk : 8 ≤ k ∧ k < 12 ∨ 2268 ≤ k) : Cu a (up a k v) := fun j hj => up_ne (by omega)
theorem ptM_k {a : Nat → Int32} {h k : Nat} {v : Int32} (hh : h < 8) (hk : k < 8) : ptM a (nI h) (nI k) v = up a (12 + 8 * h + k) v := by
  unfold ptM
  have e : cI (12 + 8 * nI h + nI k) = 12 + 8 * h + k := at3 12 8 h k (by omega)
  rw [e]
section UPD
variable {N : Nat} {a r : Nat → Int32} {h : Nat} {v : Int32}
theorem CurR.day (k : CurR N a r) (h7 : N ≤ 7) {d : Nat} (hd : d ≤ 9999) : CurR N (up a 8 (nI d)) (up r 0 (nI d)) := by
  obtain ⟨w, h1, ⟨a1, a2⟩, ⟨b1, b2⟩, ⟨c1, c2, c3⟩, dd, z⟩ := k
  refine ⟨w, by rw [up_ne (by decide)]; exact h1, ⟨by rw [up_eq, up_eq], d, hd, up_eq⟩, ⟨by rw [up_ne (by decide), up_ne (by decide)]; exact b1, by rw [up_ne (by decide)]; exact b2⟩, ⟨by rw [up_ne (by decide)]; exact c1, c2, fun i hi => ?_⟩, fun q hq => ?_, fun i hi => by rw [up_ne (by decide)]; exact z i hi⟩
  · show PagR (up a 8 (nI d) (2268 + i)) _ _ _
    rw [up_ne (by omega), up_ne (by omega), up_ne (by omega), up_ne (by omega)]
    exact c3 i hi
  · obtain ⟨q1, q2, q3, q4⟩ := dd q hq
    unfold CurH at *
    refine ⟨?_, ?_, ?_, ?_⟩ <;> dsimp only
    · rw [up_ne (by omega), up_ne (by omega)]; exact q1
    · rw [up_ne (by omega), up_ne (by omega)]; exact q2
    · rw [up_ne (by omega), up_ne (by omega)]; exact q3
    · rw [up_ne (by omega), up_ne (by omega)]; exact q4
theorem CurR.draw (k : CurR N a r) (h7 : N ≤ 7) {d : Nat} (hd : d < 30431) : CurR N (up a 9 (nI d)) (up r 1 (nI d)) := by
  obtain ⟨w, h1, ⟨a1, a2⟩, ⟨b1, b2⟩, ⟨c1, c2, c3⟩, dd, z⟩ := k
  refine ⟨w, by rw [up_ne (by decide)]; exact h1, ⟨by rw [up_ne (by decide), up_ne (by decide)]; exact a1, by rw [up_ne (by decide)]; exact a2⟩, ⟨by rw [up_eq, up_eq], d, hd, up_eq⟩, ⟨by rw [up_ne (by decide)]; exact c1, c2, fun i hi => ?_⟩, fun q hq => ?_, fun i hi => by rw [up_ne (by decide)]; exact z i hi⟩
  · show PagR (up a 9 (nI d) (2268 + i)) _ _ _
    rw [up_ne (by omega), up_ne (by omega), up_ne (by omega), up_ne (by omega)]
    exact c3 i hi
  · obtain ⟨q1, q2, q3, q4⟩ := dd q hq
    unfold CurH at *
    refine ⟨?_, ?_, ?_, ?_⟩ <;> dsimp only
    · rw [up_ne (by omega), up_ne (by omega)]; exact q1
    · rw [up_ne (by omega), up_ne (by omega)]; exact q2
    · rw [up_ne (by omega), up_ne (by omega)]; exact q3
    · rw [up_ne (by omega), up_ne (by omega)]; exact q4
/-- one field of one house: the k-th (0 shut, 1 purse, 2 friends), beside it the system's -/
theorem CurR.fld (k : CurR N a r) (h7 : N ≤ 7) (hh : h < N) {f : Nat} (hf : f < 3) (hv : (f = 0 → shOk v) ∧ (f = 1 → puOk v) ∧ (f = 2 → frOk v)) : CurR N (up a (12 + 8 * h + f) v) (up r (3 + 7 * f + h) v) := by
  obtain ⟨w, h1, ⟨a1, a2⟩, ⟨b1, b2⟩, ⟨c1, c2, c3⟩, dd, z⟩ := k
  refine ⟨w, by rw [up_ne (by omega)]; exact h1, ⟨by rw [up_ne (by omega), up_ne (by omega)]; exact a1, by rw [up_ne (by omega)]; exact a2⟩, ⟨by rw [up_ne (by omega), up_ne (by omega)]; exact b1, by rw [up_ne (by omega)]; exact b2⟩, ⟨by rw [up_ne (by omega)]; exact c1, c2, fun i hi => ?_⟩, fun q hq => ?_, fun i hi => by rw [up_ne (by omega)]; exact z i hi⟩
  · show PagR (up a (12 + 8 * h + f) v (2268 + i)) _ _ _
    rw [up_ne (by omega), up_ne (by omega), up_ne (by omega), up_ne (by omega)]
    exact c3 i hi
  · obtain ⟨⟨q1, p1⟩, ⟨q2, p2⟩, ⟨q3, p3⟩, q4⟩ := dd q hq
    unfold CurH at *
    refine ⟨?_, ?_, ?_, ?_⟩ <;> dsimp only
    · by_cases e : q = h ∧ f = 0
      · obtain ⟨e1, e2⟩ := e
        subst e1 e2
        rw [show 3 + 7 * 0 + q = 3 + q by omega, up_eq, up_eq]
        exact ⟨rfl, hv.1 rfl⟩
      · rw [up_ne (by omega), up_ne (by omega)]; exact ⟨q1, p1⟩
    · by_cases e : q = h ∧ f = 1
      · obtain ⟨e1, e2⟩ := e
        subst e1 e2
        rw [show 3 + 7 * 1 + q = 10 + q by omega, up_eq, up_eq]
        exact ⟨rfl, hv.2.1 rfl⟩
      · rw [up_ne (by omega), up_ne (by omega)]; exact ⟨q2, p2⟩
    · by_cases e : q = h ∧ f = 2
      · obtain ⟨e1, e2⟩ := e
        subst e1 e2
        rw [show 3 + 7 * 2 + q = 17 + q by omega, up_eq, up_eq]
        exact ⟨rfl, hv.2.2 rfl⟩
      · rw [up_ne (by omega), up_ne (by omega)]; exact ⟨q3, p3⟩
    · rw [up_ne (by omega), up_ne (by omega)]; exact q4
theorem CurR.sh (k : CurR N a r) (h7 : N ≤ 7) (hh : h < N) (hv : shOk v) : CurR N (up a (12 + 8 * h + 0) v) (up r (3 + h) v) := k.fld (f := 0) h7 hh (by decide) ⟨fun _ => hv, fun e => absurd e (by decide), fun e => absurd e (by decide)⟩
theorem CurR.pu (k : CurR N a r) (h7 : N ≤ 7) (hh : h < N) (hv : puOk v) : CurR N (up a (12 + 8 * h + 1) v) (up r (10 + h) v) := k.fld (f := 1) h7 hh (by decide) ⟨fun e => absurd e (by decide), fun _ => hv, fun e => absurd e (by decide)⟩
theorem CurR.fr (k : CurR N a r) (h7 : N ≤ 7) (hh : h < N) (hv : frOk v) : CurR N (up a (12 + 8 * h + 2) v) (up r (17 + h) v) := k.fld (f := 2) h7 hh (by decide) ⟨fun e => absurd e (by decide), fun e => absurd e (by decide), fun _ => hv⟩
theorem CurR.gone (k : CurR N a r) (h7 : N ≤ 7) (hh : h < N) : CurR N (up a (12 + 8 * h + 3) 1) (up r 2 (r 2 ||| bit (nI h))) := by
  obtain ⟨w, h1, ⟨a1, a2⟩, ⟨b1, b2⟩, ⟨c1, c2, c3⟩, dd, z⟩ := k
  refine ⟨w, by rw [up_ne (by omega)]; exact h1, ⟨by rw [up_ne (by omega), up_ne (by omega)]; exact a1, by rw [up_ne (by omega)]; exact a2⟩, ⟨by rw [up_ne (by omega), up_ne (by omega)]; exact b1, by rw [up_ne (by omega)]; exact b2⟩, ⟨by rw [up_ne (by omega)]; exact c1, c2, fun i hi => ?_⟩, fun q hq => ?_, fun i hi => ?_⟩
  · show PagR (up a (12 + 8 * h + 3) 1 (2268 + i)) _ _ _
    rw [up_ne (by omega), up_ne (by omega), up_ne (by omega), up_ne (by omega)]
    exact c3 i hi
  · obtain ⟨q1, q2, q3, q4⟩ := dd q hq
    unfold CurH at *
    refine ⟨?_, ?_, ?_, ?_⟩ <;> dsimp only
    · rw [up_ne (by omega), up_ne (by omega)]; exact q1
    · rw [up_ne (by omega), up_ne (by omega)]; exact q2
    · rw [up_ne (by omega), up_ne (by omega)]; exact q3
    · rw [up_eq, tb_or, tb_bit (by omega)]
      by_cases e : q = h
      · subst e
        rw [up_eq]
        simp [b2i]
      · rw [up_ne (by omega), q4]
        simp [e]
  · rw [up_eq, tb_or, tb_bit (by omega), z i hi]
    simp
    omega
theorem RelX.cur {N nt c e g : Nat} {a b : Nat → Int32} {A A2 : Nat → Nat → Int32} (h : RelX N nt c e g a A) (hb : Cu a b) (hA : ∀ k, k ≠ 515 → 514 ≤ k → k < 565 → A2 k = A k) (hc : CurR N b (A2 515)) : RelX N nt c e g b A2 := by
  obtain ⟨⟨⟨h1, h2, h3⟩, ⟨h4, h5, h6⟩, ⟨h7, h8⟩, ⟨h9, h10, h11⟩, ⟨h12, h13, h14⟩, ⟨h15, h16, h17⟩⟩, k1, k2, k3, k4, k5⟩ := h
  have en : A2 514 = A 514 := hA 514 (by decide) (by decide) (by decide)
  refine ⟨⟨⟨(hb 0 (by omega)).trans h1, en ▸ h2, h3⟩, ⟨(hb 1 (by omega)).trans h4, en ▸ h5, h6⟩, ⟨by rw [en, hb 2 (by omega)]; exact h7, by rw [hb 2 (by omega)]; exact h8⟩, ⟨(hb 3 (by omega)).trans h9, en ▸ h10, h11⟩, ⟨(hb 4 (by omega)).trans h12, en ▸ h13, h14⟩, ⟨(hb 5 (by omega)).trans h15, en ▸ h16, h17⟩⟩, fun h hh => ?_, hc, fun i hi => ?_, fun i hi => ?_, fun i hi => ?_⟩
  · rw [hb _ (by omega), hb _ (by omega), hb _ (by omega)]
    exact k1 h hh
  · rw [hA (535 + i) (by omega) (by omega) (by omega)]
    exact (k3 i hi).cg h3 (fun h k _ _ => hb _ (by omega)) (fun j _ _ => hb j (by omega)) (fun j hj => rfl)
  · rw [hb _ (by omega), hb _ (by omega), hb _ (by omega), hA (517 + i) (by omega) (by omega) (by omega)]
    exact k4 i hi
  · rw [hb _ (by omega), hb _ (by omega), hA (526 + i) (by omega) (by omega) (by omega)]
    exact k5 i hi
end UPD
/-! numbers held within bounds -/
theorem cutI_i (x lo hi : Int32) : cutI x lo hi = if x < lo then lo else if hi < x then hi else x := by
  unfold cutI cutL
  have e1 : ∀ p q : Int32, (p.toInt64 < q.toInt64) = (p < q) := fun p q => by
    rw [Int64.lt_iff_toInt_lt, Int32.lt_iff_toInt_lt, Int32.toInt_toInt64, Int32.toInt_toInt64]
  simp only [e1, Int32.toInt32_toInt64]
theorem cut_k {m lo hi : Nat} (h1 : lo ≤ m) (h2 : m ≤ hi) (h3 : hi < 2147483648) : cutI (nI m) (nI lo) (nI hi) = nI m := by
  rw [cutI_i, if_neg (nI_nlt h1 (by omega)), if_neg (nI_nlt h2 h3)]
theorem cut_hi {m lo hi : Nat} (h1 : lo ≤ hi) (h2 : hi ≤ m) (h3 : m < 2147483648) : cutI (nI m) (nI lo) (nI hi) = nI hi := by
  rw [cutI_i, if_neg (nI_nlt (by omega) (by omega))]
  by_cases e : hi = m
  · subst e; rw [if_neg (nI_nlt (Nat.le_refl _) (by omega))]
  · rw [if_pos (nI_lt (by omega) (by omega))]
theorem neg_i {p : Nat} (h1 : 0 < p) (h2 : p < 2147483648) {hi : Int32} : cutI (-(nI p)) 0 hi = 0 := by
  rw [cutI_i, if_pos]
  rw [Int32.lt_iff_toInt_lt]
  have e : (-(nI p)).toInt = -(p : Int) := by
    rw [Int32.toInt_neg, nI_t h2]
    exact Int.bmod_eq_of_le (by omega) (by omega)
  rw [e]
  show -(p : Int) < 0
  omega
theorem sub_le {p q : Nat} (h : q ≤ p) : nI p + -(nI q) = nI (p - q) := by
  rw [← Int32.sub_eq_add_neg]
  exact pk_sub h
theorem sub_gt {p q : Nat} (h : p < q) : nI p + -(nI q) = -(nI (q - p)) := by
  rw [← pk_sub (Nat.le_of_lt h), Int32.neg_sub, Int32.sub_eq_add_neg]
/-- a purse or friends, less some; more some -/
theorem cut_less {p q hi : Nat} (hp : p ≤ hi) (hq : q ≤ 9999) (hh : hi ≤ 9999) : cutI (nI p + -(nI q)) 0 (nI hi) = nI (p - q) := by
  by_cases h : q ≤ p
  · rw [sub_le h]
    exact cut_k (lo := 0) (Nat.zero_le _) (by omega) (by omega)
  · rw [sub_gt (by omega), neg_i (by omega) (by omega), show p - q = 0 by omega]
    rfl
theorem max_less {p q : Nat} (hp : p ≤ 9999) (hq : q ≤ 9999) : maxI 0 (nI p - nI q) = nI (p - q) := by
  unfold maxI
  by_cases h : q ≤ p
  · rw [pk_sub h]
    by_cases e : p = q
    · subst e; rw [Nat.sub_self]; rfl
    · rw [if_pos]
      rw [show (0 : Int32) = nI 0 from rfl]
      exact nI_lt (by omega) (by omega)
  · rw [if_neg]
    · rw [show p - q = 0 by omega]; rfl
    · rw [Int32.lt_iff_toInt_lt, pk_sub_toInt (by omega) (by omega)]
      show ¬ (0 : Int) < _
      omega
theorem cut_more {p q hi : Nat} (hp : p ≤ 9999) (hq : q ≤ 9999) (hh : hi ≤ 9999) : cutI (nI p + nI q) 0 (nI hi) = nI (min (p + q) hi) := by
  rw [nI_add]
  by_cases h : p + q ≤ hi
  · rw [Nat.min_eq_left h]
    exact cut_k (lo := 0) (Nat.zero_le _) h (by omega)
  · rw [Nat.min_eq_right (by omega)]
    exact cut_hi (lo := 0) (Nat.zero_le _) (by omega) (by omega)
theorem min_more {p q hi : Nat} (hp : p ≤ 9999) (hq : q ≤ 9999) (hh : hi ≤ 9999) : minI (nI hi) (nI p + nI q) = nI (min (p + q) hi) := by
  rw [nI_add]
  unfold minI
  by_cases h : p + q < hi
  · rw [if_pos (nI_lt h (by omega)), Nat.min_eq_left (by omega)]
  · rw [if_neg (nI_nlt (by omega) (by omega)), Nat.min_eq_right (by omega)]
theorem held_i (x : Int64) (lo hi : Int32) (h : lo ≤ hi) : heldI x lo hi = cutL x lo hi := by
  have e1 : lo.toInt64.toInt = lo.toInt := Int32.toInt_toInt64 _
  have e2 : hi.toInt64.toInt = hi.toInt := Int32.toInt_toInt64 _
  rw [Int32.le_iff_toInt_le] at h
  unfold heldI cutL maxL minL
  by_cases c1 : x < lo.toInt64
  · rw [if_pos c1]
    have c1' := Int64.lt_iff_toInt_lt.mp c1
    have c2 : ¬ x < hi.toInt64 → False := fun q => q (Int64.lt_iff_toInt_lt.mpr (by omega))
    by_cases c3 : x < hi.toInt64
    · rw [if_pos c3]
      by_cases c4 : x < lo.toInt64
      · rw [if_pos c4]; exact Int32.toInt32_toInt64 _
      · exact absurd c1 c4
    · exact (c2 c3).elim
  · rw [if_neg c1]
    have c1' : ¬ x.toInt < lo.toInt64.toInt := fun q => c1 (Int64.lt_iff_toInt_lt.mpr q)
    by_cases c2 : hi.toInt64 < x
    · rw [if_pos c2]
      have c2' := Int64.lt_iff_toInt_lt.mp c2
      have c3 : ¬ x < hi.toInt64 := fun q => by have := Int64.lt_iff_toInt_lt.mp q; omega
      rw [if_neg c3]
      have c4 : ¬ hi.toInt64 < lo.toInt64 := fun q => by have := Int64.lt_iff_toInt_lt.mp q; omega
      rw [if_neg c4]; exact Int32.toInt32_toInt64 _
    · rw [if_neg c2]
      by_cases c3 : x < hi.toInt64
      · rw [if_pos c3, if_neg c1]
      · rw [if_neg c3]
        have e : x = hi.toInt64 := Int64.toInt_inj.mp (by
          have q1 : ¬ hi.toInt64.toInt < x.toInt := fun q => c2 (Int64.lt_iff_toInt_lt.mpr q)
          have q2 : ¬ x.toInt < hi.toInt64.toInt := fun q => c3 (Int64.lt_iff_toInt_lt.mpr q)
          omega)
        rw [← e, if_neg c1]
theorem cutL_99 (x : Int64) : ∃ m, m ≤ 99 ∧ cutL x 0 99 = nI m := by
  unfold cutL
  by_cases c1 : x < (0 : Int32).toInt64
  · rw [if_pos c1]; exact ⟨0, by decide, rfl⟩
  · rw [if_neg c1]
    by_cases c2 : (99 : Int32).toInt64 < x
    · rw [if_pos c2]; exact ⟨99, by decide, rfl⟩
    · rw [if_neg c2]
      have q1 : ¬ x.toInt < 0 := fun q => c1 (Int64.lt_iff_toInt_lt.mpr q)
      have q2 : ¬ 99 < x.toInt := fun q => c2 (Int64.lt_iff_toInt_lt.mpr q)
      refine ⟨x.toInt.toNat, by omega, ?_⟩
      apply Int32.toInt_inj.mp
      rw [nI_t (by omega), Int64.toInt_toInt32]
      rw [Int.bmod_eq_of_le (by omega) (by omega)]
      omega
/-! the laws say the same on both sides -/
section LAWS
variable {L : Lw} {v : Vw} {h day : Int32}
theorem nm_same (j : Nat) (hj : j < 8) : nmS nm0 v h day j = nmV v h day j := by
  have hj' : j = 0 ∨ j = 1 ∨ j = 2 ∨ j = 3 ∨ j = 4 ∨ j = 5 ∨ j = 6 ∨ j = 7 := by omega
  unfold nmS nmV
  rcases hj' with rfl | rfl | rfl | rfl | rfl | rfl | rfl | rfl <;> simp [up, bcI_bits]
theorem bes_le : ∃ m, m ≤ 2 ∧ v.beside h day = nI m := by
  unfold Vw.beside
  cases v.opn (h - 1) day <;> cases v.opn (h + 1) day
  · exact ⟨0, by decide, rfl⟩
  · exact ⟨1, by decide, rfl⟩
  · exact ⟨1, by decide, rfl⟩
  · exact ⟨2, by decide, rfl⟩
theorem earn_eq (hX : extL L) : earnX L v h day = earnF L v h day := by
  obtain ⟨L1, L2, L3⟩ := L
  unfold earnX earnS earnF
  cases L1 with
  | none =>
    rw [held_i _ _ _ (by decide)]
    show cutL (1 + v.beside h (day % 20)).toInt64 0 99 = 1 + v.beside h (day % 20)
    obtain ⟨m, hm, e⟩ := bes_le (v := v) (h := h) (day := day % 20)
    rw [e, show (1 : Int32) = nI 1 from rfl, nI_add]
    exact cut_k (m := 1 + m) (lo := 0) (hi := 99) (by omega) (by omega) (by omega)
  | some F =>
    rw [held_i _ _ _ (by decide)]
    show cutL (F (nmS nm0 v h day)) 0 99 = cutL (F (nmV v h day)) 0 99
    rw [hX.1 F rfl _ _ nm_same]
theorem lose_eq (hX : extL L) : loseX L v h day = loseF L v h day := by
  obtain ⟨L1, L2, L3⟩ := L
  unfold loseX loseS loseF
  cases L2 with
  | none => rfl
  | some F =>
    rw [held_i _ _ _ (by decide)]
    show cutL (F (nmS nm0 v h day)) 0 99 = cutL (F (nmV v h day)) 0 99
    rw [hX.2.1 F rfl _ _ nm_same]
theorem let_eq (hX : extL L) : letX L v h day = letF L v h day := by
  obtain ⟨L1, L2, L3⟩ := L
  unfold letX letS letF
  cases L3 with
  | none => rfl
  | some F =>
    show F (nmS nm0 v h day) = F (nmV v h day)
    rw [hX.2.2 F rfl _ _ nm_same]
theorem earn_99 (hX : extL L) : ∃ m, m ≤ 99 ∧ earnF L v h day = nI m := by
  rw [← earn_eq hX]
  unfold earnX earnS
  rw [held_i _ _ _ (by decide)]
  exact cutL_99 _
theorem lose_99 (hX : extL L) : ∃ m, m ≤ 99 ∧ loseF L v h day = nI m := by
  rw [← lose_eq hX]
  unfold loseX loseS
  rw [held_i _ _ _ (by decide)]
  exact cutL_99 _
end LAWS
/-! a day that passes -/
section PASS
variable {N : Nat} {a r n : Nat → Int32} {L : Lw}
theorem b2i_eq1 {p : Bool} : (b2i p = 1) ↔ p = true := b2i_1 p
theorem pass_1 (hX : extL L) (h0 : a 0 = nI N) (n0 : n 0 = nI N) (h7 : N ≤ 7) (hc : CurR N a r) {m : Nat} (hm : m < N) : ∃ v, (if gtM a (nI m) 3 = 1 then a else ptM a (nI m) 1 (cutI (gtM a (nI m) 1 + moreF L (vwM a) (nI m) (a 8)) 0 9999)) = (if v = none then a else up a (12 + 8 * m + 1) (v.getD 0)) ∧ pass1 L n r m = (if v = none then r else up r (10 + m) (v.getD 0)) ∧ (∀ x, v = some x → puOk x) := by
  obtain ⟨w, h1, ⟨a1, a2⟩, ⟨b1, b2⟩, ⟨c1, c2, c3⟩, dd, z⟩ := hc
  have hv : vwM a = vwS n r := vw_eq h0 n0 h7 dd
  obtain ⟨⟨q1, p1⟩, ⟨q2, p2⟩, ⟨q3, p3⟩, q4⟩ := dd m hm
  unfold CurH at q1 q2 q3 q4 p1 p2 p3
  obtain ⟨pu, hpu, epu⟩ := p2
  unfold pass1
  rw [g3_n (by omega), has_tb (by omega), q4]
  by_cases hg : tb (r 2) m = true
  · refine ⟨none, ?_, ?_, fun x e => absurd e.symm (Option.some_ne_none x)⟩
    · rw [if_pos (b2i_eq1.mpr hg), if_pos rfl]
    · rw [if_pos hg, if_pos rfl]
  · rw [if_neg (fun q => hg (b2i_eq1.mp q)), if_neg hg, c3_at (by omega), c10_at (by omega), q1, q2, epu, a1, ← hv, g1_n (by omega), epu]
    have es : (vwM a).sh (nI m) = a (12 + 8 * m + 0) := by rw [vwM_sh (N_hou h0 h7 hm), g0_n (by omega)]
    unfold moreF
    rw [es]
    have ept : ∀ x, ptM a (nI m) 1 x = up a (12 + 8 * m + 1) x := fun x => ptM_k (k := 1) (by omega) (by decide)
    rw [ept]
    by_cases hs : hasI (a (12 + 8 * m + 0)) (a 8 % 20) = true
    · rw [if_pos hs, if_pos hs, lose_eq hX]
      obtain ⟨q, hq, eq⟩ := lose_99 (v := vwM a) (h := nI m) (day := a 8) hX
      rw [eq]
      refine ⟨some (nI (pu - q)), ?_, ?_, fun x e => ⟨pu - q, by omega, (Option.some.inj e).symm⟩⟩
      · rw [if_neg (by simp)]
        exact congrArg _ (cut_less (hi := 9999) hpu (by omega) (Nat.le_refl _))
      · rw [if_neg (by simp)]
        exact congrArg _ (max_less hpu (by omega))
    · rw [if_neg hs, if_neg hs, earn_eq hX]
      obtain ⟨q, hq, eq⟩ := earn_99 (v := vwM a) (h := nI m) (day := a 8) hX
      rw [eq]
      refine ⟨some (nI (min (pu + q) 9999)), ?_, ?_, fun x e => ⟨min (pu + q) 9999, by omega, (Option.some.inj e).symm⟩⟩
      · rw [if_neg (by simp)]
        exact congrArg _ (cut_more (hi := 9999) hpu (by omega) (Nat.le_refl _))
      · rw [if_neg (by simp)]
        exact congrArg _ (min_more (hi := 9999) hpu (by omega) (Nat.le_refl _))
theorem pass_k (hX : extL L) (h0 : a 0 = nI N) (n0 : n 0 = nI N) (h7 : N ≤ 7) (hc : CurR N a r) : ∀ m, m ≤ N → CurR N (passH a L m) (passR L n r m) ∧ Cu a (passH a L m) ∧ passH a L m 8 = a 8 ∧ passR L n r m 0 = r 0
  | 0, _ => ⟨hc, Cu.refl a, rfl, rfl⟩
  | m + 1, hm => by
    obtain ⟨k1, k2, k3, k4⟩ := pass_k hX h0 n0 h7 hc m (by omega)
    obtain ⟨v, e1, e2, e3⟩ := pass_1 (n := n) hX ((k2 0 (by omega)).trans h0) n0 h7 k1 (m := m) (by omega)
    have e1' : passH a L (m + 1) = _ := e1
    have e2' : passR L n r (m + 1) = _ := e2
    rw [e1', e2']
    cases v with
    | none => rw [if_pos rfl, if_pos rfl]; exact ⟨k1, k2, k3, k4⟩
    | some x =>
      rw [if_neg (by simp), if_neg (by simp)]
      exact ⟨k1.pu h7 (by omega) (e3 x rfl), k2.trans (Cu.h (by omega) (by decide)), by rw [up_ne (by omega)]; exact k3, by rw [up_ne (by omega)]; exact k4⟩
/-- the day that passes, on both sides -/
theorem pass_eq (hX : extL L) (h0 : a 0 = nI N) (n0 : n 0 = nI N) (h7 : N ≤ 7) (hc : CurR N a r) {d : Nat} (hd : a 8 = nI d) (h99 : d < 9999) : CurR N (passM a L) (passS L n r) ∧ Cu a (passM a L) ∧ passM a L 8 = nI (d + 1) := by
  have en : (vwM a).n = N := by show cI (a 0) = N; rw [h0]; exact cI_nI (by omega)
  obtain ⟨k1, k2, k3, k4⟩ := pass_k hX h0 n0 h7 hc N (Nat.le_refl _)
  have e8 : r 0 = nI d := by obtain ⟨w, -, ⟨q, -⟩, -⟩ := hc; rw [q, hd]
  unfold passM passS
  rw [en, n0, cI_nI (by omega), k4, e8, hd, nI_1]
  exact ⟨k1.day h7 (by omega), k2.trans (Cu.p (by omega)), up_eq⟩
end PASS
