/-! APPOINTMENTS 4: both sides (by hand) -/
set_option maxRecDepth 100000
theorem cB_beyond {x : Int32} {N : Nat} (h : ∀ i, N ≤ i → tb x i = false) : ∀ k, cB x (N + k) = cB x N
  | 0 => rfl
  | k + 1 => by
    show cB x (N + k) + (tb x (N + k)).toNat = _
    rw [cB_beyond h k, h _ (by omega)]
    rfl
theorem allU7 {p : Nat → Bool} : allUp p 7 = true ↔ ∀ k, k < 7 → p k = true := allU_i 7
theorem least3 (P : Nat → Prop) (h : P 3) : ∃ j, j ≤ 3 ∧ P j ∧ ∀ i, i < j → ¬ P i := by
  by_cases h0 : P 0
  · exact ⟨0, by decide, h0, fun i hi => by omega⟩
  by_cases h1 : P 1
  · exact ⟨1, by decide, h1, fun i hi => by have : i = 0 := by omega
                                            subst this; exact h0⟩
  by_cases h2 : P 2
  · exact ⟨2, by decide, h2, fun i hi => by have : i = 0 ∨ i = 1 := by omega
                                            rcases this with rfl | rfl
                                            · exact h0
                                            · exact h1⟩
  exact ⟨3, by decide, h, fun i hi => by
    have : i = 0 ∨ i = 1 ∨ i = 2 := by omega
    rcases this with rfl | rfl | rfl
    · exact h0
    · exact h1
    · exact h2⟩
section APB
variable {N nt c e g : Nat} {a : Nat → Int32} {A : Nat → Nat → Int32}
theorem RelX.shv (h : RelX N nt c e g a A) {y : Int32} (hy : (vwM a).hou y = true) : shOk ((vwM a).sh y) := by
  obtain ⟨⟨⟨h1, h2, h3⟩, -⟩, -, hc, -⟩ := h
  obtain ⟨k, hk, rfl⟩ := hou_V h1 h3 hy
  rw [vwM_sh hy, g0_n (by omega)]
  exact (hc.at0 hk).2
theorem RelX.puv (h : RelX N nt c e g a A) {y : Int32} (hy : (vwM a).hou y = true) : ∃ p, p ≤ 9999 ∧ (vwM a).pu y = nI p := by
  obtain ⟨⟨⟨h1, h2, h3⟩, -⟩, -, hc, -⟩ := h
  obtain ⟨k, hk, rfl⟩ := hou_V h1 h3 hy
  rw [vwM_pu hy, g1_n (by omega)]
  exact (hc.at1 hk).2
theorem her_there (h : RelX N nt c e g a A) {k : Nat} (hk : k < 32) : tb ((vwS (A 514) (A 515)).thereI (A 515 2)) k = true ↔ (vwM a).her (nI k) = true := by
  obtain ⟨⟨⟨h1, h2, h3⟩, -⟩, -⟩ := id h
  rw [there_tb h2 h3 hk]
  by_cases z : k < N
  · rw [decide_eq_true z, Bool.true_and, h.vw, her_tb h2 h3 z]
  · rw [decide_eq_false z]
    refine ⟨fun q => Bool.noConfusion q, fun q => ?_⟩
    obtain ⟨j, hj, ej⟩ := hou_V h1 h3 (Vw.her_hou q)
    have := (nI_eq (by omega) (by omega)).mp ej
    omega
/-- whom appointments are for: the same asked twice -/
theorem apCan_x (h : RelX N nt c e g a A) (x : Int32) : (inI x 1 127 = true ∧ (vwM a).areHere x 7 = true) ↔ (0 < x ∧ x &&& ((vwS (A 514) (A 515)).thereI (A 515 2) ^^^ -1) = 0) := by
  have n7 := h.1.1.2.2
  have e0 := h.1.1.1
  unfold Vw.areHere
  rw [allU7, zero_tb]
  constructor
  · rintro ⟨h1, h2⟩
    obtain ⟨q1, q2⟩ := inI_iff.mp h1
    have p1 : 1 ≤ x.toInt := q1
    have p2 : x.toInt ≤ 127 := q2
    have ex : x = nI (cI x) := (nI_cI (by omega)).symm
    have hc := cI_of (x := x) (by omega)
    refine ⟨by rw [Int32.lt_iff_toInt_lt]; show (0 : Int) < _; omega, fun i hi => ?_⟩
    rw [tb_andn]
    cases z : tb x i
    · rfl
    · have i7 : i < 7 := by
        rcases Nat.lt_or_ge i 7 with y | y
        · exact y
        · rw [ex, tb_n, Nat.testBit_lt_two_pow (Nat.lt_of_lt_of_le (show cI x < 2 ^ 7 by omega) (Nat.pow_le_pow_right (by decide) y)), Bool.and_false] at z
          exact Bool.noConfusion z
      have q := h2 i i7
      rw [has_tb (by omega), z] at q
      rw [(her_there h hi).mpr (by simpa using q)]
      rfl
  · rintro ⟨h1, h2⟩
    have hb : ∀ i, i < 32 → tb x i = true → (vwM a).her (nI i) = true := fun i hi hx => by
      have q := h2 i hi
      rw [tb_andn, hx, Bool.true_and] at q
      refine (her_there h hi).mp ?_
      cases z : tb ((vwS (A 514) (A 515)).thereI (A 515 2)) i
      · rw [z] at q; exact absurd q (by decide)
      · rfl
    have h0 : 0 < x.toInt := Int32.lt_iff_toInt_lt.mp h1
    have ex : x = nI (cI x) := (nI_cI (by omega)).symm
    have hc := cI_of (x := x) (by omega)
    have hl : cI x < 2 ^ 7 := Nat.lt_pow_two_of_testBit _ (fun i hi => by
      by_cases z : i < 32
      · cases y : tb x i
        · rw [ex, tb_n, decide_eq_true z, Bool.true_and] at y; exact y
        · obtain ⟨j, hj, ej⟩ := hou_V e0 n7 (Vw.her_hou (hb i z y))
          have := (nI_eq (by omega) (by omega)).mp ej
          omega
      · exact Nat.testBit_lt_two_pow (Nat.lt_of_lt_of_le (by have := Int32.toInt_lt x; show cI x < 2 ^ 32; omega) (Nat.pow_le_pow_right (by decide) (by omega : 32 ≤ i))))
    refine ⟨inI_iff.mpr ⟨by show (1 : Int) ≤ _; omega, by show _ ≤ (127 : Int); omega⟩, fun k hk => ?_⟩
    cases z : hasI x (nI k)
    · rfl
    · rw [has_tb (by omega)] at z
      rw [hb k (by omega) z]; rfl
theorem apCan_eq (h : RelX N nt c e g a A) (x y : Int32) : (vwS (A 514) (A 515)).apCanS (A 515 2) x y = (vwM a).apCan x y := by
  have q := apCan_x h x
  unfold Vw.apCanS Vw.apCan
  rw [bcI_bits, ← h.vw]
  rw [Bool.eq_iff_iff]
  rw [← h.vw] at q
  simp only [Bool.and_eq_true, decide_eq_true_eq] at *
  constructor
  · rintro ⟨a1, a2, a3, a4⟩
    obtain ⟨b1, b2⟩ := q.mpr ⟨a1, a2⟩
    exact ⟨b1, a3, b2, a4⟩
  · rintro ⟨b1, a3, b2, a4⟩
    obtain ⟨a1, a2⟩ := q.mp ⟨b1, b2⟩
    exact ⟨a1, a2, a3, a4⟩
/-- what both sides need of a set of houses that can be visited -/
theorem appo_pure (h : RelX N nt c e g a A) {x y : Int32} (hc : (vwM a).apCan x y = true) (A6 : Nat → Int32) : ∃ (X b j c0 : Nat) (w : Int32) (M : Nat → Int32), x = nI X ∧ X < 2 ^ (vwM a).n ∧ bcI (nI X) = nI b ∧ b ≤ 5 ∧ j ≤ 3 ∧
    (∀ i, i < j → ∀ D, (apR (vwM a) (a 8) X b D i).1 = false) ∧ (∀ D, (apR (vwM a) (a 8) X b D j).1 = true) ∧ (¬ y = -1 → ∀ D, (apR (vwM a) (a 8) X b D j).2 (cI y) = w) ∧
    memF x A6 (vwM a).n = (b, M) ∧ (∀ i, i < b → (vwM a).hou (M i) = true) ∧ (b + 1) ^ (b + j) < 2147483648 ∧ c0 < (b + 1) ^ (b + j) ∧
    (∀ d, b ≤ d → d < b + j → ∀ c, c < (b + 1) ^ d → ∀ D, (laidF (vwM a) M (a 8) b d c 0 D).1 = false) ∧ (∀ c, c < c0 → ∀ D, (laidF (vwM a) M (a 8) b (b + j) c 0 D).1 = false) ∧ (∀ D, (laidF (vwM a) M (a 8) b (b + j) c0 0 D).1 = true) ∧ ∀ D, ¬ y = -1 → (laidF (vwM a) M (a 8) b (b + j) c0 0 D).2 (cI y) = w := by
  obtain ⟨⟨⟨n1, n2, n7⟩, -⟩, -, hcr, -⟩ := id h
  have en : (vwM a).n = N := by show cI (a 0) = N; rw [n1]; exact cI_nI (by omega)
  simp only [Vw.apCan, Bool.and_eq_true, decide_eq_true_eq] at hc
  obtain ⟨k1, k2, k3, k4⟩ := hc
  obtain ⟨q1, q2⟩ := inI_iff.mp k1
  have p1 : 1 ≤ x.toInt := q1
  have p2 : x.toInt ≤ 127 := q2
  have ex : x = nI (cI x) := (nI_cI (by omega)).symm
  have hcx := cI_of (x := x) (by omega)
  have hher := allU7.mp k3
  have hbit : ∀ k, tb x k = true → k < N := fun k hk => by
    have i7 : k < 7 := by
      rcases Nat.lt_or_ge k 7 with z | z
      · exact z
      · rw [ex, tb_n, Nat.testBit_lt_two_pow (Nat.lt_of_lt_of_le (show cI x < 2 ^ 7 by omega) (Nat.pow_le_pow_right (by decide) z)), Bool.and_false] at hk
        exact Bool.noConfusion hk
    have q := hher k i7
    rw [has_tb (by omega), hk] at q
    obtain ⟨j, hj, ej⟩ := hou_V n1 n7 (Vw.her_hou (by simpa using q))
    have := (nI_eq (by omega) (by omega)).mp ej
    omega
  have hX : cI x < 2 ^ N := Nat.lt_pow_two_of_testBit _ (fun i hi => by
    by_cases z : i < 32
    · cases y : tb x i
      · rw [ex, tb_n, decide_eq_true z, Bool.true_and] at y; exact y
      · have := hbit i y; omega
    · exact Nat.testBit_lt_two_pow (Nat.lt_of_lt_of_le (show cI x < 2 ^ 7 by omega) (Nat.pow_le_pow_right (by decide) (by omega : 7 ≤ i))))
  obtain ⟨mm, hB, hM, hn1⟩ := mem_B n7 hbit A6
  have hpc : pcN x = cB x N := by
    rw [pcN_cB, show 32 = N + (32 - N) by omega]
    exact cB_beyond (fun i hi => by
      cases z : tb x i
      · rfl
      · have := hbit i z; omega) _
  have hb5 : cB x N ≤ 5 := by rw [← hpc]; exact (bits_le (c := 5) (by decide)).mp k2
  have hinj : ∀ i j, i < cB x N → j < cB x N → mm i = mm j → i = j := fun i j hi hj q => hB.inj hi hj q
  have hm7 : ∀ i, i < cB x N → mm i < 7 := fun i hi => by have := (hB.1 i hi).2.1; omega
  obtain ⟨dd, d1, d2⟩ := hcr.at8.2
  have hou : ∀ i, i < cB x N → (vwM a).hou (nI (mm i)) = true := fun i hi => N_hou n1 n7 (hB.1 i hi).2.1
  -- there is one within b + 3 days
  have hex : fnd (vwM a) (a 8) (cB x N) N (cB x) (cB x N + 3) x 0 ≠ none := fun q => by
    obtain ⟨ds, e1, e2, e3⟩ := ex_VL (v := vwM a) (d0 := a 8) hB n7 (cB x N + 3) x 0 3 (fun _ q => q) (fun i hi _ => by
      have hs := h.shv (hou i hi)
      have a1 := shC_mono (v := vwM a) (d0 := a 8) (mm := mm) i (cB x N + 3) 0 (8 - (cB x N + 3))
      rw [show cB x N + 3 + (8 - (cB x N + 3)) = 8 by omega] at a1
      have a2 := shC_8 (v := vwM a) (mm := mm) (i := i) d2 (by omega) hs.1
      have := hs.2
      omega) (by omega)
    exact (fnd_min (v := vwM a) (d0 := a 8) hB n7 _ x 0 (fun _ q => q)).1 q ds e1 e2 e3
  obtain ⟨j, hj3, hj, hjn⟩ := least3 (fun j => fnd (vwM a) (a 8) (cB x N) N (cB x) (cB x N + j) x 0 ≠ none) hex
  have hjn2 : ∀ i, i < j → fnd (vwM a) (a 8) (cB x N) N (cB x) (cB x N + i) x 0 = none := fun i hi => Decidable.of_not_not (hjn i hi)
  obtain ⟨ds, hds⟩ : ∃ ds, fnd (vwM a) (a 8) (cB x N) N (cB x) (cB x N + j) x 0 = some ds := Option.ne_none_iff_exists'.mp hj
  obtain ⟨f1, f2, f3, f4⟩ := (fnd_min (v := vwM a) (d0 := a 8) hB n7 _ x 0 (fun _ q => q)).2 ds hds
  have hapR : ∀ i D, apR (vwM a) (a 8) (cI x) (cB x N) D i = visL (vwM a) (a 8) (nI (0 + (cB x N + i))) (cB x N + i) x (nI 0) D := fun i D => by
    unfold apR
    rw [Nat.zero_add, ← ex]
    rfl
  have hvis : ∀ i D, i ≤ 3 → VisR (cB x N) mm (apR (vwM a) (a 8) (cI x) (cB x N) D i) (fnd (vwM a) (a 8) (cB x N) N (cB x) (cB x N + i) x 0) x 0 D := fun i D hi => by
    rw [hapR]
    exact vis_fnd hB n7 en (cB x N + i) x 0 D (fun _ q => q) (by omega)
  -- codes and rows
  have hMM : ∀ i, i < cB x N → (memF x A6 N).2 i = nI (mm i) ∧ mm i < 7 := fun i hi => ⟨hM i hi, hm7 i hi⟩
  have hL := fun (m : Nat) (l : List Nat) (D : Nat → Int32) (hl : l.length = m) (hle : ∀ i, i ∈ l → i ≤ cB x N) => laid_iff (v := vwM a) (d0 := a 8) (M := (memF x A6 N).2) (by omega) hMM hinj m l 0 D hl hle (fun i _ => tb_0)
  have hEq : ∀ l : List Nat, (∀ i, i ∈ l → i ≤ cB x N) → (PB (vwM a) (a 8) (cB x N) mm l 0 ↔ VL (vwM a) (a 8) (cB x N) mm l x 0) := fun l hle => (PB_PL (fun k => hB.iff k) hinj l hle).trans (VL_PL (by omega) hm7 hinj l x 0 hle).symm
  -- the day of the one that is asked for
  have hday : ∃ w, ¬ y = -1 → ∃ k i : Nat, ds[k]? = some i ∧ i ≠ cB x N ∧ mm i = cI y ∧ w = nI k := by
    by_cases hy : y = -1
    · exact ⟨0, fun q => absurd hy q⟩
    · rw [Bool.or_eq_true, decide_eq_true_eq, Bool.and_eq_true] at k4
      obtain ⟨hh, hx⟩ := k4.resolve_left hy
      obtain ⟨k, hk, rfl⟩ := hou_V n1 n7 hh
      rw [has_tb (by omega)] at hx
      obtain ⟨-, -, p3⟩ := (VL_PL (by omega) hm7 hinj ds x 0 f2).mp f3
      obtain ⟨k', i, z1, z2, z3⟩ := p3 k hx
      exact ⟨nI k', fun _ => ⟨k', i, z1, z2, by rw [z3, cI_nI (by omega)], rfl⟩⟩
  obtain ⟨w, hw⟩ := hday
  refine ⟨cI x, cB x N, j, cdF (cB x N) ds, w, (memF x A6 N).2, ex, by rw [en]; exact hX, ?_, hb5, hj3, fun i hi D => ?_, fun D => ?_, fun hy D => ?_, ?_, fun i hi => ?_, ?_, ?_, fun d hd1 hd2 c hc D => ?_, fun c hc D => ?_, fun D => ?_, fun D hy => ?_⟩
  · rw [← ex, bcI_bits]
    unfold bitsI
    rw [hpc]
  · obtain ⟨r1, -, -⟩ := hvis i D (by omega)
    rw [r1, hjn2 i hi]; rfl
  · obtain ⟨r1, -, -⟩ := hvis j D hj3
    rw [r1, hds]; rfl
  · obtain ⟨-, -, r3⟩ := hvis j D hj3
    obtain ⟨k, i, z1, z2, z3, z4⟩ := hw hy
    rw [z4, ← z3, r3 ds hds k i z1 z2, Nat.zero_add]
  · rw [en, ← hn1]
  · rw [hM i hi]; exact hou i hi
  · refine Nat.lt_of_le_of_lt (Nat.le_trans (Nat.pow_le_pow_left (show cB x N + 1 ≤ 6 by omega) _) (Nat.pow_le_pow_right (by decide) (show cB x N + j ≤ 8 by omega))) (by decide)
  · rw [← f1]; exact cd_lt ds f2
  · obtain ⟨l, l1, l2, l3⟩ := cd_surj d c hc
    rw [← l3]
    cases z : (laidF (vwM a) (memF x A6 N).2 (a 8) (cB x N) d (cdF (cB x N) l) 0 D).1
    · rfl
    · have q := (hEq l l2).mp ((hL d l D l1 l2).1.mp z)
      obtain ⟨i, rfl⟩ := Nat.exists_eq_add_of_le hd1
      exact ((fnd_min (v := vwM a) (d0 := a 8) hB n7 _ x 0 (fun _ q => q)).1 (hjn2 i (by omega)) l l1 l2 q).elim
  · have hc2 : c < (cB x N + 1) ^ (cB x N + j) := Nat.lt_trans hc (by rw [← f1]; exact cd_lt ds f2)
    obtain ⟨l, l1, l2, l3⟩ := cd_surj (cB x N + j) c hc2
    rw [← l3]
    cases z : (laidF (vwM a) (memF x A6 N).2 (a 8) (cB x N) (cB x N + j) (cdF (cB x N) l) 0 D).1
    · rfl
    · have q := (hEq l l2).mp ((hL _ l D l1 l2).1.mp z)
      exact (f4 l l1 l2 (by rw [l3]; exact hc) q).elim
  · exact (hL _ ds D f1 f2).1.mpr ((hEq ds f2).mpr f3)
  · obtain ⟨k, i, z1, z2, z3, z4⟩ := hw hy
    have q := (hL _ ds D f1 f2).2 ((hL _ ds D f1 f2).1.mpr ((hEq ds f2).mpr f3))
    rw [z4, ← z3]
    exact q.1 k i z1 z2
end APB
