/-! HOUSE: a house told, on both sides (by hand) -/
set_option maxRecDepth 100000
theorem date_or {d : Int32} (h : inI d (-1) 19 = true) : d = -1 ∨ ∃ k, k < 20 ∧ d = nI k := by
  obtain ⟨h1, h2⟩ := inI_iff.mp h
  rw [tm1] at h1
  have h3 : d.toInt ≤ 19 := h2
  by_cases e : d.toInt = -1
  · exact Or.inl (Int32.toInt_inj.mp (e.trans tm1.symm))
  · have h0 : 0 ≤ d.toInt := by omega
    exact Or.inr ⟨cI d, by have := cI_of h0; omega, (nI_cI h0).symm⟩
theorem bit_ne0 {k : Nat} (h : k < 20) : ¬ bit (nI k) = 0 := fun q => by
  have := (zero_tb.mp q) k (by omega)
  rw [tb_bit (by omega)] at this
  simp at this
theorem bit_and {i j : Nat} (hi : i < 20) (hj : j < 20) : (bit (nI i) &&& bit (nI j) = 0) ↔ i ≠ j := by
  rw [zero_tb]
  constructor
  · intro h e
    subst e
    have := h i (by omega)
    rw [tb_and, tb_bit (by omega)] at this
    simp at this
  · intro h q hq
    rw [tb_and, tb_bit (by omega), tb_bit (by omega)]
    by_cases e : q = i
    · subst e; simp [h]
    · simp [e]
theorem or_and0 {a b x : Int32} : ((a ||| b) &&& x = 0) ↔ (a &&& x = 0) ∧ (b &&& x = 0) := by
  rw [zero_tb, zero_tb, zero_tb]
  constructor
  · intro h
    refine ⟨fun i hi => ?_, fun i hi => ?_⟩
    · have := h i hi
      rw [tb_and, tb_or] at this
      rw [tb_and]
      cases p : tb a i
      · rfl
      · rw [p] at this; simpa using this
    · have := h i hi
      rw [tb_and, tb_or] at this
      rw [tb_and]
      cases p : tb b i
      · rfl
      · rw [p] at this; simpa using this
  · rintro ⟨h1, h2⟩ i hi
    have k1 := h1 i hi
    have k2 := h2 i hi
    rw [tb_and] at k1 k2
    rw [tb_and, tb_or]
    cases p : tb x i
    · simp
    · rw [p, Bool.and_true] at k1 k2
      rw [k1, k2]; rfl
theorem zero_and' {x : Int32} : (0 : Int32) &&& x = 0 := zero_tb.mpr fun i _ => by rw [tb_and, tb_0]; rfl
theorem and_zero' {x : Int32} : x &&& (0 : Int32) = 0 := zero_tb.mpr fun i _ => by rw [tb_and, tb_0]; simp
theorem or_zero' {x : Int32} : x ||| (0 : Int32) = x := tb_ext fun i _ => by rw [tb_or, tb_0]; simp
theorem zero_or' {x : Int32} : (0 : Int32) ||| x = x := tb_ext fun i _ => by rw [tb_or, tb_0]; rfl
theorem bitO_n {k : Nat} (h : k < 20) : bitO (nI k) = bit (nI k) := if_neg (nI_nm1 (by omega))
theorem bitO_m : bitO (-1) = 0 := if_pos rfl
theorem telI_n {k : Nat} (h : k < 20) : telI (nI k) = bit (nI k) := if_neg (nI_pos (by omega))
theorem telI_m : telI (-1) = 0 := if_pos (by decide)
theorem tel_bitO {d : Int32} (h : inI d (-1) 19 = true) : telI d = bitO d := by
  rcases date_or h with rfl | ⟨k, hk, rfl⟩
  · rw [telI_m, bitO_m]
  · rw [telI_n hk, bitO_n hk]
/-- two dates that are told are apart -/
theorem bitO_and {d e : Int32} (hd : inI d (-1) 19 = true) (he : inI e (-1) 19 = true) : (bitO d &&& bitO e = 0) ↔ ¬ (0 ≤ d ∧ d = e) := by
  rcases date_or hd with rfl | ⟨k, hk, rfl⟩
  · rw [bitO_m]
    exact ⟨fun _ q => absurd q.1 (by decide), fun _ => zero_and'⟩
  · rcases date_or he with rfl | ⟨j, hj, rfl⟩
    · rw [bitO_m]
      exact ⟨fun _ q => nI_nm1 (by omega) q.2, fun _ => and_zero'⟩
    · rw [bitO_n hk, bitO_n hj, bit_and hk hj]
      constructor
      · intro h q
        exact h ((nI_eq (by omega) (by omega)).mp q.2)
      · intro h q
        exact h ⟨nI_pos' (by omega), by rw [q]⟩
theorem ok_same (n d1 d2 d3 pu fr : Int32) : okSH n d1 d2 d3 pu fr = okH n d1 d2 d3 pu fr := by
  unfold okSH okH okD
  cases h1 : inI d1 (-1) 19
  · simp
  cases h2 : inI d2 (-1) 19
  · simp
  cases h3 : inI d3 (-1) 19
  · simp
  have e12 := bitO_and h1 h2
  have e13 := bitO_and h1 h3
  have e23 := bitO_and h2 h3
  have q1 : decide (bitO d1 &&& bitO d2 = 0) = !(decide (0 ≤ d1) && decide (d1 = d2)) := by
    rw [Bool.eq_iff_iff]
    simp only [decide_eq_true_eq, e12, Bool.not_eq_true', Bool.and_eq_false_iff, decide_eq_false_iff_not]
    exact Classical.not_and_iff_not_or_not
  have q2 : decide ((bitO d1 ||| bitO d2) &&& bitO d3 = 0) = (!(decide (0 ≤ d1) && decide (d1 = d3)) && !(decide (0 ≤ d2) && decide (d2 = d3))) := by
    rw [Bool.eq_iff_iff]
    simp only [decide_eq_true_eq, or_and0, e13, e23, Bool.and_eq_true, Bool.not_eq_true', Bool.and_eq_false_iff, decide_eq_false_iff_not]
    exact and_congr Classical.not_and_iff_not_or_not Classical.not_and_iff_not_or_not
  rw [q1, q2]
  cases inI pu 0 9999 <;> cases inI fr 0 99 <;> cases decide (n = 7) <;> cases decide (0 ≤ d1) <;> cases decide (d1 = d2) <;> cases decide (d1 = d3) <;> cases decide (0 ≤ d2) <;> cases decide (d2 = d3) <;> rfl
theorem sh_bitO {x d : Int32} (hd : inI d (-1) 19 = true) {m c : Nat} (hm : m < 1048576) (hx : x = nI m) (hp : pcN x ≤ c) : (∃ m, m < 1048576 ∧ x ||| bitO d = nI m) ∧ pcN (x ||| bitO d) ≤ c + 1 := by
  rcases date_or hd with rfl | ⟨k, hk, rfl⟩
  · rw [bitO_m, or_zero']
    exact ⟨⟨m, hm, hx⟩, by omega⟩
  · rw [bitO_n hk]
    have := pcN_or1 (x := x) (k := k) (by omega)
    refine ⟨⟨m ||| 2 ^ k, Nat.or_lt_two_pow (n := 20) hm (Nat.pow_lt_pow_right (by decide) hk), ?_⟩, by omega⟩
    apply tb_ext
    intro i hi
    rw [tb_or, tb_bit (by omega), hx, tb_n, tb_n, Nat.testBit_or, Nat.testBit_two_pow]
    by_cases e : i = k
    · subst e; simp [hi]
    · simp [e, hi, Ne.symm e]
theorem sh_told {d1 d2 d3 : Int32} (h1 : inI d1 (-1) 19 = true) (h2 : inI d2 (-1) 19 = true) (h3 : inI d3 (-1) 19 = true) : shOk (bitO d1 ||| bitO d2 ||| bitO d3) := by
  have a0 := sh_bitO (x := 0) h1 (m := 0) (c := 0) (by decide) rfl (Nat.le_of_eq (pcN_0.mpr rfl))
  rw [zero_or'] at a0
  obtain ⟨⟨m1, k1, e1⟩, p1⟩ := a0
  obtain ⟨⟨m2, k2, e2⟩, p2⟩ := sh_bitO h2 k1 e1 p1
  exact sh_bitO h3 k2 e2 p2
theorem okH_b {n d1 d2 d3 pu fr : Int32} (h : okH n d1 d2 d3 pu fr = true) : inI d1 (-1) 19 = true ∧ inI d2 (-1) 19 = true ∧ inI d3 (-1) 19 = true ∧ puOk pu ∧ frOk fr ∧ ¬ n = 7 := by
  simp only [okH, okD, Bool.and_eq_true, Bool.not_eq_true', decide_eq_false_iff_not] at h
  obtain ⟨⟨⟨⟨⟨⟨⟨h1, h2⟩, h3⟩, -⟩, -⟩, hp⟩, hf⟩, hn⟩ := h
  have q1 := inI_iff.mp hp
  have q2 := inI_iff.mp hf
  have p0 : 0 ≤ pu.toInt := q1.1
  have p9 : pu.toInt ≤ 9999 := q1.2
  have f0 : 0 ≤ fr.toInt := q2.1
  have f9 : fr.toInt ≤ 99 := q2.2
  exact ⟨h1, h2, h3, ⟨cI pu, by have := cI_of p0; omega, (nI_cI p0).symm⟩, ⟨cI fr, by have := cI_of f0; omega, (nI_cI f0).symm⟩, hn⟩
section HOUSE
variable {N nt c e g : Nat} {a : Nat → Int32} {s : Sg} {d1 d2 d3 pu fr : Int32}
def up3 (r : Nat → Int32) (n : Nat) (x y z : Int32) : Nat → Int32 := up (up (up r (3 + n) x) (10 + n) y) (17 + n) z
theorem up3_o {r : Nat → Int32} {n j : Nat} {x y z : Int32} (h1 : j ≠ 3 + n) (h2 : j ≠ 10 + n) (h3 : j ≠ 17 + n) : up3 r n x y z j = r j := by
  unfold up3
  rw [up_ne h3, up_ne h2, up_ne h1]
/-- a row with one house more -/
theorem RowR.more {w : Nat} {day draw day2 draw2 : Int32} {H H2 : Nat → Nat → Int32} {bk bk2 r : Nat → Int32} {x y z : Int32} (h : RowR N day draw w H bk r) (h7 : N < 7) (e1 : day2 = day) (e2 : draw2 = draw) (e4 : ∀ i, i < w → bk2 i = bk i) (eH : ∀ h k, h < N → k < 4 → H2 h k = H h k) (n0 : H2 N 0 = x) (n1 : H2 N 1 = y) (n2 : H2 N 2 = z) (n3 : H2 N 3 = 0) (o0 : shOk x) (o1 : puOk y) (o2 : frOk z) : RowR (N + 1) day2 draw2 w H2 bk2 (up3 r N x y z) := by
  obtain ⟨⟨a1, a2⟩, ⟨b1, b2⟩, ⟨c1, c2, c3⟩, dd, zz⟩ := h
  subst e1 e2
  refine ⟨⟨(up3_o (by omega) (by omega) (by omega)).trans a1, a2⟩, ⟨(up3_o (by omega) (by omega) (by omega)).trans b1, b2⟩, ⟨(up3_o (by omega) (by omega) (by omega)).trans c1, c2, fun i hi => ?_⟩, fun q hq => ?_, fun i hi => ?_⟩
  · rw [e4 i hi, up3_o (by omega) (by omega) (by omega), up3_o (by omega) (by omega) (by omega), up3_o (by omega) (by omega) (by omega)]
    exact c3 i hi
  · by_cases e : q = N
    · subst e
      refine ⟨⟨?_, by rw [n0]; exact o0⟩, ⟨?_, by rw [n1]; exact o1⟩, ⟨?_, by rw [n2]; exact o2⟩, ?_⟩
      · unfold up3; rw [up_ne (by omega), up_ne (by omega), up_eq, n0]
      · unfold up3; rw [up_ne (by omega), up_eq, n1]
      · unfold up3; rw [up_eq, n2]
      · rw [n3, up3_o (by omega) (by omega) (by omega), zz q (Nat.le_refl _)]; rfl
    · obtain ⟨q1, q2, q3, q4⟩ := dd q (by omega)
      refine ⟨?_, ?_, ?_, ?_⟩
      · rw [up3_o (by omega) (by omega) (by omega), eH q 0 (by omega) (by decide)]; exact q1
      · rw [up3_o (by omega) (by omega) (by omega), eH q 1 (by omega) (by decide)]; exact q2
      · rw [up3_o (by omega) (by omega) (by omega), eH q 2 (by omega) (by decide)]; exact q3
      · rw [up3_o (by omega) (by omega) (by omega), eH q 3 (by omega) (by decide)]; exact q4
  · rw [up3_o (by omega) (by omega) (by omega)]
    exact zz i (by omega)
theorem house_rel (h : RelX N nt c e g a s.A) (hk : okH (a 0) d1 d2 d3 pu fr = true) : N < 7 ∧ RelX (N + 1) nt c e g (houseM a N d1 d2 d3 pu fr) (houseS s d1 d2 d3 pu fr c).A := by
  obtain ⟨i1, i2, i3, hp, hf, hn⟩ := okH_b hk
  obtain ⟨⟨⟨h1, h2, h3⟩, ⟨h4, h5, h6⟩, ⟨h7, h8⟩, ⟨h9, h10, h11⟩, ⟨h12, h13, h14⟩, ⟨h15, h16, h17⟩⟩, k1, k2, k3, k4, k5⟩ := h
  have hN : N < 7 := by
    rw [h1] at hn
    have : N ≠ 7 := fun q => hn (by rw [q]; rfl)
    omega
  refine ⟨hN, ?_⟩
  have hs := sh_told i1 i2 i3
  have eT : telI d1 ||| telI d2 ||| telI d3 = bitO d1 ||| bitO d2 ||| bitO d3 := by rw [tel_bitO i1, tel_bitO i2, tel_bitO i3]
  have f_o : ∀ j, j ≠ 0 → (j < 12 + 8 * N ∨ 12 + 8 * N + 7 ≤ j) → houseM a N d1 d2 d3 pu fr j = a j := fun j hj hj2 => by
    unfold houseM
    rw [up_ne hj, beginM_out (by omega), up_ne (by omega), up_ne (by omega), up_ne (by omega)]
  have f_0 : houseM a N d1 d2 d3 pu fr 0 = nI (N + 1) := up_eq
  have f_t4 : houseM a N d1 d2 d3 pu fr (12 + 8 * N + 4) = telI d1 ||| telI d2 ||| telI d3 := by
    unfold houseM
    rw [up_ne (by omega), beginM_out (by omega), up_ne (by omega), up_ne (by omega), up_eq]
  have f_t5 : houseM a N d1 d2 d3 pu fr (12 + 8 * N + 5) = pu := by
    unfold houseM
    rw [up_ne (by omega), beginM_out (by omega), up_ne (by omega), up_eq]
  have f_t6 : houseM a N d1 d2 d3 pu fr (12 + 8 * N + 6) = fr := by
    unfold houseM
    rw [up_ne (by omega), beginM_out (by omega), up_eq]
  have f_c : ∀ j, j < 3 → houseM a N d1 d2 d3 pu fr (12 + 8 * N + j) = houseM a N d1 d2 d3 pu fr (12 + 8 * N + 4 + j) := fun j hj => by
    unfold houseM
    rw [up_ne (by omega), up_ne (by omega), beginM_out (j := 12 + 8 * N + 4 + j) (by omega)]
    unfold beginM
    rw [up_ne (by omega), mv_in (by omega) (by omega), Nat.add_sub_cancel_left]
  have f_3 : houseM a N d1 d2 d3 pu fr (12 + 8 * N + 3) = 0 := by
    unfold houseM
    rw [up_ne (by omega)]
    exact up_eq
  rw [eT] at f_t4
  generalize hT : bitO d1 ||| bitO d2 ||| bitO d3 = T at hs f_t4
  generalize houseM a N d1 d2 d3 pu fr = b at *
  -- the system's arrays
  have c3 : cI (3 + s.A 514 0) = 3 + N := by rw [h2]; exact c3_at (by omega)
  have c10 : cI (10 + s.A 514 0) = 10 + N := by rw [h2]; exact c10_at (by omega)
  have c17 : cI (17 + s.A 514 0) = 17 + N := by rw [h2]; exact c17_at (by omega)
  generalize hS : houseS s d1 d2 d3 pu fr c = S
  have eS : S = telS ((telS ((telS ((s.setA 514 (up (s.A 514) 0 (s.A 514 0 + 1))).setA 515 (up (s.A 515) (3 + N) T)) (3 + N) T c).setA 515 (up (up (s.A 515) (3 + N) T) (10 + N) pu)) (10 + N) pu c).setA 515 (up (up (up (s.A 515) (3 + N) T) (10 + N) pu) (17 + N) fr)) (17 + N) fr c := by
    rw [← hS]
    unfold houseS tellS
    dsimp only
    rw [c3, c10, c17, hT, telS_out (by omega), sA_eq, telS_out (by omega), sA_eq, sA_ne (by decide)]
  have n514 : S.A 514 = up (s.A 514) 0 (nI (N + 1)) := by
    rw [eS, telS_out (by omega), sA_ne (by decide), telS_out (by omega), sA_ne (by decide), telS_out (by omega), sA_ne (by decide), sA_eq, h2, nI_1]
  have n515 : S.A 515 = up3 (s.A 515) N T pu fr := by
    rw [eS, telS_out (by omega), sA_eq]
    rfl
  have tin : ∀ {z : Sg} {x : Nat} {v : Int32} {i : Nat}, i < c → (telS z x v c).A (535 + i) = up (z.A (535 + i)) x v := fun hi => if_pos (by omega)
  have nst : ∀ i, i < c → S.A (535 + i) = up3 (s.A (535 + i)) N T pu fr := fun i hi => by
    rw [eS, tin hi, sA_ne (by omega), tin hi, sA_ne (by omega), tin hi, sA_ne (by omega), sA_ne (by omega)]
    rfl
  have nel : ∀ k, k ≠ 514 → k ≠ 515 → (k < 535) → S.A k = s.A k := fun k a1 a2 a3 => by
    rw [eS, telS_out (by omega), sA_ne a2, telS_out (by omega), sA_ne a2, telS_out (by omega), sA_ne a2, sA_ne a1]
  have t0 := (f_c 0 (by decide)).trans f_t4
  have t1 := (f_c 1 (by decide)).trans f_t5
  have t2 := (f_c 2 (by decide)).trans f_t6
  refine ⟨⟨⟨f_0, ?_, by omega⟩, ⟨(f_o 1 (by omega) (by omega)).trans h4, ?_, h6⟩, ⟨?_, ?_⟩, ⟨(f_o 3 (by omega) (by omega)).trans h9, ?_, h11⟩, ⟨(f_o 4 (by omega) (by omega)).trans h12, ?_, h14⟩, ⟨(f_o 5 (by omega) (by omega)).trans h15, ?_, h17⟩⟩, fun q hq => ?_, ?_, fun i hi => ?_, fun i hi => ?_, fun i hi => ?_⟩
  · rw [n514, up_eq]
  · rw [n514, up_ne (by decide)]; exact h5
  · rw [n514, up_ne (by decide), f_o 2 (by omega) (by omega)]; exact h7
  · rw [f_o 2 (by omega) (by omega)]; exact h8
  · rw [n514, up_ne (by decide)]; exact h10
  · rw [n514, up_ne (by decide)]; exact h13
  · rw [n514, up_ne (by decide)]; exact h16
  · by_cases e : q = N
    · subst e
      rw [f_t4, f_t5, f_t6]
      exact ⟨hs, hp, hf⟩
    · rw [f_o _ (by omega) (by omega), f_o _ (by omega) (by omega), f_o _ (by omega) (by omega)]
      exact k1 q (by omega)
  · obtain ⟨w, w1, w2⟩ := k2
    have h40 := w2.2.2.1.2.1
    refine ⟨w, (f_o 10 (by omega) (by omega)).trans w1, ?_⟩
    rw [n515]
    exact w2.more hN (f_o 8 (by omega) (by omega)) (f_o 9 (by omega) (by omega)) (fun i hi => f_o _ (by omega) (by omega)) (fun q k hq hk => f_o _ (by omega) (by omega)) t0 t1 t2 f_3 hs hp hf
  · obtain ⟨m, w, m1, m2, m3, m4⟩ := k3 i hi
    have h40 := m4.2.2.1.2.1
    refine ⟨m, w, by omega, (f_o _ (by omega) (by omega)).trans m2, (f_o _ (by omega) (by omega)).trans m3, ?_⟩
    rw [nst i hi]
    refine m4.more hN (f_o _ (by omega) (by omega)) (f_o _ (by omega) (by omega)) (fun i hi => f_o _ (by omega) (by omega)) (fun q k hq hk => ?_) ?_ ?_ ?_ ?_ hs hp hf
    · unfold StH
      by_cases z : q < m
      · rw [if_pos z, if_pos z]; exact f_o _ (by omega) (by omega)
      · rw [if_neg z, if_neg z]
        by_cases z3 : k < 3
        · rw [if_pos z3, if_pos z3]; exact f_o _ (by omega) (by omega)
        · rw [if_neg z3, if_neg z3]
    · unfold StH; rw [if_neg (by omega), if_pos (by decide)]; exact f_t4
    · unfold StH; rw [if_neg (by omega), if_pos (by decide)]; exact f_t5
    · unfold StH; rw [if_neg (by omega), if_pos (by decide)]; exact f_t6
    · unfold StH; rw [if_neg (by omega), if_neg (by decide)]
  · rw [nel (517 + i) (by omega) (by omega) (by omega), f_o _ (by omega) (by omega), f_o _ (by omega) (by omega), f_o _ (by omega) (by omega)]
    exact k4 i hi
  · rw [nel (526 + i) (by omega) (by omega) (by omega), f_o _ (by omega) (by omega), f_o _ (by omega) (by omega)]
    obtain ⟨q1, q2, ⟨p, p1, p2⟩, ⟨p', p1', p2'⟩⟩ := k5 i hi
    exact ⟨q1, q2, ⟨p, by omega, p2⟩, ⟨p', by omega, p2'⟩⟩
end HOUSE
