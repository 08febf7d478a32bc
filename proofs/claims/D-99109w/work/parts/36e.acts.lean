/-! ACTS: a hat, a date forgotten, a wedding, on both sides (by hand) -/
set_option maxRecDepth 100000
section ACTS
variable {N : Nat} {a r n : Nat → Int32} {h : Nat}
/-- the view and its parts, of the row at hand -/
theorem CurR.vw (hc : CurR N a r) (h0 : a 0 = nI N) (n0 : n 0 = nI N) (h7 : N ≤ 7) : vwM a = vwS n r := by
  obtain ⟨w, -, -, -, -, dd, -⟩ := hc
  exact vw_eq h0 n0 h7 dd
theorem CurR.at0 (hc : CurR N a r) (hh : h < N) : r (3 + h) = a (12 + 8 * h + 0) ∧ shOk (a (12 + 8 * h + 0)) := by
  obtain ⟨w, -, -, -, -, dd, -⟩ := hc
  exact (dd h hh).1
theorem CurR.at1 (hc : CurR N a r) (hh : h < N) : r (10 + h) = a (12 + 8 * h + 1) ∧ puOk (a (12 + 8 * h + 1)) := by
  obtain ⟨w, -, -, -, -, dd, -⟩ := hc
  exact (dd h hh).2.1
theorem CurR.at2 (hc : CurR N a r) (hh : h < N) : r (17 + h) = a (12 + 8 * h + 2) ∧ frOk (a (12 + 8 * h + 2)) := by
  obtain ⟨w, -, -, -, -, dd, -⟩ := hc
  exact (dd h hh).2.2.1
theorem CurR.at3 (hc : CurR N a r) (hh : h < N) : a (12 + 8 * h + 3) = b2i (tb (r 2) h) := by
  obtain ⟨w, -, -, -, -, dd, -⟩ := hc
  exact (dd h hh).2.2.2
theorem CurR.at8 (hc : CurR N a r) : r 0 = a 8 ∧ ∃ d, d ≤ 9999 ∧ a 8 = nI d := by
  obtain ⟨w, -, q, -⟩ := hc
  exact q
theorem CurR.at9 (hc : CurR N a r) : r 1 = a 9 ∧ ∃ q, q < 30431 ∧ a 9 = nI q := by
  obtain ⟨w, -, -, q, -⟩ := hc
  exact q
/-- the draws -/
theorem draw_eq {q : Nat} (hq : q < 30431) : drawM (nI q) = nI ((q * 359 + 239) % 30431) ∧ drawI (nI q) = nI ((q * 359 + 239) % 30431) := by
  constructor
  · unfold drawM
    rw [nI_l (by omega), show (359 : Int64) = lN 359 from rfl, lN_mul, show (239 : Int64) = lN 239 from rfl, lN_add]
    have e : lN (q * 359 + 239) % 30431 = lN ((q * 359 + 239) % 30431) := by
      apply Int64.toInt_inj.mp
      rw [Int64.toInt_mod, lN_t (by omega), lN_t (by omega), show (30431 : Int64).toInt = ((30431 : Nat) : Int) from rfl, ← Int.ofNat_tmod]
    rw [e, lN_i]
  · unfold drawI
    rw [show (359 : Int32) = nI 359 from rfl, nI_mul, show (239 : Int32) = nI 239 from rfl, nI_add, show (30431 : Int32) = nI 30431 from rfl, nI_rem (by omega) (by omega)]
theorem CurR.drawn (hc : CurR N a r) (h7 : N ≤ 7) : CurR N (drawN a) (drawR r) ∧ Cu a (drawN a) := by
  obtain ⟨e9, q, hq, eq⟩ := hc.at9
  unfold drawN drawR
  rw [e9, eq, (draw_eq hq).1, (draw_eq hq).2]
  exact ⟨hc.draw h7 (Nat.mod_lt _ (by decide)), Cu.p (by omega)⟩
/-- a hat -/
theorem sh_or {x : Int32} {k : Nat} (hx : shOk x) (hk : k < 20) (h3 : pcN x < 3) : shOk (x ||| bit (nI k)) := by
  obtain ⟨⟨m, m1, m2⟩, -⟩ := hx
  have := pcN_or1 (x := x) (k := k) (by omega)
  refine ⟨⟨m ||| 2 ^ k, Nat.or_lt_two_pow (n := 20) m1 (Nat.pow_lt_pow_right (by decide) hk), ?_⟩, by omega⟩
  apply tb_ext
  intro i hi
  rw [tb_or, tb_bit (by omega), m2, tb_n, tb_n, Nat.testBit_or, Nat.testBit_two_pow]
  by_cases e : i = k
  · subst e; simp [hi]
  · simp [e, hi, Ne.symm e]
theorem day_date {d : Nat} (hd : d < 2147483648) : nI d % 20 = nI (d % 20) := nI_rem hd (by decide)
theorem ptM_0 {a : Nat → Int32} {h : Nat} {v : Int32} (hh : h < 8) : ptM a (nI h) 0 v = up a (12 + 8 * h + 0) v := ptM_k (k := 0) hh (by decide)
theorem hatR_s {h : Int32} {m : Nat} {a : Nat → Int32} : hatR h (m + 1) a = if hasI (gtM (drawN a) h 0) (a 9 % 20) then hatR h m (drawN a) else (a 9 % 20, ptM (drawN a) h 0 (gtM (drawN a) h 0 ||| bit (a 9 % 20))) := rfl
theorem hatL_s {h : Int32} {m : Nat} {r : Nat → Int32} : hatL h (m + 1) r = if hasI (drawR r (cI (3 + h))) (r 1 % 20) = true then hatL h m (drawR r) else (r 1 % 20, up (drawR r) (cI (3 + h)) (drawR r (cI (3 + h)) ||| bit (r 1 % 20))) := rfl
theorem hat_eq (h7 : N ≤ 7) (hh : h < N) (m : Nat) : ∀ (a r : Nat → Int32), CurR N a r → pcN (a (12 + 8 * h + 0)) < 3 → (hatR (nI h) m a).1 = (hatL (nI h) m r).1 ∧ CurR N (hatR (nI h) m a).2 (hatL (nI h) m r).2 ∧ Cu a (hatR (nI h) m a).2 := by
  induction m with
  | zero => exact fun a r hc _ => ⟨rfl, hc, Cu.refl a⟩
  | succ m ih =>
    intro a r hc h3
    obtain ⟨hd, hu⟩ := hc.drawn h7
    obtain ⟨e9, q, hq, eq⟩ := hc.at9
    have hs := hd.at0 hh
    have e0 : drawN a (12 + 8 * h + 0) = a (12 + 8 * h + 0) := up_ne (by omega)
    have g0 : gtM (drawN a) (nI h) 0 = a (12 + 8 * h + 0) := (g0_n (by omega)).trans e0
    have s0 : drawR r (cI (3 + nI h)) = a (12 + 8 * h + 0) := by rw [c3_at (by omega), hs.1, e0]
    have ho := hs.2
    rw [e0] at ho
    rw [hatR_s, hatL_s, g0, s0, e9, eq, day_date (by omega), ptM_0 (by omega), c3_at (by omega)]
    have hq20 : q % 20 < 20 := Nat.mod_lt _ (by decide)
    generalize drawN a = a2 at *
    generalize drawR r = r2 at *
    generalize q % 20 = d at *
    by_cases hb : hasI (a (12 + 8 * h + 0)) (nI d) = true
    · rw [if_pos hb, if_pos hb]
      obtain ⟨i1, i2, i3⟩ := ih a2 r2 hd (by rw [e0]; exact h3)
      exact ⟨i1, i2, hu.trans i3⟩
    · rw [if_neg hb, if_neg hb]
      exact ⟨rfl, hd.sh h7 hh (sh_or ho hq20 h3), hu.trans (Cu.h (by omega) (by decide))⟩
/-- a date forgotten -/
theorem sh_not {x : Int32} {k : Nat} (hx : shOk x) (hk : k < 20) : shOk (x &&& (bit (nI k) ^^^ -1)) := by
  obtain ⟨⟨m, m1, m2⟩, h3⟩ := hx
  refine ⟨⟨m ^^^ (m &&& 2 ^ k), Nat.xor_lt_two_pow (n := 20) m1 (Nat.lt_of_le_of_lt Nat.and_le_left m1), ?_⟩, Nat.le_trans (pcN_mono fun i hi hb => ?_) h3⟩
  · apply tb_ext
    intro i hi
    rw [tb_andn, tb_bit (by omega), m2, tb_n, tb_n, Nat.testBit_xor, Nat.testBit_and, Nat.testBit_two_pow]
    by_cases e : i = k
    · subst e; simp [hi]
    · simp [e, hi, Ne.symm e]
  · rw [tb_andn] at hb
    exact (Bool.and_eq_true_iff.mp hb).1
theorem forget_x {x : Int32} {k : Nat} (hk : k < 20) (hb : tb x k = true) : x ^^^ bit (nI k) = x &&& (bit (nI k) ^^^ -1) := by
  apply tb_ext
  intro i hi
  rw [tb_andn, tb_xor, tb_bit (by omega)]
  by_cases e : i = k
  · subst e; rw [hb]; simp
  · simp [e]
theorem forget_eq (hc : CurR N a r) (h7 : N ≤ 7) (hh : h < N) {k : Nat} (hk : k < 20) (hb : hasI (a (12 + 8 * h + 0)) (nI k) = true) : CurR N (forgetM a (nI k) (nI h)) (up r (cI (3 + nI h)) (r (cI (3 + nI h)) ^^^ bit (nI k))) ∧ Cu a (forgetM a (nI k) (nI h)) := by
  have hs := hc.at0 hh
  have e : forgetM a (nI k) (nI h) = up a (12 + 8 * h + 0) (a (12 + 8 * h + 0) &&& (bit (nI k) ^^^ -1)) := by
    unfold forgetM
    rw [g0_n (by omega)]
    exact ptM_k (k := 0) (by omega) (by decide)
  rw [e, c3_at (by omega), hs.1, forget_x hk (by rw [← has_tb (by omega)]; exact hb)]
  exact ⟨hc.sh h7 hh (sh_not hs.2 hk), Cu.h (by omega) (by decide)⟩
/-- a wedding -/
theorem sh_wed {x y : Int32} (hx : shOk x) (hy : shOk y) (h3 : bitsI (wedI x y) ≤ 3) : shOk (wedI x y) := by
  obtain ⟨⟨m, m1, m2⟩, -⟩ := hx
  obtain ⟨⟨k, k1, k2⟩, -⟩ := hy
  refine ⟨?_, (bits_le (c := 3) (by decide)).mp h3⟩
  unfold wedI
  split
  · refine ⟨m ||| k, Nat.or_lt_two_pow (n := 20) m1 k1, ?_⟩
    apply tb_ext
    intro i hi
    rw [tb_or, m2, k2, tb_n, tb_n, tb_n, Nat.testBit_or]
    simp [hi]
  · refine ⟨m &&& k, Nat.lt_of_le_of_lt Nat.and_le_left m1, ?_⟩
    apply tb_ext
    intro i hi
    rw [tb_and, m2, k2, tb_n, tb_n, tb_n, Nat.testBit_and]
    simp [hi]
theorem sh_nm1 {x : Int32} (hx : shOk x) : ¬ x = -1 := by
  obtain ⟨⟨m, m1, m2⟩, -⟩ := hx
  intro q
  rw [q] at m2
  have := congrArg Int32.toInt m2
  rw [nI_t (by omega), tm1] at this
  omega
theorem and_le3 {x y : Int32} (hx : shOk x) : pcN (x &&& y) ≤ 3 := Nat.le_trans (pcN_mono fun i hi hb => by rw [tb_and] at hb; exact (Bool.and_eq_true_iff.mp hb).1) hx.2
/-- whether two can marry, and what they have then -/
theorem wed_can {x y : Int32} (hx : shOk x) (hy : shOk y) : (bitsI (wedI x y) ≤ 3 ↔ ¬ wedS x y = -1) ∧ (bitsI (wedI x y) ≤ 3 → wedS x y = wedI x y) := by
  unfold wedS
  rw [bcI_bits]
  by_cases z : x &&& y = 0
  · have e : wedI x y = x ||| y := if_pos z
    rw [e, if_pos z]
    by_cases b : bitsI (x ||| y) ≤ 3
    · rw [if_pos b]
      have hs := sh_wed hx hy (by rw [e]; exact b)
      rw [e] at hs
      exact ⟨⟨fun _ => sh_nm1 hs, fun _ => b⟩, fun _ => rfl⟩
    · rw [if_neg b]
      exact ⟨⟨fun q => absurd q b, fun q => absurd rfl q⟩, fun q => absurd q b⟩
  · have e : wedI x y = x &&& y := if_neg z
    rw [e, if_neg z]
    have b : bitsI (x &&& y) ≤ 3 := (bits_le (c := 3) (by decide)).mpr (and_le3 hx)
    have hs := sh_wed hx hy (by rw [e]; exact b)
    rw [e] at hs
    exact ⟨⟨fun _ => sh_nm1 hs, fun _ => b⟩, fun _ => rfl⟩
theorem marry_eq (hc : CurR N a r) (h7 : N ≤ 7) {p q : Nat} (hp : p < N) (hq : q < N) (hpq : p ≠ q) (h3 : bitsI (wedI (a (12 + 8 * p + 0)) (a (12 + 8 * q + 0))) ≤ 3) : CurR N (marryM a (nI p) (nI q) (wedI (a (12 + 8 * p + 0)) (a (12 + 8 * q + 0)))) (marryR r (nI p) (nI q)) ∧ Cu a (marryM a (nI p) (nI q) (wedI (a (12 + 8 * p + 0)) (a (12 + 8 * q + 0)))) ∧ marryR r (nI p) (nI q) (cI (3 + nI q)) = wedI (a (12 + 8 * p + 0)) (a (12 + 8 * q + 0)) := by
  obtain ⟨sp, kp⟩ := hc.at0 hp
  obtain ⟨sq, kq⟩ := hc.at0 hq
  have ew : wedS (r (cI (3 + nI p))) (r (cI (3 + nI q))) = wedI (a (12 + 8 * p + 0)) (a (12 + 8 * q + 0)) := by
    rw [c3_at (by omega), c3_at (by omega), sp, sq]
    exact (wed_can kp kq).2 h3
  have kw := sh_wed kp kq h3
  generalize wedI (a (12 + 8 * p + 0)) (a (12 + 8 * q + 0)) = w at ew kw
  have c1 := hc.sh h7 hq kw
  have u1 : Cu a (up a (12 + 8 * q + 0) w) := Cu.h (by omega) (by decide)
  have e1 : mar1 r (nI p) (nI q) = up r (3 + q) w := by
    unfold mar1
    rw [ew, c3_at (by omega)]
  generalize hb1 : up a (12 + 8 * q + 0) w = b1 at c1 u1
  obtain ⟨pp, m1, k1, f1⟩ := c1.at1 hp
  obtain ⟨pq, m2, k2, f2⟩ := c1.at1 hq
  have c2 := c1.pu h7 hq (v := nI (min (m2 + m1) 9999)) ⟨_, Nat.min_le_right _ _, rfl⟩
  have u2 : Cu b1 (up b1 (12 + 8 * q + 1) (nI (min (m2 + m1) 9999))) := Cu.h (by omega) (by decide)
  have e2 : mar2 r (nI p) (nI q) = up (up r (3 + q) w) (10 + q) (nI (min (m2 + m1) 9999)) := by
    unfold mar2
    rw [e1, c10_at (by omega), c10_at (by omega), pq, pp, f1, f2]
    exact congrArg _ (min_more (hi := 9999) k2 k1 (Nat.le_refl _))
  have g2 : ptM b1 (nI q) 1 (cutI (gtM b1 (nI q) 1 + gtM b1 (nI p) 1) 0 9999) = up b1 (12 + 8 * q + 1) (nI (min (m2 + m1) 9999)) := by
    rw [g1_n (by omega), g1_n (by omega), f1, f2]
    rw [show cutI (nI m2 + nI m1) 0 9999 = nI (min (m2 + m1) 9999) from cut_more (hi := 9999) k2 k1 (Nat.le_refl _)]
    exact ptM_k (k := 1) (by omega) (by decide)
  generalize hb2 : up b1 (12 + 8 * q + 1) (nI (min (m2 + m1) 9999)) = b2 at c2 u2 g2
  generalize hr2 : up (up r (3 + q) w) (10 + q) (nI (min (m2 + m1) 9999)) = r2 at c2 e2
  obtain ⟨fp, m3, k3, f3⟩ := c2.at2 hp
  obtain ⟨fq, m4, k4, f4⟩ := c2.at2 hq
  have c3 := c2.fr h7 hq (v := nI (min (m4 + m3) 99)) ⟨_, Nat.min_le_right _ _, rfl⟩
  have u3 : Cu b2 (up b2 (12 + 8 * q + 2) (nI (min (m4 + m3) 99))) := Cu.h (by omega) (by decide)
  have e3 : mar3 r (nI p) (nI q) = up r2 (17 + q) (nI (min (m4 + m3) 99)) := by
    unfold mar3
    rw [e2, c17_at (by omega), c17_at (by omega), fq, fp, f3, f4]
    exact congrArg _ (min_more (hi := 99) (by omega) (by omega) (by omega))
  have g3 : ptM b2 (nI q) 2 (cutI (gtM b2 (nI q) 2 + gtM b2 (nI p) 2) 0 99) = up b2 (12 + 8 * q + 2) (nI (min (m4 + m3) 99)) := by
    rw [g2_n (by omega), g2_n (by omega), f3, f4]
    rw [show cutI (nI m4 + nI m3) 0 99 = nI (min (m4 + m3) 99) from cut_more (hi := 99) (by omega) (by omega) (by omega)]
    exact ptM_k (k := 2) (by omega) (by decide)
  have c4 := c3.gone h7 hp
  have e4 : marryR r (nI p) (nI q) = up (up r2 (17 + q) (nI (min (m4 + m3) 99))) 2 (up r2 (17 + q) (nI (min (m4 + m3) 99)) 2 ||| bit (nI p)) := by
    unfold marryR
    rw [e3]
  have gM : marryM a (nI p) (nI q) w = up (up b2 (12 + 8 * q + 2) (nI (min (m4 + m3) 99))) (12 + 8 * p + 3) 1 := by
    have g1 : ptM a (nI q) 0 w = b1 := by rw [← hb1]; exact ptM_k (k := 0) (by omega) (by decide)
    unfold marryM
    dsimp only
    rw [g1, g2, g3]
    exact ptM_k (k := 3) (by omega) (by decide)
  rw [gM, e4]
  refine ⟨c4, ((u1.trans u2).trans u3).trans (Cu.h (by omega) (by decide)), ?_⟩
  rw [c3_at (by omega), up_ne (by omega), up_ne (by omega), ← hr2, up_ne (by omega), up_eq]
end ACTS
