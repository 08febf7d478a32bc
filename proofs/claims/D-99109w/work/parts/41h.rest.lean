/-! CASES 6: the tape, whose text rules, what is seen and told, image and back (by hand) -/
set_option maxRecDepth 100000
theorem and_255 (y : Int32) : y &&& 255 = nI (y.toBitVec.toNat % 256) := by
  apply Int32.toBitVec_inj.mp
  apply BitVec.eq_of_toNat_eq
  have e1 : (y &&& 255).toBitVec = y.toBitVec &&& 255#32 := rfl
  have e2 : (nI (y.toBitVec.toNat % 256)).toBitVec = BitVec.ofNat 32 (y.toBitVec.toNat % 256) := rfl
  rw [e1, e2, BitVec.toNat_and]
  show y.toBitVec.toNat &&& (2 ^ 8 - 1) = _
  have hlt : y.toBitVec.toNat % 256 < 2 ^ 32 := Nat.lt_trans (Nat.mod_lt _ (by decide)) (by decide)
  rw [Nat.and_two_pow_sub_one_eq_mod, BitVec.toNat_ofNat, Nat.mod_eq_of_lt hlt]
theorem byte_eq (y : Int32) : 0 ≤ (y &&& 255).toInt ∧ (y &&& 255).toInt < 256 ∧ y.toInt8.toInt32 = sxI (y &&& 255) := by
  rw [and_255]
  have hb : y.toBitVec.toNat % 256 < 256 := Nat.mod_lt _ (by decide)
  have ey : y.toInt = Int.bmod (y.toBitVec.toNat : Int) (2 ^ 32) := BitVec.toInt_eq_toNat_bmod _
  have e8 : y.toInt8.toInt32.toInt = Int.bmod (y.toBitVec.toNat : Int) (2 ^ 8) := by
    rw [Int8.toInt_toInt32, Int32.toInt_toInt8, ey, Int.bmod_bmod_of_dvd (by decide)]
  have em : Int.bmod (y.toBitVec.toNat : Int) (2 ^ 8) = if ((y.toBitVec.toNat % 256 : Nat) : Int) < 128 then ((y.toBitVec.toNat % 256 : Nat) : Int) else ((y.toBitVec.toNat % 256 : Nat) : Int) - 256 := rfl
  generalize y.toBitVec.toNat % 256 = b at hb em ⊢
  refine ⟨by rw [nI_t (by omega)]; omega, by rw [nI_t (by omega)]; omega, ?_⟩
  apply Int32.toInt_inj.mp
  rw [e8, em]
  by_cases h : b < 128
  · rw [if_pos (by omega), sx_lo (by rw [Int32.lt_iff_toInt_lt, nI_t (by omega)]; show (b : Int) < 128; omega), nI_t (by omega)]
  · rw [if_neg (by omega), sx_hi (by rw [Int32.lt_iff_toInt_lt, nI_t (by omega)]; show ¬ (b : Int) < 128; omega) (by rw [nI_t (by omega)]; omega), nI_t (by omega)]
def TpK (t u : Nat → Int32) (n : Nat) : Prop := ∀ k, k < n → 0 ≤ (t k).toInt ∧ (t k).toInt < 256 ∧ u k = sxI (t k)
theorem four_ok {t u : Nat → Int32} {p : Nat} {v : Int32} (h : TpK t u p) : TpK (fourM t p v) (fourS u p v) (p + 4) := fun k hk => by
  unfold fourM fourS
  by_cases z : k < p
  · rw [mv_out (by omega), mv_out (by omega)]
    exact h k z
  · rw [mv_in (by omega) (by omega), mv_in (by omega) (by omega)]
    exact byte_eq _
theorem feed_ok {t u : Nat → Int32} {p : Nat} {a b c d e : Int32} (h : TpK t u p) : TpK (feedM t p a b c d e) (feedS u p a b c d e) (p + 20) := four_ok (p := p + 16) (four_ok (p := p + 12) (four_ok (p := p + 8) (four_ok (p := p + 4) (four_ok h))))
section CASES6
variable {s : Sg}
theorem Inv.tape {v : Sg} (h : Inv s) (eA : ∀ k, k ≠ 619 → k ≠ 629 → v.A k = s.A k) (eS : ∀ k, k ≠ 4 → k ≠ 100 → v.S k = s.S k) (eT : v.T = s.T) (eb : v.b = s.b) (hp : InvT v) : Nxt s v := by
  obtain ⟨⟨N, nt, c, e, g, N2, nt2, c2, e2, g2, hx, hi, hle, hT, htx⟩, -, o1, ⟨o2, o3⟩, ⟨k4, o4⟩, ⟨w5, o5⟩, o6, o7, c8, d8, o8⟩ := h
  refine ⟨⟨⟨N, nt, c, e, g, N2, nt2, c2, e2, g2, ?_, ?_, hle, fun t ht => by rw [eT]; exact hT t ht, fun t ht => ?_⟩, hp, fun j hj => by rw [eT, eb]; exact o1 j hj, ⟨by rw [eS 101 (by decide) (by decide), eS 5 (by decide) (by decide)]; exact o2, by rw [eS 102 (by decide) (by decide), eS 6 (by decide) (by decide)]; exact o3⟩, ⟨k4, (eS 16 (by decide) (by decide)).trans o4⟩, ⟨w5, (eS 18 (by decide) (by decide)).trans o5⟩, by rw [eA 633 (by decide) (by decide)]; exact o6, by rw [eb]; exact o7, c8, d8, by rw [eb]; exact o8⟩, by rw [eb]; exact (Ext.refl _).mono (by decide) (by decide)⟩
  · rw [eA 626 (by decide) (by decide)]; exact hx.to (fun j a b => eA j (by omega) (by omega))
  · rw [eA 627 (by decide) (by decide)]; exact hi.to (fun j a b => eA (j + 53) (by omega) (by omega))
  · rw [eT, eb, eA 628 (by decide) (by decide)]; exact htx t ht
theorem b_end (h : Inv s) (n : Int32) : Both s mX0_end mX2_end [.int n] := by
  obtain ⟨-, ⟨p, p1, p2, p3, p4⟩, -⟩ := id h
  cases hc : inI n 0 (s.S 4)
  · exact both_same h (r_X0_end_f n (by rw [p3, ← p2]; exact hc)) (r_X2_end_f n hc) rfl
  · have hq := hc
    rw [p2] at hq
    obtain ⟨q, -, q1, rfl⟩ := in_n (a := 0) (b := p) hq rfl (nI_t (by omega))
    refine ⟨_, _, _, _, _, by decide, r_X0_end_t (nI q) (by rw [p3, ← p2]; exact hc), r_X2_end_t (s := s.setS 100 (nI q)) (nI q) hc, h.tape (fun _ _ _ => rfl) (fun k a b => (setS_ne a).trans (setS_ne b)) rfl rfl ⟨q, by omega, setS_at, (setS_ne (by decide)).trans setS_at, fun k hk => p4 k (by omega)⟩, rfl⟩
theorem b_feed (h : Inv s) (a b c d e : Int32) : Both s mX0_feed mX2_feed [.int a, .int b, .int c, .int d, .int e] := by
  obtain ⟨-, ⟨p, p1, p2, p3, p4⟩, -⟩ := id h
  have e20 : nI p + 20 = nI (p + 20) := by rw [show (20 : Int32) = nI 20 from rfl, nI_add]
  by_cases hc : p + 20 ≤ 300
  · refine ⟨_, _, _, _, _, by decide, r_X0_feed_t p p3 hc a b c d e, r_X2_feed_t (s := (s.setA 619 (feedS (s.A 619) p a b c d e)).setS 100 (nI (p + 20))) p p2 hc a b c d e, h.tape (fun k a b => (setA_ne b).trans (setA_ne a)) (fun k a b => (setS_ne a).trans (setS_ne b)) rfl rfl ⟨p + 20, hc, setS_at, (setS_ne (by decide)).trans setS_at, ?_⟩, rfl⟩
    exact feed_ok (t := s.A 629) (u := s.A 619) p4
  · have hlt : (300 : Int32) < nI p + 20 := by rw [e20, Int32.lt_iff_toInt_lt, nI_t (by omega)]; show (300 : Int) < ((p + 20 : Nat) : Int); omega
    exact both_same h (r_X0_feed_f a b c d e (by rw [p3]; exact hlt)) (r_X2_feed_f a b c d e (by rw [p2]; exact hlt)) rfl
theorem MF.row {t : Sg} {f : Nat → Int32} (hB : ∃ B : Nat → Bool, t.A 633 = fun j => b2i (B j)) : MF t (t.setA 626 f) := ⟨fun k _ h2 => setA_ne h2, ⟨rfl, rfl, rfl, rfl, rfl, rfl, rfl, rfl⟩, rfl, rfl, hB⟩
/-- a change of the head: rules, what is seen, what is told -/
theorem Inv.head {t : Sg} {N nt c e g e2 g2 : Nat} {b n : Nat → Int32} (h : Inv s) (hx : RelX N nt c e g (s.A 626) s.A) (xf : XF s t) (en : t.A 514 = n) (eR : ∀ k, (k = 515 ∨ 535 ≤ k ∧ k < 565) → t.A k = s.A k) (hb : ∀ j, j = 0 ∨ j = 3 ∨ (8 ≤ j ∧ j < 68) ∨ 108 ≤ j → b j = s.A 626 j) (hn : n 0 = s.A 514 0 ∧ n 3 = s.A 514 3) (h1 : b 1 = s.A 626 1 ∧ n 1 = s.A 514 1) (h2 : n 2 = b 2 ∧ (b 2 = -1 ∨ ∃ t, t < nt ∧ b 2 = nI t)) (h4 : b 4 = nI e2 ∧ n 4 = nI e2 ∧ e2 ≤ 8) (h5 : b 5 = nI g2 ∧ n 5 = nI g2 ∧ g2 ≤ 8) (hs : SeeR e2 b t.A) (hg : GosR N g2 b t.A) : Nxt s (t.setA 626 b) := by
  subst en
  have hB : ∃ B : Nat → Bool, t.A 633 = fun j => b2i (B j) := by rw [xf.1 633 (by decide) (by decide) (by decide)]; exact h.B
  have e6 : (t.setA 626 b).A 626 = b := setA_at
  refine h.step xf (MF.row hB) ?_ (by rw [e6]; exact h1.1)
  rw [e6]
  obtain ⟨q1, q2, q3⟩ := hx.1.2.1
  have e514 : (t.setA 626 b).A 514 = t.A 514 := setA_ne (by decide)
  refine (RelX.head (A2 := (t.setA 626 b).A) (b := b) (nt2 := nt) (e2 := e2) (g2 := g2) hx hb (by rw [e514]; exact hn) (fun k hk => (setA_ne (by omega)).trans (eR k hk)) (by rw [e514]; exact ⟨h1.1.trans q1, h1.2.trans q2, q3⟩) (by rw [e514]; exact h2) (by rw [e514]; exact h4) (by rw [e514]; exact h5) (fun i hi => ?_) (fun i hi => ?_)).rel
  · have e8 := h4.2.2
    rw [setA_ne (by omega)]; exact hs i hi
  · have g8 := h5.2.2
    rw [setA_ne (by omega)]; exact hg i hi
theorem by_same {nt : Nat} (h4 : nt ≤ 4) (n : Int32) : inI n (-1) (nI nt - 1) = (decide (n = -1) || inI n 0 (nI nt - 1)) := by
  have e1 : (nI nt - 1).toInt = (nt : Int) - 1 := by
    rcases nt with _ | nt
    · rfl
    · have : nI (nt + 1) - 1 = nI nt := by rw [nI_succ, Int32.add_sub_cancel]
      rw [this, nI_t (by omega)]; omega
  rw [Bool.eq_iff_iff, Bool.or_eq_true, decide_eq_true_eq, inI_iff, inI_iff, tm1, e1]
  have z : n = -1 ↔ n.toInt = -1 := by rw [← Int32.toInt_inj, tm1]
  rw [z]
  show -1 ≤ n.toInt ∧ n.toInt ≤ (nt : Int) - 1 ↔ n.toInt = -1 ∨ 0 ≤ n.toInt ∧ n.toInt ≤ (nt : Int) - 1
  omega
theorem b_by (h : Inv s) (n : Int32) : Both s mX0_by mX2_by [.int n] := by
  obtain ⟨N, nt, c, e, g, hx⟩ := h.rx
  obtain ⟨h1, n1, n4⟩ := hx.1.2.1
  have bs := by_same n4 n
  rw [← h1] at bs
  cases hc : inI n (-1) (s.A 626 1 - 1)
  · rw [hc] at bs
    obtain ⟨c1, c2⟩ := Bool.or_eq_false_iff.mp bs.symm
    exact both_same h (r_X0_by_f n (of_decide_eq_false c1) (by rw [n1, ← h1]; exact c2)) (r_X2_by_f n hc) rfl
  · rw [hc] at bs
    have hn : n = -1 ∨ inI n 0 (s.A 514 1 - 1) = true := by
      rw [n1, ← h1]
      exact (Bool.or_eq_true_iff.mp bs.symm).imp of_decide_eq_true id
    have hn2 : n = -1 ∨ ∃ t, t < nt ∧ n = nI t := by
      rcases hn with z | z
      · exact Or.inl z
      · rw [n1] at z
        obtain ⟨q1, q2⟩ := inI_iff.mp z
        have p1 : 0 ≤ n.toInt := q1
        have p2 : n.toInt ≤ (nI nt - 1).toInt := q2
        have e1 : (nI nt - 1).toInt = (nt : Int) - 1 := by
          rcases nt with _ | nt
          · rfl
          · have : nI (nt + 1) - 1 = nI nt := by rw [nI_succ, Int32.add_sub_cancel]
            rw [this, nI_t (by omega)]; omega
        have := cI_of (x := n) p1
        exact Or.inr ⟨cI n, by omega, (nI_cI p1).symm⟩
    have xr := r_X0_by_t (s := s) n hn
    have mr := r_X2_by_t (s := s.setA 514 (up (s.A 514) 2 n)) n hc
    refine ⟨_, _, _, _, _, by decide, xr, mr, h.head hx (XF.set (by decide)) (n := up (s.A 514) 2 n) setA_at (fun k hk => setA_ne (by omega)) (fun j hj => up_ne (by omega)) ⟨up_ne (by decide), up_ne (by decide)⟩ ⟨up_ne (by decide), up_ne (by decide)⟩ ⟨?_, ?_⟩ (e2 := e) (g2 := g) ⟨(up_ne (by decide)).trans hx.1.2.2.2.2.1.1, (up_ne (by decide)).trans hx.1.2.2.2.2.1.2.1, hx.1.2.2.2.2.1.2.2⟩ ⟨(up_ne (by decide)).trans hx.1.2.2.2.2.2.1, (up_ne (by decide)).trans hx.1.2.2.2.2.2.2.1, hx.1.2.2.2.2.2.2.2⟩ ?_ ?_, rfl⟩
    · show up (s.A 514) 2 n 2 = up (s.A 626) 2 n 2
      rw [up_eq, up_eq]
    · show up (s.A 626) 2 n 2 = -1 ∨ ∃ t, t < nt ∧ up (s.A 626) 2 n 2 = nI t
      rw [up_eq]; exact hn2
    · intro i hi
      have e8 := hx.1.2.2.2.2.1.2.2
      have z := hx.2.2.2.2.1 i hi
      show (s.setA 514 (up (s.A 514) 2 n)).A (517 + i) 0 = up (s.A 626) 2 n (68 + 3 * i) ∧ (s.setA 514 (up (s.A 514) 2 n)).A (517 + i) 1 = up (s.A 626) 2 n (68 + 3 * i + 1) ∧ (s.setA 514 (up (s.A 514) 2 n)).A (517 + i) 2 = up (s.A 626) 2 n (68 + 3 * i + 2) ∧ (∃ d, d < 20 ∧ up (s.A 626) 2 n (68 + 3 * i + 1) = nI d) ∧ ∃ z, z ≤ 1 ∧ up (s.A 626) 2 n (68 + 3 * i + 2) = nI z
      rw [up_ne (by omega), up_ne (by omega), up_ne (by omega), setA_ne (by omega)]
      exact z
    · intro i hi
      have g8 := hx.1.2.2.2.2.2.2.2
      have z := hx.2.2.2.2.2 i hi
      show (s.setA 514 (up (s.A 514) 2 n)).A (526 + i) 0 = up (s.A 626) 2 n (92 + 2 * i) ∧ (s.setA 514 (up (s.A 514) 2 n)).A (526 + i) 1 = up (s.A 626) 2 n (92 + 2 * i + 1) ∧ (∃ p, p < N ∧ up (s.A 626) 2 n (92 + 2 * i) = nI p) ∧ ∃ p, p < N ∧ up (s.A 626) 2 n (92 + 2 * i + 1) = nI p
      rw [up_ne (by omega), up_ne (by omega), setA_ne (by omega)]
      exact z
end CASES6
