/-! CASES 2: questions with scratch (by hand) -/
set_option maxRecDepth 100000
section CASES2
variable {s : Sg} {X M : Mt} {av : List Value} {dx dm : Nat} {r r2 : Int32}
/-- both alike, the model with scratch of its own -/
theorem both_m (h : Inv s) {v : Sg} (x : Run dx X (.ref 512 :: av) (hp s) (.inl (some (.int r))) (hp s)) (m : Run dm M (.ref 625 :: av) (hp s) (.inl (some (.int r2))) (hp v)) (mf : MF s v) (me : v.A 626 = s.A 626) (e : r2 = r) (hd : dx ≤ 133 ∧ dm ≤ 133 := by decide) : Both s X M av := ⟨dx, dm, r, s, v, hd, x, e ▸ m, h.ask (XF.refl s) mf (fun _ _ _ => rfl) me, rfl⟩
/-- the model's scratch left as it is -/
theorem both_n (h : Inv s) (x : Run dx X (.ref 512 :: av) (hp s) (.inl (some (.int r))) (hp s)) (m : ∀ N V B, Run dm M (.ref 625 :: av) (hp (sn s N V B)) (.inl (some (.int r2))) (hp (sn s N V B))) (e : r2 = r) (hd : dx ≤ 133 ∧ dm ≤ 133 := by decide) : Both s X M av := by
  obtain ⟨B, hB⟩ := h.B
  have q := m (s.A 631) s.V B
  rw [← sn_me hB] at q
  exact both_same h x q e hd
theorem both_q (h : Inv s) (x : RX (QX s 0 0) dx X (.ref 512 :: av) (hp s) (some (.int r))) (m : ∀ t : Sg, t.A 626 = s.A 626 → t.A 628 = s.A 628 → ∀ N V B, RX (Qs t) dm M (.ref 625 :: av) (hp (sn t N V B)) (some (.int r2))) (e : r2 = r) (hd : dx ≤ 133 ∧ dm ≤ 133 := by decide) : Both s X M av := by
  obtain ⟨_, ⟨t, et, xt, rfl⟩, run⟩ := x
  obtain ⟨B, hB⟩ := h.B
  have hB2 : t.A 633 = fun j => b2i (B j) := (et.A (by decide) (by decide)).trans hB
  obtain ⟨_, ⟨F, N, V, B2, rfl⟩, mrun⟩ := m t (et.A (by decide) (by decide)) (et.A (by decide) (by decide)) (t.A 631) t.V B
  rw [← sn_me hB2] at mrun
  exact ⟨dx, dm, r, t, _, hd, run, e ▸ mrun, h.ask (XF.eqx et xt (by decide) (by decide)) MF.sn4 (fun k a b => et.A (by omega) (by omega)) ((sn_A (by decide) (by decide)).trans (setA_ne (by decide))), xt.2.2.2.2 500 (by omega)⟩
theorem both_q0 (h : Inv s) (x : RX (QX s 0 0) dx X (.ref 512 :: av) (hp s) (some (.int r))) (m : ∀ t : Sg, t.A 626 = s.A 626 → t.A 628 = s.A 628 → ∀ N V B, RX (Qn t) dm M (.ref 625 :: av) (hp (sn t N V B)) (some (.int r2))) (e : r2 = r) (hd : dx ≤ 133 ∧ dm ≤ 133 := by decide) : Both s X M av := by
  refine both_q h x (fun t h1 h2 N V B => ?_) e hd
  obtain ⟨_, ⟨N2, V2, B2, rfl⟩, run⟩ := m t h1 h2 N V B
  exact ⟨_, ⟨t.A 634, N2, V2, B2, by rw [show t.setA 634 (t.A 634) = t from setA_id]⟩, run⟩
theorem MF.st2 {q : Int32 × Int32} (h : Inv s) : MF s (st2 s q) := ⟨fun _ _ _ => rfl, ⟨rfl, rfl, rfl, rfl, rfl, rfl, rfl, rfl⟩, rfl, rfl, h.B⟩
theorem MF.sl {W O : Int32} {q : Cq} (h : Inv s) : MF s (sl s W O q) := ⟨fun k h _ => up_ne (by omega), ⟨rfl, rfl, rfl, rfl, rfl, rfl, rfl, rfl⟩, rfl, rfl, h.B⟩
theorem b2i_z {p : Bool} : (if b2i p = 0 then (0 : Int32) else 1) = b2i p := by cases p <;> rfl
theorem b_thieves (h : Inv s) (dt k : Int32) (p : Bool) : Both s mX0_thieves mX2_thieves [.int dt, .int k, .int (b2i p)] := by
  obtain ⟨N, nt, c, e, g, hx⟩ := h.rx
  cases hc : inI dt 0 19 && inI k 1 7
  · refine both_same h (r_X0_thieves hx.ok dt k (b2i p)) (r_X2_thieves_f dt k p hc) ?_
    unfold Vw.thievesS
    rw [hc]
    rfl
  · refine both_m h (r_X0_thieves hx.ok dt k (b2i p)) (r_X2_thieves_t hx.mi.n dt k p hc) (MF.st2 h) rfl ?_
    rw [← thieves_eq hx.mi.n (fun y hy => hx.puv hy) p hc, hx.vw]
theorem b_night (h : Inv s) (k : Int32) : Both s mX0_night mX2_night [.int k] := by
  obtain ⟨N, nt, c, e, g, hx⟩ := h.rx
  cases hc : inI k 1 7
  · refine both_same h (r_X0_night hx.ok k) (r_X2_night_f k hc) ?_
    unfold Vw.nightS
    rw [hc]
    rfl
  · refine both_m h (r_X0_night hx.ok k) (r_X2_night_t hx.mi.n k hc) (MF.st2 h) rfl ?_
    rw [← night_eq hx.mi.n (fun y hy => hx.puv hy) hc, hx.vw]
theorem in_n {m lo hi : Int32} {a b : Nat} (h : inI m lo hi = true) (ha : lo.toInt = a) (hb : hi.toInt = b) : ∃ k, a ≤ k ∧ k ≤ b ∧ m = nI k := by
  obtain ⟨q1, q2⟩ := inI_iff.mp h
  have p1 : (a : Int) ≤ m.toInt := by rw [← ha]; exact q1
  have p2 : m.toInt ≤ (b : Int) := by rw [← hb]; exact q2
  have hc := cI_of (x := m) (by omega)
  exact ⟨cI m, by omega, by omega, (nI_cI (by omega)).symm⟩
theorem b_sets (h : Inv s) (y m : Int32) (p : Bool) : Both s mX0_sets mX2_sets [.int y, .int m, .int (b2i p)] := by
  obtain ⟨N, nt, c, e, g, hx⟩ := h.rx
  cases hc : (vwM (s.A 626)).hou y && inI m 1 3
  · exact both_same h (r_X0_sets_f y m (b2i p) (by rw [← hx.vw]; exact hc)) (r_X2_sets_f y m p hc) rfl
  · obtain ⟨c1, c2⟩ := Bool.and_eq_true_iff.mp hc
    obtain ⟨k, k1, k3, rfl⟩ := in_n (a := 1) (b := 3) c2 rfl rfl
    obtain ⟨n, u, hn, e1, e2, e3, e4⟩ := setsF_all (h := y) k1 k3 (s.A 635) hx.pgs hx.ses
    have hv : (vwS (s.A 514) (s.A 515)).hou y = true := by rw [← hx.vw]; exact c1
    have b3 := hx.bk; have w3 := hx.ew
    cases p
    · refine both_m h (r_X0_sets_0 hx.bokS hx.eokS y (nI k) hv c2) (r_X2_sets_t hx.bok hx.eok y (nI k) false hc) (MF.sl h) rfl ?_
      rw [if_neg Bool.false_ne_true, e1, ← b3, ← w3, e2]
    · refine both_m h (r_X0_sets_1 hx.bokS hx.eokS y (nI k) (b2i true) hv c2 (by decide)) (r_X2_sets_t hx.bok hx.eok y (nI k) true hc) (MF.sl h) rfl ?_
      rw [if_pos rfl, e1, ← b3, ← w3, e2]
      by_cases z : n = 0
      · subst z
        rw [if_pos (show nI 0 = 0 from rfl), if_neg (show ¬ (0 : Int32) < nI 0 by decide)]
      · rw [if_neg (show ¬ nI n = 0 from fun q => z ((nI_eq (a := n) (b := 0) (by omega) (by omega)).mp q)), if_pos (by rw [Int32.lt_iff_toInt_lt, nI_t (by omega)]; show (0 : Int) < n; omega)]
        exact (sure_eq hn e2 (fun d hd => ⟨(e3 d hd).1, (e3 d hd).2.2.1, (e3 d hd).2.2.2⟩) e4).symm
theorem b_odds (h : Inv s) (y m dt : Int32) (p : Bool) : Both s mX0_odds mX2_odds [.int y, .int m, .int dt, .int (b2i p)] := by
  obtain ⟨N, nt, c, e, g, hx⟩ := h.rx
  cases hc : (vwM (s.A 626)).hou y && (inI m 1 3 && inI dt 0 19)
  · exact both_same h (r_X0_odds_f y m dt (b2i p) (by rw [← hx.vw]; exact hc)) (r_X2_odds_f y m dt p hc) rfl
  · obtain ⟨c1, c23⟩ := Bool.and_eq_true_iff.mp hc
    obtain ⟨c2, c3⟩ := Bool.and_eq_true_iff.mp c23
    obtain ⟨k, k1, k3, rfl⟩ := in_n (a := 1) (b := 3) c2 rfl rfl
    obtain ⟨d, -, d3, rfl⟩ := in_n (a := 0) (b := 19) c3 rfl rfl
    obtain ⟨n, u, hn, e1, e2, e3, e4⟩ := setsF_all (h := y) k1 k3 (s.A 635) hx.pgs hx.ses
    obtain ⟨u1, u2, u3, -⟩ := e3 d (by omega)
    have hv : (vwS (s.A 514) (s.A 515)).hou y = true := by rw [← hx.vw]; exact c1
    have b3 := hx.bk; have w3 := hx.ew
    have mr := r_X2_odds_t hx.bok hx.eok y (nI k) (nI d) p hc n (u d) e1 (by rw [cI_nI (by omega)]; exact u2) (by omega) (by omega)
    rw [b3, w3] at e2 u3
    by_cases z : n = 0
    · subst z
      refine both_m h (r_X0_odds_0 hx.bokS hx.eokS y (nI k) (nI d) (b2i p) hv c2 c3 e2) mr (MF.sl h) rfl ?_
      rw [b2i_z]
      exact if_pos rfl
    · refine both_m h (r_X0_odds_1 hx.bokS hx.eokS y (nI k) (nI d) (b2i p) hv c2 c3 n (u d) e2 u3 z (by omega) (by omega)) mr (MF.sl h) rfl ?_
      unfold oddsF
      rw [if_neg z, Nat.gcd_comm]
      cases p <;> rfl
theorem b_nextKnock (h : Inv s) (y m : Int32) : Both s mX0_nextKnock mX2_nextKnock [.int y, .int m] := by
  obtain ⟨N, nt, c, e, g, hx⟩ := h.rx
  cases hc : (vwM (s.A 626)).hou y && inI m 1 3
  · exact both_same h (r_X0_nextKnock_f y m (by rw [← hx.vw]; exact hc)) (r_X2_nextKnock_f y m hc) rfl
  · obtain ⟨c1, c2⟩ := Bool.and_eq_true_iff.mp hc
    obtain ⟨k, k1, k3, rfl⟩ := in_n (a := 1) (b := 3) c2 rfl rfl
    obtain ⟨n, u, hn, e1, e2, e3, e4⟩ := setsF_all (h := y) k1 k3 (s.A 635) hx.pgs hx.ses
    have hv : (vwS (s.A 514) (s.A 515)).hou y = true := by rw [← hx.vw]; exact c1
    refine both_m h (r_X0_nextKnock_t hx.bokS hx.eokS y (nI k) hv c2) (r_X2_nextKnock_t hx.bok hx.eok y (nI k) hc) (MF.sl h) rfl ?_
    rw [e1, ← hx.bk, ← hx.ew, e2]
    exact (nk_eq (ws := fun k_1 => setsWS (bkM (s.A 626)) (ewM (s.A 626)) y (nI k) (bit (nI k_1))) hn (fun d hd => ⟨(e3 d hd).1, (e3 d hd).2.1, (e3 d hd).2.2.1⟩) 20 (Nat.le_refl _)).1
end CASES2
