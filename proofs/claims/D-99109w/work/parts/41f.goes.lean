/-! CASES 4: days to come (by hand) -/
set_option maxRecDepth 100000
section GOES
variable {N : Nat} {a n r : Nat → Int32} {L : Lw}
theorem goes_at {j : Nat} (k : MI a) (hj : ∀ h, h < 7 → j ≠ 12 + 8 * h + 1) (h8 : j ≠ 8) : ∀ m, goesM a L m j = a j
  | 0 => rfl
  | m + 1 => by
    have h := goesM_ok (L := L) k m
    have e : goesM a L (m + 1) = if goesM a L m 8 < 9999 then passM (goesM a L m) L else goesM a L m := rfl
    rw [e]
    split
    · exact ((up_ne h8).trans (passH_out (Vw.n7 h.1.1) hj)).trans (goes_at k hj h8 m)
    · exact goes_at k hj h8 m
theorem CurR.d99 (h : CurR N a r) : ∃ d, d ≤ 9999 ∧ a 8 = nI d ∧ r 0 = a 8 := by
  obtain ⟨w, -, ⟨q1, d, hd, q2⟩, -⟩ := h
  exact ⟨d, hd, q2, q1⟩
/-- the days go by alike -/
theorem goes_rel (hX : extL L) (hm : MI a) (h0 : a 0 = nI N) (n0 : n 0 = nI N) (h7 : N ≤ 7) (hc : CurR N a r) : ∀ m, CurR N (goesM a L m) (goesS L n r m)
  | 0 => hc
  | m + 1 => by
    have ih := goes_rel hX hm h0 n0 h7 hc m
    obtain ⟨d, hd, ed, er⟩ := ih.d99
    have e : goesM a L (m + 1) = if goesM a L m 8 < 9999 then passM (goesM a L m) L else goesM a L m := rfl
    have eS : goesS L n r (m + 1) = if goesS L n r m 0 < 9999 then passS L n (goesS L n r m) else goesS L n r m := rfl
    rw [e, eS, er]
    have g0 : goesM a L m 0 = nI N := (goes_at hm (by omega) (by decide) m).trans h0
    by_cases z : d < 9999
    · have zz : goesM a L m 8 < 9999 := by rw [ed, Int32.lt_iff_toInt_lt, nI_t (by omega)]; show (d : Int) < 9999; omega
      rw [if_pos zz, if_pos zz]
      exact (pass_eq hX g0 n0 h7 ih ed z).1
    · have zz : ¬ goesM a L m 8 < 9999 := by rw [ed, Int32.lt_iff_toInt_lt, nI_t (by omega)]; show ¬ (d : Int) < 9999; omega
      rw [if_neg zz, if_neg zz]
      exact ih
theorem goes_vw (hX : extL L) (hm : MI a) (h0 : a 0 = nI N) (n0 : n 0 = nI N) (h7 : N ≤ 7) (hc : CurR N a r) (m : Nat) : vwM (goesM a L m) = vwS n (goesS L n r m) := by
  have q := goes_rel (n := n) hX hm h0 n0 h7 hc m
  obtain ⟨w, -, -, -, -, hh, -⟩ := q
  exact vw_eq ((goes_at hm (by omega) (by decide) m).trans h0) n0 h7 hh
theorem goes_her (hm : MI a) (h0 : a 0 = nI N) (h7 : N ≤ 7) (m : Nat) {k : Nat} (hk : k < N) : (vwM (goesM a L m)).her (nI k) = (vwM a).her (nI k) := by
  have g0 : goesM a L m 0 = nI N := (goes_at hm (by omega) (by decide) m).trans h0
  have h1 := N_hou g0 h7 hk
  have h2 := N_hou h0 h7 hk
  rw [her_go h1, her_go h2, vwM_go h1, vwM_go h2, g3_n (by omega), g3_n (by omega), goes_at hm (by omega) (by omega) m]
theorem goes_n (hm : MI a) (m : Nat) : (vwM (goesM a L m)).n = (vwM a).n := by
  show cI (goesM a L m 0) = cI (a 0)
  rw [goes_at hm (by omega) (by decide) m]
theorem poor_same (hm : MI a) (h0 : a 0 = nI N) (h7 : N ≤ 7) (m : Nat) : ∀ k, k ≤ N → (vwM (goesM a L m)).poor k = poor2 (vwM a) (vwM (goesM a L m)) k
  | 0, _ => rfl
  | k + 1, hk => by
    have ih := poor_same hm h0 h7 m k (by omega)
    have e1 : (vwM (goesM a L m)).poor (k + 1) = if (vwM (goesM a L m)).her (nI k) && (decide ((vwM (goesM a L m)).poor k = -1) || decide ((vwM (goesM a L m)).pu (nI k) < (vwM (goesM a L m)).pu ((vwM (goesM a L m)).poor k))) then nI k else (vwM (goesM a L m)).poor k := rfl
    have e2 : poor2 (vwM a) (vwM (goesM a L m)) (k + 1) = if (vwM a).her (nI k) && (decide (poor2 (vwM a) (vwM (goesM a L m)) k = -1) || decide ((vwM (goesM a L m)).pu (nI k) < (vwM (goesM a L m)).pu (poor2 (vwM a) (vwM (goesM a L m)) k))) then nI k else poor2 (vwM a) (vwM (goesM a L m)) k := rfl
    rw [e1, e2, ih, goes_her hm h0 h7 m (by omega)]
theorem sum_cg {f g : Nat → Int32} : ∀ n, (∀ k, k < n → f k = g k) → sumUp f n = sumUp g n
  | 0, _ => rfl
  | n + 1, h => by
    rw [sumUp_s, sumUp_s, sum_cg n (fun k hk => h k (by omega)), h n (by omega)]
theorem sum_same (hm : MI a) (h0 : a 0 = nI N) (h7 : N ≤ 7) (m : Nat) (k : Nat) (hk : k ≤ N) : (vwM (goesM a L m)).sumPu k = sumPu2 (vwM a) (vwM (goesM a L m)) k := by
  unfold Vw.sumPu sumPu2
  refine sum_cg k (fun j hj => ?_)
  show (if (vwM (goesM a L m)).her (nI j) then (vwM (goesM a L m)).pu (nI j) else 0) = if (vwM a).her (nI j) then (vwM (goesM a L m)).pu (nI j) else 0
  rw [goes_her hm h0 h7 m (by omega)]
end GOES
theorem pick4 {P : Nat → Lw → Prop} : ∀ n, (∀ t, t < n → ∃ L, P t L) → ∃ Ls : Nat → Lw, ∀ t, t < n → P t (Ls t)
  | 0, _ => ⟨fun _ => (none, none, none), fun t h => absurd h (Nat.not_lt_zero t)⟩
  | n + 1, h => by
    obtain ⟨Ls, q⟩ := pick4 n (fun t ht => h t (by omega))
    obtain ⟨L, hL⟩ := h n (by omega)
    refine ⟨fun t => if t = n then L else Ls t, fun t ht => ?_⟩
    by_cases z : t = n
    · subst z; show P t (if t = t then L else Ls t); rw [if_pos rfl]; exact hL
    · show P t (if t = n then L else Ls t); rw [if_neg z]; exact q t (by omega)
section CASES4
variable {s : Sg}
theorem row_cg {N : Nat} {a r g : Nat → Int32} (h : CurR N a r) (h7 : N ≤ 7) : CurR N a (mv0 g r 145) := h.cg h7 (fun _ _ _ => rfl) (fun _ _ _ => rfl) (fun j hj => mv0_lt hj)
theorem b_foretold (h : Inv s) (k y : Int32) : Both s mX0_foretold mX2_foretold [.int k, .int y] := by
  obtain ⟨N, nt, c, e, g, hx⟩ := h.rx
  obtain ⟨x, L, hR, hL⟩ := h.law
  have ev := hx.vw
  cases hc : inI k 1 60 && (vwM (s.A 626)).hou y
  · exact both_n h (r_X0_foretold_f k y (by rw [← ev]; exact hc)) (fun N V B => r_X2_foretold_f (N := N) (V := V) (B := B) k y hc) rfl
  · obtain ⟨c1, c2⟩ := Bool.and_eq_true_iff.mp hc
    obtain ⟨q, q1, q2, rfl⟩ := in_n (a := 1) (b := 60) c1 rfl rfl
    have k0 : 0 ≤ (nI q).toInt := by rw [nI_t (by omega)]; omega
    have xr := r_X0_foretold_t hx.ok hR (nI q) y k0 (by rw [← ev]; exact hc)
    have gv := goes_vw (n := s.A 514) hR.2.2 hx.mi hx.n0.1 hx.n0.2.1 hx.h7 (row_cg (g := s.A 621) hx.cr hx.h7) (cI (nI q))
    unfold aheadS at xr
    rw [← gv] at xr
    exact both_q h xr (dm := 10) (fun t h1 h2 N V B => by
      have q := r_X2_foretold_t (s := t) (N := N) (V := V) (B := B) (L := L) (by rw [h1]; exact hx.mi) (by rw [h1, h2]; exact hL) (nI q) y k0 (by rw [h1]; exact hc)
      rw [h1] at q
      exact q) rfl
theorem b_poorest (h : Inv s) (k : Int32) : Both s mX0_poorest mX2_poorest [.int k] := by
  obtain ⟨N, nt, c, e, g, hx⟩ := h.rx
  obtain ⟨x, L, hR, hL⟩ := h.law
  have ev := hx.vw
  cases hc : inI k 1 60
  · exact both_n h (r_X0_poorest_f k hc) (fun N V B => r_X2_poorest_f (N := N) (V := V) (B := B) k hc) rfl
  · obtain ⟨q, q1, q2, rfl⟩ := in_n (a := 1) (b := 60) hc rfl rfl
    have k0 : 0 ≤ (nI q).toInt := by rw [nI_t (by omega)]; omega
    have xr := r_X0_poorest_t hx.ok hR (nI q) k0 hc
    have gv := goes_vw (n := s.A 514) hR.2.2 hx.mi hx.n0.1 hx.n0.2.1 hx.h7 (row_cg (g := s.A 621) hx.cr hx.h7) (cI (nI q))
    unfold aheadS at xr
    rw [← gv, ← ev, hx.hn, ← poor_same hx.mi hx.n0.1 hx.h7 _ N (Nat.le_refl N)] at xr
    exact both_q h xr (dm := 10) (fun t h1 h2 N2 V B => by
      have q := r_X2_poorest_t (s := t) (N := N2) (V := V) (B := B) (L := L) (by rw [h1]; exact hx.mi) (by rw [h1, h2]; exact hL) (nI q) k0 hc
      rw [h1, goes_n hx.mi, hx.hn] at q
      exact q) rfl
theorem b_whose (h : Inv s) (k : Int32) : Both s mX0_whose mX2_whose [.int k] := by
  obtain ⟨⟨N, nt, c, e, g, N2, nt2, c2, e2, g2, hx, hi, hle, hT, htx⟩, -⟩ := id h
  have ev := hx.vw
  cases hc : inI k 1 60
  · exact both_n h (r_X0_whose_f k hc) (fun N V B => r_X2_whose_f (N := N) (V := V) (B := B) k hc) rfl
  · obtain ⟨q, q1, q2, rfl⟩ := in_n (a := 1) (b := 60) hc rfl rfl
    have k0 : 0 ≤ (nI q).toInt := by rw [nI_t (by omega)]; omega
    have h7 := hx.h7
    obtain ⟨h1, n1, n4⟩ := hx.1.2.1
    obtain ⟨Ls, hLs⟩ := pick4 (P := fun t L => (∃ a, s.T (2 * t) = .ref a ∧ LawT s.b a L ∧ extL L) ∧ LawM (up (s.A 626) 2 (nI t)) (s.A 628) L) nt (fun t ht => by
      obtain ⟨x, ix, cls, L, tx⟩ := htx t ht
      obtain ⟨l1, l2, l3⟩ := tx.law (a := up (s.A 626) 2 (nI t)) (by omega) up_eq
      exact ⟨L, ⟨x, tx.1, l2, l3⟩, l1⟩)
    have mi2 : ∀ t, MI (up (s.A 626) 2 (nI t)) := fun t => by
      have m := hx.mi
      exact ⟨ok_of (up_ne (by decide)).symm m.1, by rw [up_ne (by decide)]; exact m.2.1, by rw [up_ne (by decide)]; exact m.2.2⟩
    have hF : ∀ (t : Nat) (r : Nat → Int32), t < nt → sumsS s Ls (nI q) r t = sumsM (s.A 626) Ls (nI q) t := fun t r ht => by
      obtain ⟨⟨a, -, -, lx⟩, -⟩ := hLs t ht
      have c0 : CurR N (up (s.A 626) 2 (nI t)) (mv0 r (s.A 515) 145) := hx.cr.cg h7 (fun j _ _ => up_ne (by omega)) (fun j _ _ => up_ne (by omega)) (fun j hj => mv0_lt hj)
      have u0 : up (s.A 626) 2 (nI t) 0 = nI N := (up_ne (by decide)).trans hx.n0.1
      have gv := goes_vw (n := s.A 514) lx (mi2 t) u0 hx.n0.2.1 h7 c0 (cI (nI q))
      have ss := sum_same (L := Ls t) (mi2 t) u0 h7 (cI (nI q)) N (Nat.le_refl N)
      have evu : vwM (up (s.A 626) 2 (nI t)) = vwS (s.A 514) (s.A 515) := by
        have c1 : CurR N (up (s.A 626) 2 (nI t)) (s.A 515) := hx.cr.cg h7 (fun j _ _ => up_ne (by omega)) (fun j _ _ => up_ne (by omega)) (fun _ _ => rfl)
        obtain ⟨w, -, -, -, -, hh, -⟩ := c1
        exact vw_eq u0 hx.n0.2.1 h7 hh
      have en : (vwS (s.A 514) (s.A 515)).n = N := by rw [← ev]; exact hx.hn
      have en2 : (vwM (goesM (up (s.A 626) 2 (nI t)) (Ls t) (cI (nI q)))).n = N := by rw [goes_n (mi2 t), evu, en]
      unfold sumsS sumsM
      rw [en, en2, ss, evu, gv]
    have xr := r_X0_whose_t hx.ok Ls nt n1 n4 (fun t ht => (hLs t ht).1) (nI q) k0 (sumsM (s.A 626) Ls (nI q)) (fun t r ht => hF t r ht) hc
    exact both_q h xr (dm := 10) (fun t h1' h2 N2 V B => by
      have q := r_X2_whose_t (s := t) (N := N2) (V := V) (B := B) (by rw [h1']; exact hx.mi) Ls nt (by rw [h1']; exact h1) n4 (fun t2 ht => by rw [h1', h2]; exact (hLs t2 ht).2) (nI q) k0 hc
      rw [h1'] at q
      exact q) rfl
end CASES4
