/-! CASES 5: doings (by hand) -/
set_option maxRecDepth 100000
theorem Rel.to {a : Nat → Int32} {A A2 : Nat → Nat → Int32} (h : Rel a A) (k : ∀ j, 514 ≤ j → j < 565 → A2 j = A j) : Rel a A2 := by
  obtain ⟨N, nt, c, e, g, q⟩ := h
  exact (q.to k).rel
section CASES5
variable {s : Sg} {X M : Mt} {av : List Value} {dx dm c u : Nat} {r : Int32} {b : Nat → Int32}
theorem both_r (h : Inv s) (x : RX (QF s b c u) dx X (.ref 512 :: av) (hp s) (some (.int r))) (m : ∀ t : Sg, t.A 626 = s.A 626 → t.A 628 = s.A 628 → ∀ N V B, RX (Qn (t.setA 626 b)) dm M (.ref 625 :: av) (hp (sn t N V B)) (some (.int r))) (e1 : b 1 = s.A 626 1) (hc : c ≤ 5000) (hu : u ≤ 40000) (hd : dx ≤ 133 ∧ dm ≤ 133 := by decide) : Both s X M av := by
  obtain ⟨_, ⟨t, ft, rt, rfl⟩, run⟩ := x
  obtain ⟨B, hB⟩ := h.B
  have xf := XF.fr ft hc hu
  have hB2 : t.A 633 = fun j => b2i (B j) := (xf.1 633 (by decide) (by decide) (by decide)).trans hB
  obtain ⟨_, ⟨N, V, B2, rfl⟩, mrun⟩ := m t (xf.1 626 (by decide) (by decide) (by decide)) (xf.1 628 (by decide) (by decide) (by decide)) (t.A 631) t.V B
  rw [← sn_me hB2] at mrun
  have e6 : (sn (t.setA 626 b) N V B2).A 626 = b := (sn_A (by decide) (by decide)).trans setA_at
  refine ⟨dx, dm, r, t, _, hd, run, mrun, h.step xf MF.sn6 ?_ (by rw [e6]; exact e1), ft.x.2.2.2.2 500 (by omega)⟩
  rw [e6]
  exact rt.to (fun j a b => (sn_A (by omega) (by omega)).trans (setA_ne (by omega)))
theorem both_r1 (h : Inv s) (x : RX (QF s b c u) dx X (.ref 512 :: av) (hp s) (some (.int r))) (m : ∀ t : Sg, t.A 626 = s.A 626 → Run dm M (.ref 625 :: av) (hp t) (.inl (some (.int r))) (hp (t.setA 626 b))) (e1 : b 1 = s.A 626 1) (hc : c ≤ 5000) (hu : u ≤ 40000) (hd : dx ≤ 133 ∧ dm ≤ 133 := by decide) : Both s X M av := by
  obtain ⟨_, ⟨t, ft, rt, rfl⟩, run⟩ := x
  have xf := XF.fr ft hc hu
  have hB2 : ∃ B : Nat → Bool, t.A 633 = fun j => b2i (B j) := by rw [xf.1 633 (by decide) (by decide) (by decide)]; exact h.B
  have e6 : (t.setA 626 b).A 626 = b := setA_at
  refine ⟨dx, dm, r, t, _, hd, run, m t (xf.1 626 (by decide) (by decide) (by decide)), h.step xf ⟨fun k _ h2 => setA_ne h2, ⟨rfl, rfl, rfl, rfl, rfl, rfl, rfl, rfl⟩, rfl, rfl, hB2⟩ ?_ (by rw [e6]; exact e1), ft.x.2.2.2.2 500 (by omega)⟩
  rw [e6]
  exact rt.to (fun j a b => setA_ne (by omega))
theorem b_house (h : Inv s) (d1 d2 d3 pu fr : Int32) : Both s mX0_house mX2_house [.int d1, .int d2, .int d3, .int pu, .int fr] := by
  obtain ⟨N, nt, c, e, g, hx⟩ := h.rx
  cases hc : okH (s.A 626 0) d1 d2 d3 pu fr
  · exact both_same h (q_house_f hx d1 d2 d3 pu fr hc) (r_X2_house_f d1 d2 d3 pu fr hc) rfl
  · have h7 : N < 7 := by
      have q := okH_n hc
      have := hx.h7
      rcases Nat.lt_or_ge N 7 with z | z
      · exact z
      · have : N = 7 := by omega
        subst this
        exact absurd hx.n0.1 q
    exact both_r1 h (q_house_t hx d1 d2 d3 pu fr hc) (fun t ht => by
      have q := r_X2_house_t (s := t) d1 d2 d3 pu fr N (by rw [ht]; exact hx.n0.1) h7 (by rw [ht]; exact hc)
      rw [ht] at q
      exact q) (houseM_lo h7 (by decide) (by decide)) (by decide) (by decide)
theorem b_marry (h : Inv s) (p q : Int32) : Both s mX0_marry mX2_marry [.int p, .int q] := by
  obtain ⟨N, nt, c, e, g, hx⟩ := h.rx
  cases hc : (vwM (s.A 626)).weds p q
  · exact both_same h (q_marry_f hx p q hc) (r_X2_marry_f hx.mi.n p q hc) rfl
  · have e0 := keepI_lo hx.mi (j := 0) (by decide) (by decide)
    have hk : ∀ {y : Int32}, (vwM (s.A 626)).hou y = true → (vwM (keepI (s.A 626))).hou y = true := fun q => hou_of0 e0.symm q
    exact both_r1 h (q_marry_t hx p q hc).2 (fun t ht => by
      have z := r_X2_marry_t (s := t) (by rw [ht]; exact hx.mi.n) p q (by rw [ht]; exact hc) c (by rw [ht]; exact hx.n3.2.2) hx.n3.2.1
      rw [ht, ← hx.kI] at z
      exact z) ((marry_1 (MI_keep hx.mi) (hk (weds_hou hc).1) (hk (weds_hou hc).2)).trans (keep_1 hx.mi)) (by decide) (by decide)
theorem b_hat (h : Inv s) (y : Int32) : Both s mX0_hat mX2_hat [.int y] := by
  obtain ⟨N, nt, c, e, g, hx⟩ := h.rx
  cases hc : (vwM (s.A 626)).draws y
  · exact both_same h (q_hat_f hx y hc) (r_X2_hat_f hx.mi.n y hc) rfl
  · have e0 := keepI_lo hx.mi (j := 0) (by decide) (by decide)
    have hk : ∀ {y : Int32}, (vwM (s.A 626)).hou y = true → (vwM (keepI (s.A 626))).hou y = true := fun q => hou_of0 e0.symm q
    exact both_r1 h (q_hat_t hx y hc) (fun t ht => by
      have z := r_X2_hat_t (s := t) (by rw [ht]; exact hx.mi.n) y (by rw [ht]; exact hc) c (by rw [ht]; exact hx.n3.2.2) hx.n3.2.1 (in_get hx.mi.n (draws_hou hc) (by decide) (by decide))
      rw [ht, ← hx.kI] at z
      exact z) ((hat_1 (MI_keep hx.mi) (hk (draws_hou hc))).trans (keep_1 hx.mi)) (by decide) (by decide)
theorem b_forget (h : Inv s) (d y : Int32) : Both s mX0_forget mX2_forget [.int d, .int y] := by
  obtain ⟨N, nt, c, e, g, hx⟩ := h.rx
  cases hc : (vwM (s.A 626)).forgets d y
  · exact both_same h (q_forget_f hx d y hc) (r_X2_forget_f hx.mi.n d y hc) rfl
  · have e0 := keepI_lo hx.mi (j := 0) (by decide) (by decide)
    have hk : ∀ {y : Int32}, (vwM (s.A 626)).hou y = true → (vwM (keepI (s.A 626))).hou y = true := fun q => hou_of0 e0.symm q
    exact both_r1 h (q_forget_t hx d y hc) (fun t ht => by
      have z := r_X2_forget_t (s := t) (by rw [ht]; exact hx.mi.n) d y (by rw [ht]; exact hc) c (by rw [ht]; exact hx.n3.2.2) hx.n3.2.1 (in_get hx.mi.n (forgets_hou hc) (by decide) (by decide))
      rw [ht, ← hx.kI] at z
      exact z) ((forget_1 (MI_keep hx.mi) (hk (forgets_hou hc))).trans (keep_1 hx.mi)) (by decide) (by decide)
theorem b_knock (h : Inv s) (y : Int32) : Both s mX0_knock mX2_knock [.int y] := by
  obtain ⟨N, nt, c, e, g, hx⟩ := h.rx
  obtain ⟨x, L, hR, hL⟩ := h.law
  cases hc : (vwM (s.A 626)).her y
  · exact both_n h (q_knock_f hx y hc) (fun N V B => r_X2_knock_f (N := N) (V := V) (B := B) hx.mi.n y hc) rfl
  · obtain ⟨k, hk, rfl⟩ := hou_V hx.1.1.1 hx.h7 (Vw.her_hou hc)
    have e0 := keepI_lo hx.mi (j := 0) (by decide) (by decide)
    have hkk : (vwM (keepI (s.A 626))).hou (nI k) = true := hou_of0 e0.symm (Vw.her_hou hc)
    exact both_r h (q_knock_k h.b hx hR hk hc) (dm := 9) (fun t h1 h2 N V B => by
      have q := r_X2_knock_t (s := t) (N := N) (V := V) (B := B) (L := L) (by rw [h1]; exact hx.mi) (by rw [h1, h2]; exact hL) (nI k) (by rw [h1]; exact hc)
      rw [h1] at q
      exact q) ((knock_1 (MI_keep hx.mi) hkk).trans (keep_1 hx.mi)) (by decide) (by decide)
theorem are_t {N nt c e g x : Nat} {a : Nat → Int32} {s : Sg} {L : Lw} (h : RelX N nt c e g a s.A) (hR : Rl s x L) {d m : Nat} (hd : a 8 = nI d) (hdm : d + m ≤ 9999) : ∀ j k, k + j = m → arePF a L j k = true
  | 0, _, _ => rfl
  | j + 1, k, hk => by
    have e : arePF a L (j + 1) k = if keepsM a L k 8 = 9999 then false else arePF a L j (k + 1) := rfl
    have k8 := (keepsM_8 h hR hd k (by omega)).1
    rw [e, if_neg (by rw [k8]; exact fun q => by have := (nI_eq (a := d + k) (b := 9999) (by omega) (by omega)).mp q; omega)]
    exact are_t h hR hd hdm j (k + 1) (by omega)
theorem b_day (h : Inv s) (n : Int32) : Both s mX0_day mX2_day [.int n] := by
  obtain ⟨N, nt, c, e, g, hx⟩ := h.rx
  obtain ⟨x, L, hR, hL⟩ := h.law
  cases hc : inI n 1 60 && decide (s.A 626 8 + n ≤ 9999)
  · exact both_n h (q_day_f hx n hc) (fun N V B => r_X2_day_f (N := N) (V := V) (B := B) n hc) rfl
  · obtain ⟨c1, c2⟩ := Bool.and_eq_true_iff.mp hc
    obtain ⟨m, m1, m2, rfl⟩ := in_n (a := 1) (b := 60) c1 rfl rfl
    obtain ⟨d, d1, d2⟩ := hx.d99
    have k0 : 0 ≤ (nI m).toInt := by rw [nI_t (by omega)]; omega
    have hdm : d + m ≤ 9999 := by
      have q := of_decide_eq_true c2
      rw [d2, nI_add, Int32.le_iff_toInt_le, nI_t (by omega)] at q
      have q2 : ((d + m : Nat) : Int) ≤ 9999 := q
      omega
    have em : cI (nI m) = m := cI_nI (by omega)
    exact both_r h (q_day_t h.b hx hR d2 m1 m2 hdm) (dm := 10) (fun t h1 h2 N V B => by
      have q := r_X2_day_t (s := t) (N := N) (V := V) (B := B) (L := L) (by rw [h1]; exact hx.mi) (by rw [h1, h2]; exact hL) (nI m) k0 (by rw [h1]; exact hc)
      rw [h1, em, Nat.sub_zero, if_pos (are_t hx hR d2 hdm m 0 (by omega))] at q
      exact q) (keeps_1 hx.mi m) (by decide) (by decide)
theorem b_undo (h : Inv s) : Both s mX0_undo mX2_undo [] := by
  obtain ⟨N, nt, c, e, g, hx⟩ := h.rx
  cases c with
  | zero => exact both_same h (q_undo_0 hx) (r_X2_undo_0 hx.n3.2.2) rfl
  | succ c =>
    obtain ⟨n, n7, e8, xr⟩ := q_undo_t hx
    have h3 := hx.n3
    exact both_r1 h xr (fun t ht => by
      have z := r_X2_undo (s := t) c n N (by rw [ht]; exact h3.2.2) (by omega) (by rw [ht]; exact hx.n0.1) hx.h7 (by rw [ht]; exact e8) n7
      rw [ht] at z
      exact z) undo_1 (by decide) (by decide)
theorem b_years (h : Inv s) (seed n : Int32) : Both s mX0_years mX2_years [.int seed, .int n] := by
  obtain ⟨N, nt, c, e, g, hx⟩ := h.rx
  obtain ⟨x, L, hR, hL⟩ := h.law
  cases hc : inI seed 0 9999 && (inI n 1 40 && !decide (s.A 626 0 = 0))
  · exact both_n h (q_years_f hx seed n hc) (fun N V B => r_X2_years_f (N := N) (V := V) (B := B) seed n hc) rfl
  · obtain ⟨c1, c23⟩ := Bool.and_eq_true_iff.mp hc
    obtain ⟨c2, c3⟩ := Bool.and_eq_true_iff.mp c23
    obtain ⟨q, -, q1, rfl⟩ := in_n (a := 0) (b := 9999) c1 rfl rfl
    obtain ⟨m, m1, m2, rfl⟩ := in_n (a := 1) (b := 40) c2 rfl rfl
    have hz : ¬ s.A 626 0 = 0 := fun z => by rw [decide_eq_true z] at c3; exact absurd c3 (by decide)
    have em : cI (nI m) = m := cI_nI (by omega)
    have es : nI q * 2 + 131 = nI (q * 2 + 131) := by
      rw [show (2 : Int32) = nI 2 from rfl, show (131 : Int32) = nI 131 from rfl, nI_mul, nI_add]
    have m0 : MI (up (keepI (s.A 626)) 9 (nI (q * 2 + 131))) := MI_9 (MI_keep hx.mi)
    exact both_r h (q_years_t h.b hx hR q1 m1 m2 hz) (dm := 10) (fun t h1 h2 N V B => by
      have z := r_X2_years_t (s := t) (N := N) (V := V) (B := B) (L := L) (by rw [h1]; exact hx.mi) (by rw [h1, h2]; exact hL) (nI q) (nI m) (by rw [h1]; exact hc)
      rw [h1, em, es] at z
      exact z) ((year_1 m0 m).trans ((up_ne (by decide)).trans (keep_1 hx.mi))) (by decide) (by decide)
theorem b_played (h : Inv s) (w : Int32) : Both s mX0_played mX2_played [.int w] := by
  obtain ⟨⟨N, nt, c, e, g, N2, nt2, c2, e2, g2, hx, hi, hle, hT, htx⟩, -⟩ := id h
  obtain ⟨x, L, hR, hL⟩ := h.law
  obtain ⟨h1, n1, n4⟩ := hx.1.2.1
  cases hc : inI w 0 (s.A 626 1 - 1)
  · exact both_n h (q_played_f hx w hc) (fun N V B => r_X2_played_f (N := N) (V := V) (B := B) w hc) rfl
  · have hw : ∃ tt, tt < nt ∧ w = nI tt := by
      have q := hc
      rw [h1] at q
      obtain ⟨q1, q2⟩ := inI_iff.mp q
      have p1 : 0 ≤ w.toInt := q1
      have p2 : w.toInt ≤ (nI nt - 1).toInt := q2
      have e1 : (nI nt - 1).toInt = (nt : Int) - 1 := by
        rcases nt with _ | nt
        · rfl
        · have : nI (nt + 1) - 1 = nI nt := by rw [nI_succ, Int32.add_sub_cancel]
          rw [this, nI_t (by omega)]; omega
      have := cI_of (x := w) p1
      exact ⟨cI w, by omega, (nI_cI p1).symm⟩
    obtain ⟨tt, ht, rfl⟩ := hw
    obtain ⟨x2, ix, cls, L2, hv, lo, Dl, C, hS, hTI, hC, hcl⟩ := htx tt ht
    have pe : playM (clauseD (s.A 628) tt) L cls.length 0 (s.A 626) = playD L (dosL cls 0) (s.A 626) := play_eq cls 0 (s.A 626) hcl (fun j cl hj => by
      obtain ⟨a1, a2, a3, a4⟩ := hTI.2.2 j cl hj
      rw [Nat.zero_add]
      refine ⟨a1, ?_, fun z => ?_, fun z => ?_⟩
      · show s.A 628 (705 * tt + 1 + 4 * j + 1) = _
        rw [show 705 * tt + 1 + 4 * j + 1 = 705 * tt + 2 + 4 * j by omega]; exact a2
      · show s.A 628 (705 * tt + 1 + 4 * j + 2) = _
        rw [show 705 * tt + 1 + 4 * j + 2 = 705 * tt + 3 + 4 * j by omega]
        exact a3 (Or.inr z)
      · show s.A 628 (705 * tt + 1 + 4 * j + 3) = _
        rw [show 705 * tt + 1 + 4 * j + 3 = 705 * tt + 4 + 4 * j by omega]; exact a4 z)
    have hD : ∀ k, k < cls.length → dayOk ((clauseD (s.A 628) tt) k).1 ((clauseD (s.A 628) tt) k).2.1 := fun k hk => by
      have hk2 : cls[k]? = some cls[k] := List.getElem?_eq_getElem hk
      obtain ⟨a1, a2, -, -⟩ := hTI.2.2 k _ hk2
      show dayOk (s.A 628 (705 * tt + 1 + 4 * k)) (s.A 628 (705 * tt + 1 + 4 * k + 1))
      rw [show 705 * tt + 1 + 4 * k + 1 = 705 * tt + 2 + 4 * k by omega, a1, a2]
      exact (hcl _ (List.getElem_mem hk)).2
    exact both_r h (q_played_t h.b hx hR (by omega) hc hv hS hcl hTI.2.1) (dm := 12) (fun t h1' h2 N V B => by
      have z := r_X2_played_t (s := t) (N := N) (V := V) (B := B) (L := L) (by rw [h1']; exact hx.mi) (by rw [h1', h2]; exact hL) tt cls.length (by omega) (by rw [h1']; exact hc) (by rw [h2]; exact hTI.1) hTI.2.1 (by rw [h2]; exact hD)
      rw [h1', h2, Nat.sub_zero, pe] at z
      exact z) (by rw [← pe]; exact play_1 _ _ _ _ hx.mi) (by decide) (by decide)
end CASES5
