/-! CASES 9: a text read (by hand) -/
set_option maxRecDepth 100000
def BothT (s : Sg) : Prop := ∃ (dx dm : Nat) (r : Int32) (t v : Sg), (dx ≤ 133 ∧ dm ≤ 133) ∧ RunW dx mX0_text hhT [.ref 512] (hp s) (some (.int r)) (hp t) ∧ Run dm mX2_text [.ref 625] (hp t) (.inl (some (.int r))) (hp v) ∧ Nxt s v ∧ t.b.g 500 = s.b.g 500
section CASES9
variable {s : Sg}
theorem TxI.set {b : AH} {X : Nat → Int32} {t : Nat} {v : Value} {x ix : Nat} {cls : List Cl} {L : Lw} {lo : Nat} {c : AC} (h : TxI b X t v x ix cls L) (h2 : 512 + b.n ≤ lo) : TxI (b.set lo c) X t v x ix cls L := by
  obtain ⟨h0, lo1, Dl, C, h1, h3⟩ := h
  exact ⟨h0, lo1, Dl, C, h1.by_ (Nat.le_refl _) (fun k hk _ => set_go (by omega)), h3⟩
theorem b_text (h : Inv s) : BothT s := by
  obtain ⟨⟨N, nt, c, e, g, N2, nt2, c2, e2, g2, hx, hi, hle, hT, htx⟩, ⟨p, p1, p2, p3, p4⟩, o1, ⟨o2, o3⟩, ⟨k4, o4⟩, ⟨w5, o5⟩, ⟨B, o6⟩, o7, c8, d8, o8⟩ := id h
  obtain ⟨n1, m1, n4⟩ := hx.1.2.1
  by_cases h4 : nt = 4
  · subst h4
    exact ⟨_, _, _, s, s, by decide, r_X0_text_4 m1, r_X2_text_n n1, h.same, rfl⟩
  have ht4 : nt < 4 := by omega
  have hby : ∀ k, k < p → 0 ≤ s.A 629 k := fun k hk => by
    rw [Int32.le_iff_toInt_le]; exact (p4 k hk).1
  have hle3 := rdT_le (t := s.A 629) (L0 := L0s s) p1 TF [] [] 0 (Nat.zero_le _) (fun c hc => absurd hc List.not_mem_nil)
  cases hr : rdT (byteF (s.A 629) p) (tkL (s.A 629) p (L0s s)) TF [] [] 0 with
  | inl rj =>
    obtain ⟨r, j⟩ := rj
    have r0 : ¬ r = 0 := fun z => by subst z; exact text_nz p1 j hr
    rw [hr] at hle3
    have hj : j ≤ 300 := hle3
    obtain ⟨b2, nu2, kd2, op2, ⟨x1, x2, x3, x4, x5⟩, xr⟩ := r_X0_text_f (s := s) (fun z => by
      rw [m1] at z
      have := (nI_eq (a := nt) (b := 4) (by omega) (by omega)).mp z
      omega) p3 p1 p4 o7 (L0s s) TF hr r0
    generalize hk : tkL (s.A 629) p (L0s s) j = K at xr
    generalize ht : (((Tk (((s.setS 101 0).setS 102 (-1)).setb b2) (512 + s.b.n) p (s.A 629) K nu2 op2 kd2).setS 101 r).setS 102 K.2.1).setS 100 0 = t at xr
    have tA : t.A = s.A := by rw [← ht]; rfl
    have tT : t.T = s.T := by rw [← ht]; rfl
    have tS : ∀ k, k ≠ 100 → k ≠ 101 → k ≠ 102 → t.S k = s.S k := fun k a b d => by
      rw [← ht]
      exact (setS_ne a).trans ((setS_ne d).trans ((setS_ne b).trans ((setS_ne d).trans (setS_ne b))))
    have tw : t.w = s.w := by rw [← ht]; rfl
    have t0 : t.S 100 = 0 := by rw [← ht]; exact setS_at
    have t1 : t.S 101 = r := by rw [← ht]; exact (setS_ne (by decide)).trans ((setS_ne (by decide)).trans setS_at)
    have t2 : t.S 102 = K.2.1 := by rw [← ht]; exact (setS_ne (by decide)).trans setS_at
    have tb : Ext 5000 40000 s.b t.b := by
      rw [← ht]
      exact ⟨x1, Nat.le_trans x2 (by omega), x3, Nat.le_trans x4 (by omega), fun k hk => (set_go (by omega)).trans (x5 k hk)⟩
    have eL : L0s t = L0s s := by unfold L0s; rw [tS 8 (by decide) (by decide) (by decide), tS 9 (by decide) (by decide) (by decide), tS 10 (by decide) (by decide) (by decide), tw]
    have mr := r_X2_text_f (s := t) (n := p) (t := nt) (k16 := k4) (w18 := w5) ((tS 4 (by decide) (by decide) (by decide)).trans p2) p1 (by rw [tA]; exact hby) ht4 (by rw [tA]; exact n1) ((tS 16 (by decide) (by decide) (by decide)).trans o4) ((tS 18 (by decide) (by decide) (by decide)).trans o5) (r := r) (j := j) (by rw [tA, eL]; exact hr) r0
    obtain ⟨_, ⟨v, rfl, v1, v6, v8, -, vV, vT, vb, vS, v4, v5, v9, v16, v18⟩, mrun⟩ := mr
    rw [tA, eL, hk] at v9
    have v6 : v.A 626 = s.A 626 := by rw [if_neg Bool.false_ne_true, tA] at v6; exact v6
    have vo : ∀ k, k ≠ 626 → k ≠ 628 → k ≠ 630 → v.A k = s.A k := fun k a b d => by rw [v1 k a b d, tA]
    refine ⟨_, _, _, t, v, by decide, xr, mrun, ⟨⟨⟨N, nt, c, e, g, N2, nt2, c2, e2, g2, ?_, ?_, hle, fun t ht => ?_, fun t ht => ?_⟩, ⟨0, Nat.zero_le _, v4, (vS 100 (by decide)).trans t0, fun k hk => absurd hk (Nat.not_lt_zero k)⟩, fun j hj => ?_, ⟨?_, ?_⟩, v16, v18, ⟨B, ?_⟩, ?_, c8, d8, ?_⟩, by rw [vb]; exact tb⟩, tb.2.2.2.2 500 (by omega)⟩
    · rw [v6]; exact hx.to (fun j a b => vo j (by omega) (by omega) (by omega))
    · rw [vo 627 (by decide) (by decide) (by decide)]; exact hi.to (fun j a b => vo (j + 53) (by omega) (by omega) (by omega))
    · rw [vT, tT]; exact hT t ht
    · obtain ⟨x, ix, cls, L, q⟩ := htx t ht
      rw [vT, tT, vb]
      exact ⟨x, ix, cls, L, (q.ext tb).cong (fun m a b => by rw [v8 m (by omega), tA])⟩
    · rw [vT, tT, vb]; exact (o1 j hj).ext tb
    · rw [vS 101 (by decide), t1, v5]
    · rw [vS 102 (by decide), t2, v9]
    · rw [vo 633 (by decide) (by decide) (by decide)]; exact o6
    · rw [vb]; exact o7.of tb.1 (fun k hk => tb.2.2.2.2 k (by omega))
    · rw [vb]; exact (tb.2.2.2.2 0 (by omega)).trans o8
  | inr q =>
    obtain ⟨cls, C, j⟩ := q
    rw [hr] at hle3
    obtain ⟨hj, hok⟩ := hle3
    have hj : j ≤ 300 := hj
    obtain ⟨b2, nu2, kd2, L2, ix2, ⟨x1, x2, x3, x4, x5⟩, xS, xr⟩ := r_X0_text_t (s := s) m1 ht4 p3 p1 p4 o7 (L0s s) TF hr
    generalize hk : tkL (s.A 629) p (L0s s) j = K at xr
    generalize hX : 512 + (s.b.n + 1) = X at xr xS
    generalize hTT : (fun j => if j % 2 = 0 then (up (fun j => s.T (2 * j)) nt (.ref X)) (j / 2) else s.T j : Nat → Value) = TT at xr
    generalize ht : (((Tk (((s.setS 101 0).setS 102 (-1)).setb b2) (512 + s.b.n) p (s.A 629) K nu2 (nI 0) kd2).setT TT).setS 100 0).setA 514 (up (s.A 514) 1 (s.A 514 1 + 1)) = t at xr
    have tA : ∀ k, k ≠ 514 → t.A k = s.A k := fun k hk => by rw [← ht]; exact setA_ne hk
    have t5 : t.A 514 = up (s.A 514) 1 (s.A 514 1 + 1) := by rw [← ht]; exact setA_at
    have tT : t.T = TT := by rw [← ht]; rfl
    have tS : ∀ k, k ≠ 100 → k ≠ 101 → k ≠ 102 → t.S k = s.S k := fun k a b d => by
      rw [← ht]
      exact (setS_ne a).trans ((setS_ne d).trans (setS_ne b))
    have tw : t.w = s.w := by rw [← ht]; rfl
    have t0 : t.S 100 = 0 := by rw [← ht]; exact setS_at
    have t1 : t.S 101 = 0 := by rw [← ht]; show up (up (up s.S 101 0) 102 (-1)) 100 0 101 = 0; rw [up_ne (by decide), up_ne (by decide), up_eq]
    have t2 : t.S 102 = -1 := by rw [← ht]; show up (up (up s.S 101 0) 102 (-1)) 100 0 102 = -1; rw [up_ne (by decide), up_eq]
    have tg : ∀ k, k ≠ 512 + s.b.n → t.b.g k = b2.g k := fun k hk => by rw [← ht]; exact set_go hk
    have tn : t.b.n = b2.n := by rw [← ht]; rfl
    have tu : t.b.u = b2.u := by rw [← ht]; rfl
    have eL : L0s t = L0s s := by unfold L0s; rw [tS 8 (by decide) (by decide) (by decide), tS 9 (by decide) (by decide) (by decide), tS 10 (by decide) (by decide) (by decide), tw]
    have tA9 : t.A 629 = s.A 629 := tA 629 (by decide)
    have mr := r_X2_text_t (s := t) (n := p) (t := nt) (k16 := k4) (w18 := w5) ((tS 4 (by decide) (by decide) (by decide)).trans p2) p1 (by rw [tA9]; exact hby) ht4 (by rw [tA 626 (by decide)]; exact n1) ((tS 16 (by decide) (by decide) (by decide)).trans o4) ((tS 18 (by decide) (by decide) (by decide)).trans o5) (cls := cls) (C := C) (j := j) (by rw [tA9, eL]; exact hr)
    obtain ⟨_, ⟨v, rfl, v1, v6, v8, vC, vV, vT, vb, vS, v4, v5, v9, v16, v18⟩, mrun⟩ := mr
    obtain ⟨vC1, vC2, vC3⟩ := vC rfl
    have v6 : v.A 626 = up (s.A 626) 1 (nI (nt + 1)) := by rw [if_pos rfl, tA 626 (by decide)] at v6; exact v6
    have vo : ∀ k, k ≠ 514 → k ≠ 626 → k ≠ 628 → k ≠ 630 → v.A k = s.A k := fun k z a b d => by rw [v1 k a b d, tA k z]
    have v14 : v.A 514 = up (s.A 514) 1 (nI (nt + 1)) := by
      rw [v1 514 (by decide) (by decide) (by decide), t5, m1, nI_succ]
    have hcap : capN ix2 ≤ 240 := by
      obtain ⟨E, ve, vl, vq, dv, -, -, hAL, -⟩ := id xS
      have q := hAL.2.2.2.2.2.1
      have hd : ∀ (l : List Cl) k, (dosL l k).length ≤ l.length := by
        intro l
        induction l with
        | nil => intro k; exact Nat.le_refl _
        | cons c l ih =>
          intro k
          have e : dosL (c :: l) k = if c.1 ≤ 2 then dosL l (k + 1) else (200 + c.1, c.2.1, c.2.2.1, c.2.2.2, nI k) :: dosL l (k + 1) := rfl
          rw [e]
          split
          · exact Nat.le_trans (ih _) (Nat.le_succ _)
          · exact Nat.succ_le_succ (ih _)
      have := hd cls 0
      have := vC1.2.1
      omega
    have tb : Ext 5000 40000 s.b t.b := ⟨by rw [tn]; exact x1, by rw [tn]; exact Nat.le_trans x2 (by omega), by rw [tu]; exact x3, by rw [tu]; exact Nat.le_trans x4 (by omega), fun k hk => (tg k (by omega)).trans (x5 k hk)⟩
    have xS2 : RdS t.b X X (512 + (s.b.n + 1 + 1)) ix2 cls C L2 := xS.by_ (by rw [tn]; exact Nat.le_refl _) (fun k hk hk2 => tg k (by omega))
    have TTe : ∀ k, k ≠ nt → TT (2 * k) = s.T (2 * k) := fun k hk => by
      rw [← hTT]
      show (if 2 * k % 2 = 0 then up (fun j => s.T (2 * j)) nt (.ref X) (2 * k / 2) else s.T (2 * k)) = _
      rw [if_pos (by omega), show 2 * k / 2 = k by omega, up_ne hk]
    have TTn : TT (2 * nt) = .ref X := by
      rw [← hTT]
      show (if 2 * nt % 2 = 0 then up (fun j => s.T (2 * j)) nt (.ref X) (2 * nt / 2) else s.T (2 * nt)) = _
      rw [if_pos (by omega), show 2 * nt / 2 = nt by omega, up_eq]
    have TTo : ∀ k, TT (2 * k + 1) = s.T (2 * k + 1) := fun k => by
      rw [← hTT]
      show (if (2 * k + 1) % 2 = 0 then _ else s.T (2 * k + 1)) = _
      rw [if_neg (by omega)]
    have txb : TxB t.b (.ref X) := by
      obtain ⟨E, ve, vl, vq, dv, ⟨-, -, hX3, -⟩, hX8, -⟩ := id xS2
      refine ⟨Or.inr ⟨X, _, by have := o7.1; omega, rfl, hX8⟩, fun a ha => ?_⟩
      cases ha
      exact hX3
    refine ⟨_, _, _, t, v, by decide, xr, mrun, ⟨⟨⟨N, nt + 1, c, e, g, N2, nt2, c2, e2, g2, ?_, ?_, by omega, fun t' ht' => ?_, fun t' ht' => ?_⟩, ⟨0, Nat.zero_le _, v4, (vS 100 (by decide)).trans t0, fun k hk => absurd hk (Nat.not_lt_zero k)⟩, fun j hj => ?_, ⟨?_, ?_⟩, v16, v18, ⟨B, ?_⟩, ?_, c8, d8, ?_⟩, by rw [vb]; exact tb⟩, tb.2.2.2.2 500 (by omega)⟩
    · rw [v6]
      obtain ⟨q2, q2'⟩ := hx.1.2.2.1
      obtain ⟨h4', m4, e8⟩ := hx.1.2.2.2.2.1
      obtain ⟨h5', m5, g8⟩ := hx.1.2.2.2.2.2
      refine RelX.head (A2 := v.A) (nt2 := nt + 1) (e2 := e) (g2 := g) hx (fun j hj => up_ne (by omega)) (by rw [v14]; exact ⟨up_ne (by decide), up_ne (by decide)⟩) (fun k hk => vo k (by omega) (by omega) (by omega) (by omega)) (by rw [v14]; exact ⟨up_eq, up_eq, by omega⟩) ?_ (by rw [v14]; exact ⟨(up_ne (by decide)).trans h4', (up_ne (by decide)).trans m4, e8⟩) (by rw [v14]; exact ⟨(up_ne (by decide)).trans h5', (up_ne (by decide)).trans m5, g8⟩) (see_lt hx (fun i hi => vo _ (by omega) (by omega) (by omega) (by omega)) (fun j a b => up_ne (by omega))) (gos_lt hx (fun i hi => vo _ (by omega) (by omega) (by omega) (by omega)) (fun j a b => up_ne (by omega)))
      rw [v14, up_ne (by decide), up_ne (by decide)]
      exact ⟨q2, q2'.imp id (fun ⟨t, a, b⟩ => ⟨t, by omega, b⟩)⟩
    · rw [vo 627 (by decide) (by decide) (by decide) (by decide)]; exact hi.to (fun j a b => vo (j + 53) (by omega) (by omega) (by omega) (by omega))
    · rw [vT, tT, TTo, TTe t' (by omega)]; exact hT t' ht'
    · rw [vT, tT, vb]
      by_cases z : t' = nt
      · subst z
        rw [TTn]
        exact ⟨X, ix2, cls, L2, rfl, X, _, C, xS2, vC1, ⟨vC2, vC3⟩, hok⟩
      · obtain ⟨x, ix, cls', L, q⟩ := htx t' (by omega)
        rw [TTe t' z]
        exact ⟨x, ix, cls', L, (q.ext tb).cong (fun m a b => by rw [v8 m (by omega), tA 628 (by decide)])⟩
    · rw [vT, tT, vb]
      rcases Nat.mod_two_eq_zero_or_one j with z | z
      · obtain ⟨k, rfl⟩ : ∃ k, j = 2 * k := ⟨j / 2, by omega⟩
        by_cases y : k = nt
        · subst y; rw [TTn]; exact txb
        · rw [TTe k y]; exact (o1 _ hj).ext tb
      · obtain ⟨k, rfl⟩ : ∃ k, j = 2 * k + 1 := ⟨j / 2, by omega⟩
        rw [TTo]; exact (o1 _ hj).ext tb
    · rw [vS 101 (by decide), t1, v5]
    · rw [vS 102 (by decide), t2, v9]
    · rw [vo 633 (by decide) (by decide) (by decide) (by decide)]; exact o6
    · rw [vb]; exact o7.of tb.1 (fun k hk => tb.2.2.2.2 k (by omega))
    · rw [vb]; exact (tb.2.2.2.2 0 (by omega)).trans o8
end CASES9
