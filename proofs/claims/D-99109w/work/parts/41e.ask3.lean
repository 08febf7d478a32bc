/-! CASES 3: appointments, weddings, what a house is, who earns most (by hand) -/
set_option maxRecDepth 100000
section CASES3
variable {s : Sg}
theorem XF.set {k : Nat} {f : Nat → Int32} (h : k < 565 ∨ (620 ≤ k ∧ k < 625)) : XF s (s.setA k f) := ⟨fun j a b d => setA_ne (by omega), fun _ _ => rfl, rfl, (Ext.refl _).mono (by decide) (by decide)⟩
theorem MF.set {t : Sg} {k : Nat} {f : Nat → Int32} (h : 634 ≤ k) (hB : ∃ B : Nat → Bool, t.A 633 = fun j => b2i (B j)) : MF t (t.setA k f) := ⟨fun j a _ => setA_ne (by omega), ⟨rfl, rfl, rfl, rfl, rfl, rfl, rfl, rfl⟩, rfl, rfl, by rw [setA_ne (by omega)]; exact hB⟩
theorem MF.trans {s t v : Sg} (h : MF s t) (k : MF t v) : MF s v := by
  obtain ⟨h1, ⟨a1, a2, a3, a4, a5, a6, a7, a8⟩, h3, h4, h5⟩ := h
  obtain ⟨k1, ⟨b1, b2, b3, b4, b5, b6, b7, b8⟩, k3, k4, k5⟩ := k
  exact ⟨fun j x y => (k1 j x y).trans (h1 j x y), ⟨b1.trans a1, b2.trans a2, b3.trans a3, b4.trans a4, b5.trans a5, b6.trans a6, b7.trans a7, b8.trans a8⟩, k3.trans h3, k4.trans h4, k5⟩
theorem b_appointments (h : Inv s) (x y : Int32) : Both s mX0_appointments mX2_appointments [.int x, .int y] := by
  obtain ⟨N, nt, c, e, g, hx⟩ := h.rx
  have ac := apCan_eq hx x y
  cases hc : (vwM (s.A 626)).apCan x y
  · exact both_same h (r_X0_appointments_f x y (ac.trans hc)) (r_X2_appointments_f hx.mi.n x y hc) rfl
  · obtain ⟨X, b, j, c0, w, M, rfl, hX, hb, hb5, hj, p1, p2, p3, p4, p5, p6, p7, p8, p9, p10, p11⟩ := appo_pure hx hc (s.A 636)
    have e5 := hx.d.1
    have ev := hx.vw
    have mk : ∀ R : Nat → Int32, ∃ M2 D2, Run 6 mX2_appointments [.ref 625, .int (nI X), .int y] (hp (s.setA 622 R)) (.inl (some (.int (if y = -1 then nI (b + j) else w)))) (hp (sp (s.setA 622 R) M2 D2)) := fun R => by
      have q := r_X2_appointments_t (s := s.setA 622 R) hx.mi.n (nI X) y hc b (b + j) c0 w M p4 (by omega) p5 (by omega) (by omega) p6 p7 p8 p9 p10 (fun D hy => p11 D hy)
      obtain ⟨_, ⟨M2, D2, rfl⟩, run⟩ := q
      exact ⟨M2, D2, run⟩
    have fin : ∀ R M2 D2, Nxt s (sp (s.setA 622 R) M2 D2) := fun R M2 D2 => by
      have hB : ∃ B : Nat → Bool, (s.setA 622 R).A 633 = fun j => b2i (B j) := h.B
      have m1 : MF (s.setA 622 R) ((s.setA 622 R).setA 636 M2) := MF.set (by decide) hB
      exact h.ask (XF.set (by decide)) (m1.trans (MF.set (by decide) m1.2.2.2.2)) (fun k a b => setA_ne (by omega)) rfl
    rw [ev] at hX p1 p2 p3
    rw [← e5] at p1 p2 p3
    by_cases y1 : y = -1
    · subst y1
      have xr := r_X0_appointments_a hx.ok X b j hX hb (by omega) (by omega) (fun i hi => p1 i hi _) (p2 _) (ac.trans hc)
      obtain ⟨M2, D2, mr⟩ := mk _
      rw [if_pos rfl] at mr
      exact ⟨_, _, _, _, _, by decide, xr, mr, fin _ M2 D2, rfl⟩
    · have xr := r_X0_appointments_h hx.ok y y1 X b j hX hb (by omega) (by omega) (fun i hi => p1 i hi _) (p2 _) (ac.trans hc)
      rw [p3 y1 _] at xr
      obtain ⟨M2, D2, mr⟩ := mk _
      rw [if_neg y1] at mr
      exact ⟨_, _, _, _, _, by decide, xr, mr, fin _ M2 D2, rfl⟩
theorem b_weddings (h : Inv s) (y : Int32) : Both s mX0_weddings mX2_weddings [.int y] := by
  obtain ⟨N, nt, c, e, g, hx⟩ := h.rx
  have ev := hx.vw
  cases hc : (decide (y = -1) || (vwM (s.A 626)).hou y)
  · obtain ⟨c1, c2⟩ := Bool.or_eq_false_iff.mp hc
    exact both_same h (r_X0_weddings_f y (of_decide_eq_false c1) (by rw [← ev]; exact c2)) (r_X2_weddings_f y hc) rfl
  · obtain ⟨r, r1, r2, r3, r4, r5⟩ := weds_all hx (s.A 623) (s.A 624) (s.A 638) (s.A 639)
    have mk := fun (W : Wd) => r_X2_weddings_t (s := sB s W.2.1 W.2.2 W.1) hx.mi.n y hc r r1 r2 r3
    have xf : ∀ W : Wd, XF s (sB s W.2.1 W.2.2 W.1) := fun W => ⟨fun k a b d => (up_ne (by omega)).trans (up_ne (by omega)), fun k hk => up_ne hk, rfl, (Ext.refl _).mono (by decide) (by decide)⟩
    have fin : ∀ (W : Wd) (M2 R2 : Nat → Int32), Nxt s (sw (sB s W.2.1 W.2.2 W.1) M2 R2) := fun W M2 R2 => by
      have hB : ∃ B : Nat → Bool, (sB s W.2.1 W.2.2 W.1).A 633 = fun j => b2i (B j) := h.B
      have m1 : MF (sB s W.2.1 W.2.2 W.1) ((sB s W.2.1 W.2.2 W.1).setA 638 M2) := MF.set (by decide) hB
      exact h.ask (xf W) (m1.trans (MF.set (by decide) m1.2.2.2.2)) (fun k a b => (up_ne (by omega)).trans (up_ne (by omega))) rfl
    by_cases y1 : y = -1
    · subst y1
      have mr := mk ((vwS (s.A 514) (s.A 515)).wedW (s.A 515 2) (s.A 623) (s.A 624))
      rw [if_pos rfl] at mr
      have xr := r_X0_weddings_a (s := s) hx.ok
      rw [r4] at xr
      exact ⟨_, _, _, _, _, by decide, xr, mr, fin _ _ _, rfl⟩
    · have c2 : (vwM (s.A 626)).hou y = true := by
        rcases Bool.or_eq_true_iff.mp hc with q | q
        · exact absurd (of_decide_eq_true q) y1
        · exact q
      obtain ⟨k, hk, rfl⟩ := hou_V hx.1.1.1 hx.h7 c2
      have h7 := hx.h7
      have mr := mk ((vwS (s.A 514) (s.A 515)).wedW (s.A 515 2) (s.A 623) (s.A 624))
      rw [if_neg y1, cI_nI (by omega)] at mr
      have xr := r_X0_weddings_h (s := s) hx.ok (nI k) y1 (by rw [← ev]; exact c2)
      rw [cI_nI (by omega), r5 k hk] at xr
      exact ⟨_, _, _, _, _, by decide, xr, mr, fin _ _ _, rfl⟩
theorem b_richest (h : Inv s) (p : Bool) : Both s mX0_richest mX2_richest [.int (b2i p)] := by
  obtain ⟨N, nt, c, e, g, hx⟩ := h.rx
  obtain ⟨x, L, hR, hL⟩ := h.law
  have ee : earnedX L (vwS (s.A 514) (s.A 515)) (s.A 515 0) = earnedF L (vwM (s.A 626)) (s.A 626 8) := by
    rw [← hx.vw, hx.d.1]
    funext date
    unfold earnedX earnedF
    simp only [earn_eq hR.2.2]
  have xr := r_X0_richest hx.ok hR p
  rw [ee] at xr
  exact both_q0 h xr (dm := 9) (fun t h1 h2 N V B => by
    have q := r_X2_richest (s := t) (N := N) (V := V) (B := B) (L := L) (by rw [h1]; exact hx.mi.n) (by rw [h1, h2]; exact hL) p
    rw [h1] at q
    exact q) rfl
theorem of_go {N nt c e g : Nat} {a : Nat → Int32} {A : Nat → Nat → Int32} (h : RelX N nt c e g a A) {k : Nat} (hk : k < N) : (if (vwM a).go (nI k) then (1 : Int32) else 0) = gtM a (nI k) 3 := by
  have h7 := h.h7
  have hh : (vwM a).hou (nI k) = true := N_hou h.1.1.1 h7 hk
  rw [vwM_go hh, g3_n (by omega)]
  obtain ⟨-, -, ⟨w, -, -, -, -, hc, -⟩, -⟩ := h
  have q : a (12 + 8 * k + 3) = b2i (tb (A 515 2) k) := (hc k hk).2.2.2
  rw [q]
  cases tb (A 515 2) k <;> rfl
theorem b_of (h : Inv s) (y w : Int32) : Both s mX0_of mX2_of [.int y, .int w] := by
  obtain ⟨N, nt, c, e, g, hx⟩ := h.rx
  obtain ⟨x, L, hR, hL⟩ := h.law
  have ev := hx.vw
  have e5 := hx.d.1
  cases hc : (vwM (s.A 626)).hou y
  · exact both_n h (r_X0_of_f y w (by rw [← ev]; exact hc)) (fun N V B => r_X2_of_f (N := N) (V := V) (B := B) y w hc) rfl
  have hv : (vwS (s.A 514) (s.A 515)).hou y = true := by rw [← ev]; exact hc
  obtain ⟨k, hk, ek⟩ := hou_V hx.1.1.1 hx.h7 hc
  by_cases w4 : w = 4
  · subst w4
    exact both_n h (r_X0_of_4 hx.ok y hv) (fun N V B => r_X2_of_4 (N := N) (V := V) (B := B) hx.mi hL y hc) (by rw [← ev, e5, shut_b])
  by_cases w5 : w = 5
  · subst w5
    have xr := r_X0_of_5 hx.ok hR y hv
    rw [← ev, e5, earn_eq hR.2.2] at xr
    exact both_q0 h xr (dm := 8) (fun t h1 h2 N V B => by
      have q := r_X2_of_5 (s := t) (N := N) (V := V) (B := B) (L := L) (by rw [h1]; exact hx.mi) (by rw [h1, h2]; exact hL) y (by rw [h1]; exact hc)
      rw [h1] at q
      exact q) rfl
  by_cases w6 : w = 6
  · subst w6
    have xr := r_X0_of_6 hx.ok hR y hv
    rw [← ev, e5, lose_eq hR.2.2] at xr
    exact both_q0 h xr (dm := 8) (fun t h1 h2 N V B => by
      have q := r_X2_of_6 (s := t) (N := N) (V := V) (B := B) (L := L) (by rw [h1]; exact hx.mi) (by rw [h1, h2]; exact hL) y (by rw [h1]; exact hc)
      rw [h1] at q
      exact q) rfl
  by_cases w7 : w = 7
  · subst w7
    have xr := r_X0_of_7 hx.ok hR y hv
    rw [← ev, e5, let_eq hR.2.2] at xr
    exact both_q0 h xr (dm := 8) (fun t h1 h2 N V B => by
      have q := r_X2_of_7 (s := t) (N := N) (V := V) (B := B) (L := L) (by rw [h1]; exact hx.mi) (by rw [h1, h2]; exact hL) y (by rw [h1]; exact hc)
      rw [h1] at q
      exact q) rfl
  by_cases w8 : w = 8
  · subst w8
    exact both_n h (r_X0_of_8 hx.ok y hv) (fun N V B => r_X2_of_8 (N := N) (V := V) (B := B) hx.mi hL y hc) (by rw [← ev, e5])
  have mo := fun N V B => r_X2_of_o (s := s) (N := N) (V := V) (B := B) hx.mi hL y w hc ⟨w4, w5, w6, w7, w8⟩
  by_cases w0 : w = 0
  · subst w0
    exact both_n h (r_X0_of_0 hx.ok y hv) mo (by rw [if_pos (by decide), ← ev, vwM_sh hc])
  by_cases w1 : w = 1
  · subst w1
    exact both_n h (r_X0_of_1 hx.ok y hv) mo (by rw [if_pos (by decide), ← ev, vwM_pu hc])
  by_cases w2 : w = 2
  · subst w2
    exact both_n h (r_X0_of_2 hx.ok y hv) mo (by rw [if_pos (by decide), ← ev, vwM_fr hc])
  by_cases w3 : w = 3
  · subst w3
    exact both_n h (r_X0_of_3 hx.ok y hv) mo (by rw [if_pos (by decide), ← ev, ek, of_go hx hk])
  have hno : ¬ (0 ≤ w.toInt ∧ w.toInt ≤ 8) := fun ⟨p1, p2⟩ => by
    have hcI := cI_of (x := w) p1
    have ew : w = nI (cI w) := (nI_cI p1).symm
    have : cI w = 0 ∨ cI w = 1 ∨ cI w = 2 ∨ cI w = 3 ∨ cI w = 4 ∨ cI w = 5 ∨ cI w = 6 ∨ cI w = 7 ∨ cI w = 8 := by omega
    rcases this with z | z | z | z | z | z | z | z | z <;> rw [z] at ew
    · exact w0 ew
    · exact w1 ew
    · exact w2 ew
    · exact w3 ew
    · exact w4 ew
    · exact w5 ew
    · exact w6 ew
    · exact w7 ew
    · exact w8 ew
  refine both_n h (r_X0_of_o hx.ok y hv w hno) mo ?_
  rw [if_neg]
  intro q
  obtain ⟨q1, q2⟩ := inI_iff.mp q
  have p1 : 0 ≤ w.toInt := q1
  have p2 : w.toInt ≤ 3 := q2
  exact hno ⟨p1, by omega⟩
end CASES3
