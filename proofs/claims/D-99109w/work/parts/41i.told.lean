/-! CASES 7: what is seen, what is told (by hand) -/
set_option maxRecDepth 100000
section CASES7
variable {s : Sg}
theorem XF.push {k : Nat} {c : AC} {w : Nat} {R n : Nat → Int32} (hk : k < 565) (hw : w ≤ 40000) : XF s (((s.setb (s.b.push c w)).setA k R).setA 514 n) := ⟨fun j a b d => (setA_ne (by omega)).trans (setA_ne (by omega)), fun _ _ => rfl, rfl, Ext.push.mono (by decide) hw⟩
theorem see_lt {N nt c e g : Nat} (hx : RelX N nt c e g (s.A 626) s.A) {f : Nat → Int32} {A2 : Nat → Nat → Int32} (hA : ∀ i, i < 8 → A2 (517 + i) = s.A (517 + i)) (hf : ∀ j, 68 ≤ j → j < 92 → f j = s.A 626 j) : SeeR e f A2 := fun i hi => by
  have e8 := hx.1.2.2.2.2.1.2.2
  rw [hA i (by omega), hf _ (by omega) (by omega), hf _ (by omega) (by omega), hf _ (by omega) (by omega)]
  exact hx.2.2.2.2.1 i hi
theorem gos_lt {N nt c e g : Nat} (hx : RelX N nt c e g (s.A 626) s.A) {f : Nat → Int32} {A2 : Nat → Nat → Int32} (hA : ∀ i, i < 8 → A2 (526 + i) = s.A (526 + i)) (hf : ∀ j, 92 ≤ j → j < 108 → f j = s.A 626 j) : GosR N g f A2 := fun i hi => by
  have g8 := hx.1.2.2.2.2.2.2.2
  rw [hA i (by omega), hf _ (by omega) (by omega), hf _ (by omega) (by omega)]
  exact hx.2.2.2.2.2 i hi
theorem b_seen (h : Inv s) (y d z : Int32) : Both s mX0_seen mX2_seen [.int y, .int d, .int z] := by
  obtain ⟨N, nt, c, e, g, hx⟩ := h.rx
  obtain ⟨h1, n1, n4⟩ := hx.1.2.1
  obtain ⟨q2, q2'⟩ := hx.1.2.2.1
  obtain ⟨h4, m4, e8⟩ := hx.1.2.2.2.2.1
  obtain ⟨h5, m5, g8⟩ := hx.1.2.2.2.2.2
  by_cases y1 : y = -1
  · subst y1
    refine ⟨_, _, _, _, _, by decide, r_X0_seen_0 d z, r_X2_seen_0 (s := s.setA 514 (up (s.A 514) 4 0)) d z, h.head hx (XF.set (by decide)) (n := up (s.A 514) 4 0) setA_at (fun k hk => setA_ne (by omega)) (fun j hj => up_ne (by omega)) ⟨up_ne (by decide), up_ne (by decide)⟩ ⟨up_ne (by decide), up_ne (by decide)⟩ ⟨?_, ?_⟩ (e2 := 0) (g2 := g) ⟨up_eq, up_eq, by decide⟩ ⟨(up_ne (by decide)).trans h5, (up_ne (by decide)).trans m5, g8⟩ (fun i hi => absurd hi (Nat.not_lt_zero i)) (gos_lt hx (fun i hi => setA_ne (by omega)) (fun j a b => up_ne (by omega))), rfl⟩
    · exact (up_ne (by decide)).trans (q2.trans (up_ne (f := s.A 626) (by decide)).symm)
    · show up (s.A 626) 4 0 2 = -1 ∨ ∃ t, t < nt ∧ up (s.A 626) 4 0 2 = nI t
      rw [up_ne (by decide)]; exact q2'
  by_cases hb : (vwM (s.A 626)).hou y = true ∧ inI d 0 19 = true ∧ ¬ s.A 626 4 = 8
  · obtain ⟨b1, b2, b3⟩ := hb
    have he : e < 8 := by
      rcases Nat.lt_or_ge e 8 with w | w
      · exact w
      · have : e = 8 := by omega
        subst this
        exact absurd h4 b3
    obtain ⟨k, -, k19, rfl⟩ := in_n (a := 0) (b := 19) b2 rfl rfl
    have xr := r_X0_seen_t h.b y (nI k) z e y1 (by rw [← hx.vw]; exact b1) b2 m4 he
    generalize hz : (if z = 0 then (0 : Int32) else 1) = z1 at xr
    have z1v : ∃ q, q ≤ 1 ∧ z1 = nI q := by
      rw [← hz]
      split
      · exact ⟨0, by decide, rfl⟩
      · exact ⟨1, by decide, rfl⟩
    generalize ht : ((s.setb (s.b.push (ia 3 (three3 y (nI k) z1)) 3)).setA (517 + e) (mv0 (s.A (517 + e)) (three3 y (nI k) z1) 3)).setA 514 (up (s.A 514) 4 (nI e + 1)) = t at xr
    have xf : XF s t := by rw [← ht]; exact XF.push (by omega) (by decide)
    have tA : ∀ j, j ≠ 514 → j ≠ 517 + e → t.A j = s.A j := fun j a b => by rw [← ht]; exact (setA_ne a).trans (setA_ne b)
    have t5 : t.A 514 = up (s.A 514) 4 (nI e + 1) := by rw [← ht]; exact setA_at
    have tN : t.A (517 + e) = mv0 (s.A (517 + e)) (three3 y (nI k) z1) 3 := by rw [← ht]; exact (setA_ne (by omega)).trans setA_at
    have t6 : t.A 626 = s.A 626 := tA 626 (by decide) (by omega)
    have mr := r_X2_seen_t (s := t) y (nI k) z e y1 (by rw [t6]; exact b1) b2 (by rw [t6]; exact h4) he
    rw [t6, hz] at mr
    have ee : nI e + 1 = nI (e + 1) := (nI_succ e).symm
    rw [ee] at mr xr t5
    refine ⟨_, _, _, _, _, by decide, xr, mr, h.head hx xf (n := up (s.A 514) 4 (nI (e + 1))) t5 (fun k hk => tA k (by omega) (by omega)) (fun j hj => ?_) ⟨up_ne (by decide), up_ne (by decide)⟩ ⟨?_, up_ne (by decide)⟩ ⟨?_, ?_⟩ (e2 := e + 1) (g2 := g) ⟨up_eq, up_eq, by omega⟩ ⟨?_, (up_ne (by decide)).trans m5, g8⟩ (fun i hi => ?_) (gos_lt hx (fun i hi => tA _ (by omega) (by omega)) (fun j a b => ?_)), xf.2.2.2.2.2.2.2 500 (by omega)⟩
    · rw [up_ne (by omega), up_ne (by omega), up_ne (by omega), up_ne (by omega)]
    · rw [up_ne (by decide), up_ne (by omega), up_ne (by omega), up_ne (by omega)]
    · rw [up_ne (by decide), up_ne (by decide), up_ne (by omega), up_ne (by omega), up_ne (by omega)]; exact q2
    · rw [up_ne (by decide), up_ne (by omega), up_ne (by omega), up_ne (by omega)]; exact q2'
    · rw [up_ne (by decide), up_ne (by omega), up_ne (by omega), up_ne (by omega)]; exact h5
    · by_cases w : i = e
      · subst w
        rw [tN, mv0_lt (by decide), mv0_lt (by decide), mv0_lt (by decide)]
        have f0 : up (up (up (up (s.A 626) (68 + 3 * i) y) (68 + 3 * i + 1) (nI k)) (68 + 3 * i + 2) z1) 4 (nI (i + 1)) (68 + 3 * i) = y := by rw [up_ne (by omega), up_ne (by omega), up_ne (by omega), up_eq]
        have f1 : up (up (up (up (s.A 626) (68 + 3 * i) y) (68 + 3 * i + 1) (nI k)) (68 + 3 * i + 2) z1) 4 (nI (i + 1)) (68 + 3 * i + 1) = nI k := by rw [up_ne (by omega), up_ne (by omega), up_eq]
        have f2 : up (up (up (up (s.A 626) (68 + 3 * i) y) (68 + 3 * i + 1) (nI k)) (68 + 3 * i + 2) z1) 4 (nI (i + 1)) (68 + 3 * i + 2) = z1 := by rw [up_ne (by omega), up_eq]
        rw [f0, f1, f2]
        exact ⟨rfl, rfl, rfl, ⟨k, by omega, rfl⟩, z1v⟩
      · have hil : i < e := by omega
        have z := hx.2.2.2.2.1 i hil
        have fe : ∀ j, j < 68 + 3 * e → 68 ≤ j → up (up (up (up (s.A 626) (68 + 3 * e) y) (68 + 3 * e + 1) (nI k)) (68 + 3 * e + 2) z1) 4 (nI (e + 1)) j = s.A 626 j := fun j a b => by
          rw [up_ne (by omega), up_ne (by omega), up_ne (by omega), up_ne (by omega)]
        rw [tA _ (by omega) (by omega), fe _ (by omega) (by omega), fe _ (by omega) (by omega), fe _ (by omega) (by omega)]
        exact z
    · rw [up_ne (by omega), up_ne (by omega), up_ne (by omega), up_ne (by omega)]
  · exact both_same h (r_X0_seen_f y d z y1 (by rw [← hx.vw, m4, ← h4]; exact hb)) (r_X2_seen_f y d z y1 hb) rfl
theorem b_gossip (h : Inv s) (y d : Int32) : Both s mX0_gossip mX2_gossip [.int y, .int d] := by
  obtain ⟨N, nt, c, e, g, hx⟩ := h.rx
  obtain ⟨h1, n1, n4⟩ := hx.1.2.1
  obtain ⟨q2, q2'⟩ := hx.1.2.2.1
  obtain ⟨h4, m4, e8⟩ := hx.1.2.2.2.2.1
  obtain ⟨h5, m5, g8⟩ := hx.1.2.2.2.2.2
  by_cases y1 : y = -1
  · subst y1
    refine ⟨_, _, _, _, _, by decide, r_X0_gossip_0 d, r_X2_gossip_0 (s := s.setA 514 (up (s.A 514) 5 0)) d, h.head hx (XF.set (by decide)) (n := up (s.A 514) 5 0) setA_at (fun k hk => setA_ne (by omega)) (fun j hj => up_ne (by omega)) ⟨up_ne (by decide), up_ne (by decide)⟩ ⟨up_ne (by decide), up_ne (by decide)⟩ ⟨?_, ?_⟩ (e2 := e) (g2 := 0) ⟨(up_ne (by decide)).trans h4, (up_ne (by decide)).trans m4, e8⟩ ⟨up_eq, up_eq, by decide⟩ (see_lt hx (fun i hi => setA_ne (by omega)) (fun j a b => up_ne (by omega))) (fun i hi => absurd hi (Nat.not_lt_zero i)), rfl⟩
    · exact (up_ne (by decide)).trans (q2.trans (up_ne (f := s.A 626) (by decide)).symm)
    · show up (s.A 626) 5 0 2 = -1 ∨ ∃ t, t < nt ∧ up (s.A 626) 5 0 2 = nI t
      rw [up_ne (by decide)]; exact q2'
  by_cases hb : (vwM (s.A 626)).hou y = true ∧ (vwM (s.A 626)).hou d = true ∧ ¬ y = d ∧ ¬ s.A 626 5 = 8
  · obtain ⟨b1, b2, b4, b3⟩ := hb
    have he : g < 8 := by
      rcases Nat.lt_or_ge g 8 with w | w
      · exact w
      · have : g = 8 := by omega
        subst this
        exact absurd h5 b3
    have xr := r_X0_gossip_t h.b y d g y1 (by rw [← hx.vw]; exact b1) (by rw [← hx.vw]; exact b2) b4 m5 he
    generalize ht : ((s.setb (s.b.push (ia 2 (two2 y d)) 2)).setA (526 + g) (mv0 (s.A (526 + g)) (two2 y d) 2)).setA 514 (up (s.A 514) 5 (nI g + 1)) = t at xr
    have xf : XF s t := by rw [← ht]; exact XF.push (by omega) (by decide)
    have tA : ∀ j, j ≠ 514 → j ≠ 526 + g → t.A j = s.A j := fun j a b => by rw [← ht]; exact (setA_ne a).trans (setA_ne b)
    have t5 : t.A 514 = up (s.A 514) 5 (nI g + 1) := by rw [← ht]; exact setA_at
    have tN : t.A (526 + g) = mv0 (s.A (526 + g)) (two2 y d) 2 := by rw [← ht]; exact (setA_ne (by omega)).trans setA_at
    have t6 : t.A 626 = s.A 626 := tA 626 (by decide) (by omega)
    have mr := r_X2_gossip_t (s := t) y d g y1 (by rw [t6]; exact b1) (by rw [t6]; exact b2) b4 (by rw [t6]; exact h5) he
    rw [t6] at mr
    have ee : nI g + 1 = nI (g + 1) := (nI_succ g).symm
    rw [ee] at mr xr t5
    have h7 := hx.h7
    obtain ⟨ky, ky1, ey⟩ := hou_V hx.1.1.1 h7 b1
    obtain ⟨kd, kd1, ed⟩ := hou_V hx.1.1.1 h7 b2
    refine ⟨_, _, _, _, _, by decide, xr, mr, h.head hx xf (n := up (s.A 514) 5 (nI (g + 1))) t5 (fun k hk => tA k (by omega) (by omega)) (fun j hj => ?_) ⟨up_ne (by decide), up_ne (by decide)⟩ ⟨?_, up_ne (by decide)⟩ ⟨?_, ?_⟩ (e2 := e) (g2 := g + 1) ⟨?_, (up_ne (by decide)).trans m4, e8⟩ ⟨up_eq, up_eq, by omega⟩ (see_lt hx (fun i hi => tA _ (by omega) (by omega)) (fun j a b => ?_)) (fun i hi => ?_), xf.2.2.2.2.2.2.2 500 (by omega)⟩
    · rw [up_ne (by omega), up_ne (by omega), up_ne (by omega)]
    · rw [up_ne (by decide), up_ne (by omega), up_ne (by omega)]
    · rw [up_ne (by decide), up_ne (by decide), up_ne (by omega), up_ne (by omega)]; exact q2
    · rw [up_ne (by decide), up_ne (by omega), up_ne (by omega)]; exact q2'
    · rw [up_ne (by decide), up_ne (by omega), up_ne (by omega)]; exact h4
    · rw [up_ne (by omega), up_ne (by omega), up_ne (by omega)]
    · by_cases w : i = g
      · subst w
        rw [tN, mv0_lt (by decide), mv0_lt (by decide)]
        have f0 : up (up (up (s.A 626) (92 + 2 * i) y) (92 + 2 * i + 1) d) 5 (nI (i + 1)) (92 + 2 * i) = y := by rw [up_ne (by omega), up_ne (by omega), up_eq]
        have f1 : up (up (up (s.A 626) (92 + 2 * i) y) (92 + 2 * i + 1) d) 5 (nI (i + 1)) (92 + 2 * i + 1) = d := by rw [up_ne (by omega), up_eq]
        rw [f0, f1]
        exact ⟨rfl, rfl, ⟨ky, ky1, ey⟩, kd, kd1, ed⟩
      · have hil : i < g := by omega
        have z := hx.2.2.2.2.2 i hil
        have fe : ∀ j, j < 92 + 2 * g → 92 ≤ j → up (up (up (s.A 626) (92 + 2 * g) y) (92 + 2 * g + 1) d) 5 (nI (g + 1)) j = s.A 626 j := fun j a b => by
          rw [up_ne (by omega), up_ne (by omega), up_ne (by omega)]
        rw [tA _ (by omega) (by omega), fe _ (by omega) (by omega), fe _ (by omega) (by omega)]
        exact z
  · exact both_same h (r_X0_gossip_f y d y1 (by rw [← hx.vw, m5, ← h5]; exact hb)) (r_X2_gossip_f y d y1 hb) rfl
end CASES7
