/-! SYSTEM 22: a chain grows, and is done (printed by tools/x22.py) -/
set_option maxRecDepth 100000
theorem chX_c {F1 : SumF} {Fs Gs : Nat → SumF} {sg tg : Nat → Int32} : ∀ m, (∀ k, k < m → Fs k = Gs k ∧ sg k = tg k) → chX F1 Fs sg m = chX F1 Gs tg m
  | 0, _ => rfl
  | m + 1, h => by
    show (fun N => chOp (sg m) (chX F1 Fs sg m N) (Fs m N)) = (fun N => chOp (tg m) (chX F1 Gs tg m N) (Gs m N))
    rw [chX_c m (fun k hk => h k (by omega)), (h m (by omega)).1, (h m (by omega)).2]
theorem sg_cell {b : AH} (hB : BH b) {w : Nat} (hw : w < 128) : b.g (328 + w) = some (.inr (17, [.int (nI w)])) := by
  have h := hB.2.2.2.1 (128 + w) (by omega)
  rw [show 200 + (128 + w) = 328 + w by omega] at h
  rw [h, show (128 : Int32) = nI 128 from rfl, nI_subN (by omega), Nat.add_sub_cancel_left]
theorem old_fx {k : Nat} (h : k < 512) : isFx k = false := by
  unfold isFx
  rw [decide_eq_false (by omega : ¬ 512 ≤ k), Bool.false_and]
/-- behind an addition to a chain -/
def ChP (b b3 : AH) (lo D c m i1 i2 : Nat) (F : SumF) : Prop := ∃ j1 j2, ChC b3 lo (512 + b3.n) D c m j1 j2 F ∧ (∀ k, k < 512 + b.n → k < lo → b3.g k = b.g k) ∧ b.n ≤ b3.n ∧ b3.n ≤ b.n + 2 ∧ b.u ≤ b3.u ∧ b3.u + 4 * capN i1 + 4 * capN i2 ≤ b.u + 4 * capN j1 + 4 * capN j2
theorem ch_add {s : Sg} {lo top D c m i1 i2 w y yhi : Nat} {F G : SumF} (h : ChC s.b lo top D c m i1 i2 F) (hB : BH s.b) (hy : SumO top yhi s.b D y G) (hm : m ≤ 200) (hw : w < 128) : RX (fun h2 => ∃ b3, ChP s.b b3 lo D c (m + 1) i1 i2 (fun N => chOp (nI w) (F N) (G N)) ∧ h2 = hp (s.setb b3)) 8 mX6_add [.ref c, .int (nI w), .ref y] (hp s) none := by
  obtain ⟨x1, lo1, hi1, Mo, E, So, E2, F1, av, los, his, iv, Fs, sg, ⟨h1, h2, h3, h4⟩, ⟨t1, t2, t3, t4, t5, t6⟩, h5, h6, h7, h8, ⟨h9, h10, h11⟩, h12, h13, h14⟩ := h
  have gi := sg_cell hB hw
  have d5 := h5.D_
  have d6 := h6.D_
  have ay := FnO.at_ hy
  have a9 := FnO.at_ h9
  have hOi : ObjR s.b (.ref (328 + w)) := ⟨328 + w, 17, _, _, rfl, old_fx (by omega), by omega, gi, rfl, q2040⟩
  have eE : E = 2 ∨ 640 ≤ E := by rcases d5.2.2.1 with q | q <;> omega
  have eE2 : E2 = 2 ∨ 640 ≤ E2 := by rcases d6.2.2.1 with q | q <;> omega
  obtain ⟨_, ⟨b2, ⟨E2', i2', a1, a2, a3, a4, a5, a6, a7⟩, rfl⟩, w1⟩ := AL.add (s := s) h6 hB (by omega) hOi (by omega) (by omega)
  have hB2 : BH b2 := hB.of a4 (fun k hk => a3 k (by omega) (by omega) (Or.inr (by omega)))
  have f2 : ∀ k, k < 512 + s.b.n → k ≠ So → (k ≠ E2 ∨ k < 640) → b2.g k = s.b.g k := a3
  have su : ∀ {lo9 hi9 x9 : Nat} {F9 : SumF}, SumO lo9 hi9 s.b D x9 F9 → (∀ z, (z = c ∨ z = Mo ∨ z = So ∨ z = E ∨ z = E2) → z < lo9 ∨ hi9 ≤ z) → SumO lo9 hi9 b2 D x9 F9 := fun k hk => FnO.ext k a4 (fun j hj => by
    have q := FnO.at_ k
    have z1 := hk So (by simp)
    have z2 := hk E2 (by simp)
    exact f2 j (by omega) (by omega) (by omega))
  have cy : ∀ z, (z = c ∨ z = Mo ∨ z = So ∨ z = E ∨ z = E2) → z < top ∨ yhi ≤ z := fun z hz => Or.inl (by rcases hz with rfl | rfl | rfl | rfl | rfl <;> assumption)
  have hy2 := su hy cy
  have l5 : AL b2 Mo E m i1 (fun k => .ref (av k)) := h5.by_ a4 (f2 Mo d5.2.1 (by omega) (by omega)) (by
    rcases eE with q | q
    · exact Or.inl q
    · exact Or.inr (f2 E (by omega) (by omega) (by omega))) (fun j hj => FnO.obj (su (h12 j hj).1 (h12 j hj).2.2))
  obtain ⟨_, ⟨b3, ⟨E', i1', c1, c2, c3, c4, c5, c6, c7⟩, rfl⟩, w2⟩ := AL.add (s := s.setb b2) (v := y) l5 hB2 (by omega) (FnO.obj hy2) (by omega) (by omega)
  have f3 : ∀ k, k < 512 + b2.n → k ≠ Mo → (k ≠ E ∨ k < 640) → b3.g k = b2.g k := c3
  have c4' : b2.n ≤ b3.n := c4
  have c5' : b3.n ≤ b2.n + 1 := c5
  have c6' : b2.u ≤ b3.u := c6
  have c7' : b3.u + 4 * capN i1 ≤ b2.u + 4 * capN i1' := c7
  have c2' : E' = E ∨ E' = 512 + b2.n := c2
  have su3 : ∀ {lo9 hi9 x9 : Nat} {F9 : SumF}, SumO lo9 hi9 s.b D x9 F9 → (∀ z, (z = c ∨ z = Mo ∨ z = So ∨ z = E ∨ z = E2) → z < lo9 ∨ hi9 ≤ z) → SumO lo9 hi9 b3 D x9 F9 := fun k hk => FnO.ext (su k hk) c4' (fun j hj => by
    have q := FnO.at_ k
    have z1 := hk Mo (by simp)
    have z2 := hk E (by simp)
    exact f3 j (by omega) (by omega) (by omega))
  have l6 : AL b3 So E2' (m + 1) i2' (fun k => .ref (up iv m (328 + w) k)) := by
    refine AL.cg (f := up (fun k => .ref (iv k)) m (.ref (328 + w))) (a1.by_ c4' (f3 So (by have := a1.D_; omega) (by omega) (by omega)) ?_ (fun j hj => ?_)) (fun j hj => by unfold up; split <;> rfl)
    · rcases a2 with q | q
      · rcases eE2 with q2 | q2
        · exact Or.inl (q.trans q2)
        · exact Or.inr (f3 E2' (by omega) (by omega) (by rw [q]; omega))
      · exact Or.inr (f3 E2' (by have := a1.D_; omega) (by omega) (by omega))
    · by_cases e : j = m
      · rw [e, up_eq]
        exact ⟨328 + w, 17, _, _, rfl, old_fx (by omega), by omega, (f3 _ (by omega) (by omega) (by omega)).trans ((f2 _ (by omega) (by omega) (by omega)).trans gi), rfl, q2040⟩
      · rw [up_ne e]
        have := h13 j (by omega)
        exact ⟨iv j, 17, _, _, rfl, old_fx this.1, by omega, (f3 _ (by omega) (by omega) (by omega)).trans ((f2 _ (by omega) (by omega) (by omega)).trans this.2), rfl, q2040⟩
  have l5' : AL b3 Mo E' (m + 1) i1' (fun k => .ref (up av m y k)) := AL.cg c1 (fun j hj => by unfold up; split <;> rfl)
  have dl6 := l6.D_
  have dl5 := l5'.D_
  have da1 := a1.D_
  have gc2 : b2.g c = some (.inr (6, [.ref x1, .ref Mo, .ref So])) := (f2 c h3 (by omega) (by omega)).trans h4
  obtain ⟨-, -, ⟨mS, gS⟩, -⟩ := h6
  obtain ⟨-, -, ⟨mM, gM⟩, -⟩ := l5
  refine ⟨_, ⟨b3, ⟨i1', i2', ⟨x1, lo1, hi1, Mo, E', So, E2', F1, up av m y, up los m top, up his m yhi, up iv m (328 + w), up Fs m G, up sg m (nI w), ⟨h1, h2, by omega, (f3 c (by omega) (by omega) (by omega)).trans gc2⟩, ⟨by omega, by omega, by omega, by omega, by omega, Nat.le_refl _⟩, l5', l6, ⟨h7.1, h7.2.1, by omega, by omega⟩, ⟨by omega, by omega, by omega, by omega, by omega, by omega, by omega, by omega⟩, ⟨su3 h9 h11, h10, fun z hz => ?_⟩, fun k hk => ?_, fun k hk => ?_, ?_⟩, fun k hk hkl => (f3 k (by omega) (by omega) (by omega)).trans (f2 k hk (by omega) (by omega)), by omega, by omega, by omega, by omega⟩, rfl⟩, ?_⟩
  · have q1 := h11 c (by simp)
    have q2 := h11 Mo (by simp)
    have q3 := h11 So (by simp)
    have q4 := h11 E (by simp)
    have q5 := h11 E2 (by simp)
    omega
  · by_cases e : k = m
    · subst e
      rw [up_eq, up_eq, up_eq, up_eq]
      exact ⟨su3 hy cy, by omega, fun z hz => by omega⟩
    · rw [up_ne e, up_ne e, up_ne e, up_ne e]
      obtain ⟨r1, r2, r3⟩ := h12 k (by omega)
      have q0 := FnO.at_ r1
      have q1 := r3 c (by simp)
      have q2 := r3 Mo (by simp)
      have q3 := r3 So (by simp)
      have q4 := r3 E (by simp)
      have q5 := r3 E2 (by simp)
      exact ⟨su3 r1 r3, r2, fun z hz => by omega⟩
  · by_cases e : k = m
    · subst e
      rw [up_eq, up_eq]
      exact ⟨by omega, (f3 _ (by omega) (by omega) (by omega)).trans ((f2 _ (by omega) (by omega) (by omega)).trans gi)⟩
    · rw [up_ne e, up_ne e]
      have := h13 k (by omega)
      exact ⟨this.1, (f3 _ (by omega) (by omega) (by omega)).trans ((f2 _ (by omega) (by omega) (by omega)).trans this.2)⟩
  · subst h14
    have e1 : chX F1 (up Fs m G) (up sg m (nI w)) m = chX F1 Fs sg m := chX_c m (fun k hk => ⟨up_ne (by omega), up_ne (by omega)⟩)
    show _ = (fun N => chOp (up sg m (nI w) m) (chX F1 (up Fs m G) (up sg m (nI w)) m N) (up Fs m G m N))
    rw [e1, up_eq, up_eq]
  have gs0 : (hp s).g c = some (.inr (6, [.ref x1, .ref Mo, .ref So])) := (hp_gb (nfx (by omega))).trans h4
  have gs2 : (hp (s.setb b2)).g c = some (.inr (6, [.ref x1, .ref Mo, .ref So])) := (hp_gb (nfx (by omega))).trans gc2
  refine Run.of rfl (Nat.le_of_ble_eq_true rfl) rfl ?_
  refine AW.aload_n dX6_add_0 rfl rfl ?_
  refine AW.get ci6 2 (by decide) q615 dX6_add_1 (by first | exact gs0 | exact gs2) rfl rfl ?_
  refine AW.iload_n dX6_add_4 rfl rfl ?_
  refine AW.callS (Y := mJ12_valueOf) (n := 1) (r_J12_valueOf ((hp_gb rfl).trans hB.2.2.1) w hw) (by decide) (by decide) q627 q628 q162 q629 dX6_add_5 (by decide +kernel) rfl rfl (Nat.le_of_ble_eq_true rfl) rfl ?_
  refine AW.callV (Y := mJ2_add) (n := 1) (w1) (by decide) (by decide) rfl ((hp_gb (nfx d6.1)).trans gS) q647 q648 q649 q146 q650 dX6_add_8 (by decide +kernel) rfl rfl (Nat.le_of_ble_eq_true rfl) rfl ?_
  refine AW.pop dX6_add_11 rfl rfl ?_
  refine AW.aload_n dX6_add_12 rfl rfl ?_
  refine AW.get ci6 1 (by decide) q614 dX6_add_13 (by first | exact gs0 | exact gs2) rfl rfl ?_
  refine AW.aload_n dX6_add_16 rfl rfl ?_
  refine AW.callV (Y := mJ2_add) (n := 1) (w2) (by decide) (by decide) rfl ((hp_gb (nfx d5.1)).trans gM) q647 q648 q649 q146 q650 dX6_add_17 (by decide +kernel) rfl rfl (Nat.le_of_ble_eq_true rfl) rfl ?_
  refine AW.pop dX6_add_20 rfl rfl ?_
  exact AW.vretE dX6_add_21 rfl rfl rfl
theorem ch_done {s : Sg} {lo top D c m i1 i2 : Nat} {F : SumF} (h : ChC s.b lo top D c m i1 i2 F) (hm : m ≤ 240) (hD : 3 ≤ D) : ∃ a, Run 2 mX6_itself [.ref c] (hp s) (.inl (some (.ref a))) (hp s) ∧ SumO lo (512 + s.b.n) s.b (D + 1) a F := by
  obtain ⟨x1, lo1, hi1, Mo, E, So, E2, F1, av, los, his, iv, Fs, sg, ⟨h1, h2, h3, h4⟩, ⟨t1, t2, t3, t4, t5, t6⟩, h5, h6, h7, h8, ⟨h9, h10, h11⟩, h12, h13, h14⟩ := h
  have gs0 : (hp s).g c = some (.inr (6, [.ref x1, .ref Mo, .ref So])) := (hp_gb (nfx (by omega))).trans h4
  have d5 := h5.D_
  have d6 := h6.D_
  have a9 := FnO.at_ h9
  obtain ⟨p1, p2, ⟨mM, gM⟩, p3, p4, p5, p6, p7⟩ := h5
  obtain ⟨q1, q2, ⟨mS, gS⟩, q3, q4, q5, q6, q7⟩ := h6
  by_cases e : m = 0
  · subst e
    refine ⟨x1, ?_, by rw [h14]; exact FnO.widen h9 h1 h10 (by omega) (Nat.le_refl _) (by omega)⟩
    refine Run.of rfl (Nat.le_of_ble_eq_true rfl) rfl ?_
    refine AW.aload_n dX6_itself_0 rfl rfl ?_
    refine AW.get ci6 1 (by decide) q614 dX6_itself_1 gs0 rfl rfl ?_
    refine AW.callV (Y := mJ2_isEmpty) (n := 0) (r_J2_isEmpty ((hp_gb (nfx p1)).trans gM)) (by decide) (by decide) rfl ((hp_gb (nfx p1)).trans gM) q712 q713 q714 q146 q715 dX6_itself_4 (by decide +kernel) rfl rfl (Nat.le_of_ble_eq_true rfl) rfl ?_
    refine AW.if_eqB (tgt := 17) dX6_itself_7 (by decide) rfl (fun c_ => by first | exact absurd c_ (by decide : decide (nI 0 = (0 : Int32)) = true) | exact absurd (by decide : decide (nI 0 = (0 : Int32)) = true) c_ | exact Bool.noConfusion (c_.symm.trans (by decide : decide (nI 0 = (0 : Int32)) = true))) (fun _ => ?_)
    refine AW.aload_n dX6_itself_10 rfl rfl ?_
    refine AW.get ci6 0 (by decide) q613 dX6_itself_11 gs0 rfl rfl ?_
    refine AW.goto (tgt := 18) dX6_itself_14 (by decide) ?_
    exact AW.aretE dX6_itself_18 rfl (Or.inl ⟨_, rfl⟩) (Or.inr ⟨_, rfl⟩) rfl rfl rfl
  · refine ⟨c, ?_, ?_⟩
    · refine Run.of rfl (Nat.le_of_ble_eq_true rfl) rfl ?_
      have e0 : decide (nI m = (0 : Int32)) = false := dec_f (nI_ne (b := 0) (by omega) (by decide) e)
      refine AW.aload_n dX6_itself_0 rfl rfl ?_
      refine AW.get ci6 1 (by decide) q614 dX6_itself_1 gs0 rfl rfl ?_
      refine AW.callV (Y := mJ2_isEmpty) (n := 0) (r_J2_isEmpty ((hp_gb (nfx p1)).trans gM)) (by decide) (by decide) rfl ((hp_gb (nfx p1)).trans gM) q712 q713 q714 q146 q715 dX6_itself_4 (by decide +kernel) rfl rfl (Nat.le_of_ble_eq_true rfl) rfl ?_
      refine AW.if_eqB (tgt := 17) dX6_itself_7 (by decide) rfl (fun _ => ?_) (fun c_ => by first | exact absurd c_ e0 | exact absurd e0 c_ | exact absurd c_ (not_not_intro e0) | exact Bool.noConfusion (c_.symm.trans e0))
      refine AW.aload_n dX6_itself_17 rfl rfl ?_
      exact AW.aretE dX6_itself_18 rfl (Or.inl ⟨_, rfl⟩) (Or.inr ⟨_, rfl⟩) rfl rfl rfl
    · obtain ⟨r1, r2, r3, r4, g, r5, r6⟩ := p7.resolve_left (fun z => by have := z.1; subst this; have : capN 0 = 0 := rfl; omega)
      obtain ⟨u1, u2, u3, u4, g2, u5, u6⟩ := q7.resolve_left (fun z => by have := z.1; subst this; have : capN 0 = 0 := rfl; omega)
      have cl1 := capN_le i1
      have cl2 := capN_le i2
      refine ⟨by omega, ⟨h1, h2, h3, Nat.le_refl _⟩, 6, _, (RX6, TX6, 3), mX6_of, rfl, h4, List.mem_of_getElem? (i := 0) rfl, q911, q909, q155, q913, (by decide), ⟨q908, q2035⟩, fun dd s2 hdd hs => ?_⟩
      have ge : ∀ k, k < 512 + s.b.n → (k < 512 ∨ lo ≤ k) → s2.b.g k = s.b.g k := fun k hk hl => hs k (by omega)
      have E1 : lo ≤ E := by rcases h7.2.2.1 with z | z <;> omega
      have E3 : lo ≤ E2 := by rcases h7.2.2.2 with z | z <;> omega
      have w := r_X6_of (s := s2) (d := dd) (dd := D) (a := c) (by omega) (by omega) h9 (fun k hk => ge k (by omega) (by omega)) (Mo := Mo) (E := E) (n := m) (cap := capN i1) (m := mM) (f := g) ((hp_gb (nfx p1)).trans ((ge Mo p2 (Or.inr h7.1)).trans gM)) (fun _ => (hp_gb (nfx r2)).trans ((ge E r3 (Or.inr E1)).trans r5)) p3 (by omega) (av := av) (los := los) (his := his) (bs := fun _ => s.b) (Fs := Fs) (fun k hk => r6 k hk) (fun k hk => (h12 k hk).1) (fun k hk j hj => ge j (by have := FnO.at_ (h12 k hk).1; omega) (by have := (h12 k hk).2.1; omega)) (So := So) (E2 := E2) (cap2 := capN i2) (m2 := mS) (f2 := g2) (sg := sg) (iv := iv) ((hp_gb (nfx q1)).trans ((ge So q2 (Or.inr h7.2.1)).trans gS)) (fun _ => (hp_gb (nfx u2)).trans ((ge E2 u3 (Or.inr E3)).trans u5)) q3 (by omega) (fun k hk => u6 k hk) (fun k hk => (hp_gb (old_fx (h13 k hk).1)).trans ((ge _ (by have := (h13 k hk).1; omega) (Or.inl (h13 k hk).1)).trans (h13 k hk).2)) ((hp_gb (nfx (by omega))).trans ((ge c h3 (Or.inr h2)).trans h4))
      rw [h14]
      exact w
