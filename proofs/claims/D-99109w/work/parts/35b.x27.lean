/-! SYSTEM 27: tokens: questions joined (printed by tools/x27.py) -/
set_option maxRecDepth 100000
/-- a list of questions under way -/
def LsB (b : AH) (lo top D Mo m ix : Nat) (Fs : Nat → AskF) : Prop := ∃ (E : Nat) (av los his : Nat → Nat), (640 ≤ lo ∧ lo ≤ Mo ∧ Mo < top ∧ E < top ∧ top ≤ 512 + b.n ∧ (E = 2 ∨ lo ≤ E)) ∧ AL b Mo E m ix (fun k => .ref (av k)) ∧ ∀ k, k < m → AskO (los k) (his k) b D (av k) (Fs k) ∧ lo ≤ los k ∧ (Mo < los k ∨ his k ≤ Mo) ∧ (E < los k ∨ his k ≤ E)
theorem LsB.c_ {b : AH} {lo top D Mo m ix : Nat} {Fs : Nat → AskF} (h : LsB b lo top D Mo m ix Fs) : 640 ≤ lo ∧ lo ≤ Mo ∧ Mo < 512 + b.n ∧ (∃ fs, b.g Mo = some (.inr (16, fs))) ∧ 4 * capN ix ≤ 40 * m ∧ Mo < top ∧ top ≤ 512 + b.n := by
  obtain ⟨E, av, los, his, ⟨h1, h2, h3, h4, h5, h6⟩, h7, h8⟩ := h
  have d := h7.D_
  obtain ⟨-, -, ⟨mM, gM⟩, -⟩ := h7
  exact ⟨h1, h2, d.2.1, ⟨_, gM⟩, by omega, h3, h5⟩
theorem LsB.by_ {b b2 : AH} {lo top D Mo m ix : Nat} {Fs : Nat → AskF} (h : LsB b lo top D Mo m ix Fs) (hn : b.n ≤ b2.n) (e : ∀ k, k < 512 + b.n → (k < 512 ∨ lo ≤ k) → b2.g k = b.g k) : LsB b2 lo top D Mo m ix Fs := by
  obtain ⟨E, av, los, his, ⟨h1, h2, h3, h4, h5, h6⟩, h7, h8⟩ := h
  have d := h7.D_
  have su : ∀ k, k < m → AskO (los k) (his k) b2 D (av k) (Fs k) := fun k hk => FnO.ext (h8 k hk).1 hn (fun j hj => e j (by have := FnO.at_ (h8 k hk).1; omega) (by have := (h8 k hk).2.1; omega))
  refine ⟨E, av, los, his, ⟨h1, h2, h3, h4, by omega, h6⟩, h7.by_ hn (e Mo d.2.1 (Or.inr h2)) ?_ (fun j hj => FnO.obj (su j hj)), fun k hk => ⟨su k hk, (h8 k hk).2⟩⟩
  rcases d.2.2.1 with q | q
  · exact Or.inl q
  · exact Or.inr (e E q.2 (by omega))
theorem ls_add {s : Sg} {lo top D Mo m ix y yhi : Nat} {Fs : Nat → AskF} {G : AskF} (h : LsB s.b lo top D Mo m ix Fs) (hB : BH s.b) (hy : AskO top yhi s.b D y G) (hm : m ≤ 200) : RX (fun h2 => ∃ b2, (∃ ix2, LsB b2 lo (512 + b2.n) D Mo (m + 1) ix2 (up Fs m G) ∧ (∀ k, k < 512 + s.b.n → k < lo → b2.g k = s.b.g k) ∧ s.b.n ≤ b2.n ∧ b2.n ≤ s.b.n + 1 ∧ s.b.u ≤ b2.u ∧ b2.u + 4 * capN ix ≤ s.b.u + 4 * capN ix2) ∧ h2 = hp (s.setb b2)) 7 mJ2_add [.ref Mo, .ref y] (hp s) (some (.int (b2i true))) := by
  obtain ⟨E, av, los, his, ⟨h1, h2, h3, h4, h5, h6⟩, h7, h8⟩ := h
  have ay := FnO.at_ hy
  have d := h7.D_
  obtain ⟨_, ⟨b2, ⟨E2, i2, a1, a2, a3, a4, a5, a6, a7⟩, rfl⟩, w1⟩ := AL.add (s := s) (v := y) h7 hB (by omega) (FnO.obj hy) (by omega) (by omega)
  have d2 := a1.D_
  have su : ∀ {lo9 hi9 x9 : Nat} {F9 : AskF}, AskO lo9 hi9 s.b D x9 F9 → (Mo < lo9 ∨ hi9 ≤ Mo) → (E < lo9 ∨ hi9 ≤ E) → AskO lo9 hi9 b2 D x9 F9 := fun k q1 q2 => FnO.ext k a4 (fun j hj => by
    have q := FnO.at_ k
    exact a3 j (by omega) (by omega) (by omega))
  refine ⟨_, ⟨b2, ⟨i2, ⟨E2, up av m y, up los m top, up his m yhi, ⟨h1, h2, by omega, by omega, Nat.le_refl _, by omega⟩, AL.cg a1 (fun j hj => by unfold up; split <;> rfl), fun k hk => ?_⟩, fun k hk hkl => a3 k hk (by omega) (by omega), a4, a5, a6, a7⟩, rfl⟩, w1⟩
  by_cases e : k = m
  · subst e
    rw [up_eq, up_eq, up_eq, up_eq]
    exact ⟨su hy (by omega) (by omega), by omega, by omega, by omega⟩
  · rw [up_ne e, up_ne e, up_ne e, up_ne e]
    obtain ⟨r1, r2, r3, r4⟩ := h8 k (by omega)
    have q := FnO.at_ r1
    exact ⟨su r1 r3 r4, r2, r3, by omega⟩
theorem mk14 {b : AH} {lo top a D Mo m ix : Nat} {p : Bool} {Fs : Nat → AskF} (h : LsB b lo top D Mo m ix Fs) (hm1 : 1 ≤ m) (hm : m ≤ 200) (h1 : lo ≤ a) (h2 : a < 512 + b.n) (hD : 3 ≤ D) (g : b.g a = some (.inr (14, [.int (b2i p), .ref Mo]))) : AskO lo (512 + b.n) b (D + 1) a (allX p Fs m) := by
  obtain ⟨E, av, los, his, ⟨l1, l2, l3, l4, l5, l6⟩, h7, h8⟩ := h
  obtain ⟨p1, p2, ⟨mM, gM⟩, p3, p4, p5, p6, p7⟩ := h7
  obtain ⟨r1, r2, r3, r4, gg, r5, r6⟩ := p7.resolve_left (fun z => by have := z.1; subst this; have : capN 0 = 0 := rfl; omega)
  have cl1 := capN_le ix
  have E1 : lo ≤ E := by rcases l6 with z | z <;> omega
  refine ⟨by omega, ⟨l1, h1, h2, Nat.le_refl _⟩, 14, _, (RX14, TX14, 2), mX14_is, rfl, g, List.mem_of_getElem? (i := 8) rfl, q999, q997, q170, q1001, (by decide), ⟨q996, q2044⟩, fun dd s2 hdd hs => ?_⟩
  have ge : ∀ k, k < 512 + b.n → (k < 512 ∨ lo ≤ k) → s2.b.g k = b.g k := fun k hk hl => hs k (by omega)
  exact r_X14_is (s := s2) (d := dd) (dd := D) (a := a) hdd (by omega) (Mo := Mo) (E := E) (n := m) (cap := capN ix) (m := mM) (f := gg) ((hp_gb (nfx p1)).trans ((ge Mo p2 (Or.inr l2)).trans gM)) (fun _ => (hp_gb (nfx r2)).trans ((ge E r3 (Or.inr E1)).trans r5)) p3 (by omega) (av := av) (los := los) (his := his) (bs := fun _ => b) (Fs := Fs) (fun k hk => r6 k hk) (fun k hk => (h8 k hk).1) (fun k hk j hj => ge j (by have := FnO.at_ (h8 k hk).1; omega) (by have := (h8 k hk).2.1; omega)) ((hp_gb (nfx (by omega))).trans ((ge a h2 (Or.inr h1)).trans g))
section CLS
variable (T n : Nat) (t : Nat → Int32) (L0 : Lq) (kd : Int32)
/-- a loop over a list, by fuel -/
def CLb (Y : Mt) (p : Bool) (md D fr f : Nat) : Prop := ∀ (s : Sg) (i o : Nat) (nu : Int32) (lo top Mo m ix : Nat) (Fs : Nat → AskF) (C : Cd), TC s T n t → o ≤ 8 → NuOk (tkL t n L0 i) nu → T < lo → LsB s.b lo top (6 + 3 * (8 - o) + D) Mo (m + 1) ix Fs → CA C (jnX p Fs m) → 2 * m ≤ i → m ≤ 160 → nz (RF n t L0 kd f md C i o) → AXO (PQ T n t L0 kd (GA (6 + 3 * (8 - o) + D + 1)) 0 lo 1 (2 + (40 * (m + 1) - 4 * capN ix)) s i (nI o) (RF n t L0 kd f md C i o)) (12 + 4 * (8 - o) + fr) Y (hp (Tk s T n t (tkL t n L0 i) nu (nI o) kd)) 17 [some (.ref T), some (.ref Mo)] []
end CLS
theorem lo_both {T n : Nat} {t : Nat → Int32} {L0 : Lq} {kd : Int32} {f : Nat} (h1 : CM T n t L0 kd mX3_ask GA 5 3 6 18 4 f) (hl : CLb T n t L0 kd mX3_both true 7 3 5 f) : CLb T n t L0 kd mX3_both true 7 3 5 (f + 1) := by
  intro s i o nu lo top Mo m ix Fs C hC ho hN hTl hh hCS hm hm2 hz
  have hT := hC.1
  have hTb := hC.2.1
  have h300 := hC.2.2.2.1
  have hb := hC.2.2.2.2.1
  obtain ⟨k1, k2, k3, ⟨fs, k4⟩, k5, k7, k6⟩ := hh.c_
  have gc : (hp (Tk s T n t (tkL t n L0 i) nu (nI o) kd)).g Mo = some (.inr (16, fs)) := (hp_gb (nfx (by omega))).trans ((Tk_g (by omega)).trans k4)
  have e0 : RF n t L0 kd (f + 1) 7 C i o = (if isWd (tkL t n L0 i) (w3F 97 110 100) = true then bd (RF n t L0 kd f 5 [] (i + 1) o) fun c2 j => RF n t L0 kd f 7 (C ++ c2 ++ [(21, 0)]) j o else .inr (C, i)) := rfl
  by_cases h0 : isWd (tkL t n L0 i) (w3F 97 110 100) = true
  · have kw := of_decide_eq_true (Bool.and_eq_true_iff.mp h0).1
    have i3 := tk_300 (L0 := L0) h300 (i := i) (by rw [kw]; decide)
    have hs : sortS (byteF t n) (tkL t n L0 i) = 214 := (so_w h300 i (k := 14) (by decide) (by decide) (by decide +kernel)).mpr h0
    rw [if_pos h0] at e0
    rw [e0] at hz ⊢
    obtain ⟨nu2, hN2, w1⟩ := tk_next hC L0 i (nu := nu) (op := nI o) (kd := kd)
    obtain ⟨⟨o9, h9⟩, q9, w9⟩ := h1 s (i + 1) o nu2 hC ho hN2 (nz_bd hz)
    cases hx : RF n t L0 kd f 5 [] (i + 1) o with
    | inl e =>
      rw [hx] at q9
      have q8 : EQ T n t L0 kd lo 1 (2 + (40 * (m + 1) - 4 * capN ix)) s i e.1 e.2 (o9, h9) := EQ.up (b1 := s.b) (show EQ T n t L0 kd (512 + s.b.n) 6 18 (s.setb s.b) (i + 1) e.1 e.2 (o9, h9) from q9) (ExT.refl T lo s.b) (by omega) (by omega) (by omega) (by omega)
      obtain ⟨-, q, b2, nu3, op3, -, -, qe⟩ := id q8
      obtain ⟨rfl, rfl⟩ := Prod.mk.inj qe
      refine ⟨_, PQ.l rfl q8, ?_⟩
      refine AW.aload_n dX3_both_17 rfl rfl ?_
      refine AW.get ci3 4 (by decide) q308 dX3_both_18 (gTk hT) rfl rfl ?_
      refine AW.sipush (v := 214) dX3_both_21 (by decide) rfl ?_
      refine AW.icmp_ne (tgt := 43) dX3_both_24 (by decide) rfl (fun c_ => by first | exact absurd c_ hs | exact absurd hs c_ | exact Bool.noConfusion (c_.symm.trans hs)) (fun _ => ?_)
      refine AW.aload_n dX3_both_27 rfl rfl ?_
      refine AW.callV (Y := mX3_next) (n := 0) (w1) (by omega) (by decide) rfl (gTk hT) q386 q388 qs1 q142 q389 dX3_both_28 (by decide +kernel) rfl rfl (Nat.le_of_ble_eq_true rfl) rfl ?_
      refine AW.aload_n dX3_both_31 rfl rfl ?_
      refine AW.aload_n dX3_both_32 rfl rfl ?_
      exact AW.callVX (Y := mX3_ask) (n := 0) (w9) (by omega) (by decide) rfl (gTk hT) q726 q728 qs19 q142 q729 dX3_both_33 (by decide +kernel) rfl rfl (Nat.le_of_ble_eq_true rfl) q725 rfl
    | inr e =>
      obtain ⟨c2, j⟩ := e
      rw [hx] at q9 hz
      obtain ⟨j1, y, b2, nu3, x2, ⟨G, hG1, hG2⟩, hN3, qe⟩ := q9
      obtain ⟨rfl, rfl⟩ := Prod.mk.inj qe
      have j1' : i + 1 + 1 ≤ j := j1
      have x2n := x2.1
      have x2c : b2.n ≤ s.b.n + (16 * (j - (i + 1)) + 6) := x2.2.1
      have x2u := x2.2.2.1
      have x2v : b2.u ≤ s.b.u + (120 * (j - (i + 1)) + 18) := x2.2.2.2.1
      have hC2 : TC (s.setb b2) T n t := hC.ext x2 (by omega)
      have hk2 : LsB b2 lo top (6 + 3 * (8 - o) + 3) Mo (m + 1) ix Fs := hh.by_ x2n (fun k hk hl => x2.2.2.2.2 k (by omega) (by omega))
      have hk3 : LsB (Tk (s.setb b2) T n t (tkL t n L0 j) nu3 (nI o) kd).b lo top (6 + 3 * (8 - o) + 3) Mo (m + 1) ix Fs := hk2.by_ (Nat.le_refl _) (fun k hk hl => Tk_g (by omega))
      obtain ⟨_, ⟨b3, ⟨ix3, a1, a2, a3, a4, a5, a6⟩, rfl⟩, w3⟩ := ls_add (s := Tk (s.setb b2) T n t (tkL t n L0 j) nu3 (nI o) kd) (y := y) hk3 hC2.bh (FnO.widen (Tk_fn hT (by omega) hG2) (by omega) k6 (Nat.le_refl _) (Nat.le_refl _) (Nat.le_refl _)) (by omega)
      have hb3 : hp ((Tk (s.setb b2) T n t (tkL t n L0 j) nu3 (nI o) kd).setb b3) = hp (Tk (s.setb b3) T n t (tkL t n L0 j) nu3 (nI o) kd) := Tk_in (s := s.setb b2) (a2 T (by show T < 512 + b2.n; omega) hTl)
      have a3' : b2.n ≤ b3.n := a3
      have a4' : b3.n ≤ b2.n + 1 := a4
      have a5' : b2.u ≤ b3.u := a5
      have a6' : b3.u + 4 * capN ix ≤ b2.u + 4 * capN ix3 := a6
      have x3 : ExT T lo (b3.n - s.b.n) (b3.u - s.b.u) s.b b3 := ⟨by omega, by omega, by omega, by omega, fun k hk hkT => (a2 k (by show k < 512 + b2.n; omega) hk).trans ((Tk_g hkT).trans (x2.2.2.2.2 k (by omega) hkT))⟩
      have c3 := a1.c_
      have hC3 : TC (s.setb b3) T n t := hC.ext x3 (by omega)
      have hCS3 : CA (C ++ c2 ++ [(21, 0)]) (jnX true (up Fs (m + 1) G) (m + 1)) := by
        have := CA.join hCS hG1 21 (by decide) (by decide) (by decide) (by decide) (by decide)
        have e1 : jnX true (up Fs (m + 1) G) m = jnX true Fs m := jn_c m (fun k hk => up_ne (by omega))
        show CA _ (fun N => joinB 21 (jnX true (up Fs (m + 1) G) m N) (up Fs (m + 1) G (m + 1) N))
        rw [e1, up_eq]
        exact this
      have ih := hl (s.setb b3) j o nu3 lo _ Mo (m + 1) ix3 _ (C ++ c2 ++ [(21, 0)]) hC3 ho hN3 hTl a1 hCS3 (by omega) (by omega) hz
      have ih2 := ih.mono (fun oh h => PQ.up (z := 0) (sc := 1) (su := 2 + (40 * (m + 1) - 4 * capN ix)) (i := i) h x3 (Nat.le_refl _) (by omega) (by omega) (by omega) (by omega) (fun C b a h => h))
      have gc3 : (hp (Tk (s.setb b2) T n t (tkL t n L0 j) nu3 (nI o) kd)).g Mo = some (.inr (16, fs)) := (hp_gb (nfx (by omega))).trans ((Tk_g (by omega)).trans ((x2.2.2.2.2 Mo (by omega) (by omega)).trans k4))
      refine AXO.map (fun _ kk => ?_) ih2
      refine AW.aload_n dX3_both_17 rfl rfl ?_
      refine AW.get ci3 4 (by decide) q308 dX3_both_18 (gTk hT) rfl rfl ?_
      refine AW.sipush (v := 214) dX3_both_21 (by decide) rfl ?_
      refine AW.icmp_ne (tgt := 43) dX3_both_24 (by decide) rfl (fun c_ => by first | exact absurd c_ hs | exact absurd hs c_ | exact Bool.noConfusion (c_.symm.trans hs)) (fun _ => ?_)
      refine AW.aload_n dX3_both_27 rfl rfl ?_
      refine AW.callV (Y := mX3_next) (n := 0) (w1) (by omega) (by decide) rfl (gTk hT) q386 q388 qs1 q142 q389 dX3_both_28 (by decide +kernel) rfl rfl (Nat.le_of_ble_eq_true rfl) rfl ?_
      refine AW.aload_n dX3_both_31 rfl rfl ?_
      refine AW.aload_n dX3_both_32 rfl rfl ?_
      refine AW.callV (Y := mX3_ask) (n := 0) (w9) (by omega) (by decide) rfl (gTk hT) q726 q728 qs19 q142 q729 dX3_both_33 (by decide +kernel) rfl rfl (Nat.le_of_ble_eq_true rfl) rfl ?_
      refine AW.callV (Y := mJ2_add) (n := 1) (w3) (by omega) (by decide) rfl (by first | exact gc3 | exact gc) q773 q648 q649 q146 q650 dX3_both_36 (by decide +kernel) rfl rfl (Nat.le_of_ble_eq_true rfl) rfl ?_
      refine AW.pop dX3_both_39 rfl rfl ?_
      refine AW.goto (tgt := 17) dX3_both_40 (by decide) ?_
      exact AW.hp hb3 kk
  rw [if_neg h0] at e0
  rw [e0]
  have hs : ¬ sortS (byteF t n) (tkL t n L0 i) = 214 := fun q => h0 ((so_w h300 i (k := 14) (by decide) (by decide) (by decide +kernel)).mp q)
  obtain ⟨E, av, los, his, ⟨l1, l2, l3, l4, l5, l6⟩, h7, h8⟩ := id hh
  obtain ⟨p1, p2, ⟨mM, gM⟩, p3, p4, p5, p6, p7⟩ := h7
  have gc : (hp (Tk s T n t (tkL t n L0 i) nu (nI o) kd)).g Mo = some (.inr (16, [.int mM, .ref E, .int (nI (m + 1))])) := (hp_gb (nfx (by omega))).trans ((Tk_g (by omega)).trans gM)
  by_cases hm0 : m = 0
  · subst hm0
    obtain ⟨r1, r2, r3, r4, gg, r5, r6⟩ := p7.resolve_left (fun z => by have := z.1; subst this; have : capN 0 = 0 := rfl; omega)
    have hE : ¬ E = T := by rcases l6 with z | z <;> omega
    have w5 : Run 3 mJ2_get [.ref Mo, .int 0] (hp (Tk s T n t (tkL t n L0 i) nu (nI o) kd)) (.inl (some (.ref (av 0)))) (hp (Tk s T n t (tkL t n L0 i) nu (nI o) kd)) := by
      have := r_J2_get gc (cap := capN ix) (f := gg) ((hp_gb (nfx r2)).trans ((Tk_g hE).trans r5)) 0 (by decide) (by decide) (vp_in_nI (n := 0) (by omega) (by have := capN_le ix; omega)) (Or.inr ⟨av 0, r6 0 (by omega)⟩)
      rw [show gg (cI 0) = .ref (av 0) from r6 0 (by omega)] at this
      exact this
    obtain ⟨v1, v2, v3, v4⟩ := h8 0 (by omega)
    have va := FnO.at_ v1
    refine ⟨(.inl (some (.ref (av 0))), (hp (Tk s T n t (tkL t n L0 i) nu (nI o) kd))), PQ.r rfl ⟨Nat.le_refl _, av 0, s.b, nu, (ExT.refl T lo s.b).mono (Nat.le_refl _) (Nat.zero_le _) (Nat.zero_le _), ⟨Fs 0, hCS, FnO.widen v1 l1 v2 va.2.2.2 (Nat.le_refl _) (Nat.le_succ _)⟩, hN, rfl⟩, ?_⟩
    refine AW.aload_n dX3_both_17 rfl rfl ?_
    refine AW.get ci3 4 (by decide) q308 dX3_both_18 (gTk hT) rfl rfl ?_
    refine AW.sipush (v := 214) dX3_both_21 (by decide) rfl ?_
    refine AW.icmp_ne (tgt := 43) dX3_both_24 (by decide) rfl (fun _ => ?_) (fun c_ => by first | exact absurd c_ hs | exact absurd hs c_ | exact absurd c_ (not_not_intro hs) | exact Bool.noConfusion (c_.symm.trans hs))
    refine AW.aload_n dX3_both_43 rfl rfl ?_
    refine AW.callV (Y := mJ2_size) (n := 0) (r_J2_size gc) (by omega) (by decide) rfl (by first | exact gc3 | exact gc) q774 q775 q776 q146 q777 dX3_both_44 (by decide +kernel) rfl rfl (Nat.le_of_ble_eq_true rfl) rfl ?_
    refine AW.iconst (v := 1) dX3_both_47 (by decide) rfl ?_
    refine AW.icmp_ne (tgt := 62) dX3_both_48 (by decide) rfl (fun c_ => by first | exact absurd c_ (show nI (0 + 1) = 1 from rfl) | exact absurd (show nI (0 + 1) = 1 from rfl) c_ | exact Bool.noConfusion (c_.symm.trans (show nI (0 + 1) = 1 from rfl))) (fun _ => ?_)
    refine AW.aload_n dX3_both_51 rfl rfl ?_
    refine AW.iconst (v := 0) dX3_both_52 (by decide) rfl ?_
    refine AW.callV (Y := mJ2_get) (n := 1) (w5) (by omega) (by decide) rfl (by first | exact gc3 | exact gc) q778 q779 q780 q146 q781 dX3_both_53 (by decide +kernel) rfl rfl (Nat.le_of_ble_eq_true rfl) rfl ?_
    refine aw_castO (s := Tk s T n t (tkL t n L0 i) nu (nI o) kd) (b := s.b) v1 (fun k hk => Tk_g (by omega)) dX3_both_56 q790 rfl rfl ?_
    refine AW.goto (tgt := 71) dX3_both_59 (by decide) ?_
    exact AW.aretE dX3_both_71 rfl (Or.inl ⟨_, rfl⟩) (Or.inr ⟨_, rfl⟩) rfl rfl rfl
  have hne : ¬ nI (m + 1) = 1 := fun q => by
    have e := congrArg Int32.toInt q
    rw [nI_t (by omega)] at e
    have e1 : (1 : Int32).toInt = 1 := rfl
    omega
  have w3 := r_X14_init (s := Tk (s.setb (s.b.push (.inr (14, [.int 0, .null])) 2)) T n t (tkL t n L0 i) nu (nI o) kd) (a := (512 + s.b.n)) (by omega) ((Tk_g (by omega)).trans push_g) true Mo
  have hw3 : hp ((Tk (s.setb (s.b.push (.inr (14, [.int 0, .null])) 2)) T n t (tkL t n L0 i) nu (nI o) kd).setb ((Tk (s.setb (s.b.push (.inr (14, [.int 0, .null])) 2)) T n t (tkL t n L0 i) nu (nI o) kd).b.set (512 + s.b.n) (.inr (14, [.int (b2i true), .ref Mo])))) = hp (Tk (s.setb (s.b.push (.inr (14, [.int (b2i true), .ref Mo])) 2)) T n t (tkL t n L0 i) nu (nI o) kd) := (tk_cm (s := s.setb (s.b.push (.inr (14, [.int 0, .null])) 2)) (by omega)).trans (congrArg (fun z => hp (Tk (s.setb z) T n t (tkL t n L0 i) nu (nI o) kd)) push_set)
  have mk := mk14 (a := (512 + s.b.n)) (p := true) (hh.by_ (b2 := s.b.push (.inr (14, [.int (b2i true), .ref Mo])) 2) (Nat.le_succ _) (fun k hk hl => push_go (by omega))) (by omega) (by omega) (by omega) (by show _ < 512 + (s.b.n + 1); omega) (by omega) push_g
  rw [← jn_all true Fs m (by omega)] at mk
  refine ⟨_, PQ.r rfl ⟨Nat.le_refl _, (512 + s.b.n), _, nu, (ExT.push (T := T) (lo := lo) (by omega)).mono (Nat.le_refl _) (by omega) (by omega), ⟨_, hCS, mk⟩, hN, rfl⟩, ?_⟩
  refine AW.aload_n dX3_both_17 rfl rfl ?_
  refine AW.get ci3 4 (by decide) q308 dX3_both_18 (gTk hT) rfl rfl ?_
  refine AW.sipush (v := 214) dX3_both_21 (by decide) rfl ?_
  refine AW.icmp_ne (tgt := 43) dX3_both_24 (by decide) rfl (fun _ => ?_) (fun c_ => by first | exact absurd c_ hs | exact absurd hs c_ | exact absurd c_ (not_not_intro hs) | exact Bool.noConfusion (c_.symm.trans hs))
  refine AW.aload_n dX3_both_43 rfl rfl ?_
  refine AW.callV (Y := mJ2_size) (n := 0) (r_J2_size gc) (by omega) (by decide) rfl (by first | exact gc3 | exact gc) q774 q775 q776 q146 q777 dX3_both_44 (by decide +kernel) rfl rfl (Nat.le_of_ble_eq_true rfl) rfl ?_
  refine AW.iconst (v := 1) dX3_both_47 (by decide) rfl ?_
  refine AW.icmp_ne (tgt := 62) dX3_both_48 (by decide) rfl (fun _ => ?_) (fun c_ => by first | exact absurd c_ hne | exact absurd hne c_ | exact absurd c_ (not_not_intro hne) | exact Bool.noConfusion (c_.symm.trans hne))
  refine AW.new ci14 dX3_both_62 q791 q792 q170 dfX14 (tk_push hTb hb) rfl ?_
  refine AW.dup dX3_both_65 rfl rfl ?_
  refine AW.iconst (v := 1) dX3_both_66 (by decide) rfl ?_
  refine AW.aload_n dX3_both_67 rfl rfl ?_
  refine AW.callIN (Y := mX14_init) (n := 2) (w3) (by omega) (by decide) rfl q793 q794 q170 q795 dX3_both_68 rfl (by decide +kernel) rfl rfl (Nat.le_of_ble_eq_true rfl) rfl ?_
  refine AW.hp hw3 ?_
  exact AW.aretE dX3_both_71 rfl (Or.inl ⟨_, rfl⟩) (Or.inr ⟨_, rfl⟩) rfl rfl rfl
theorem cm_both {T n : Nat} {t : Nat → Int32} {L0 : Lq} {kd : Int32} {f : Nat} (h1 : CM T n t L0 kd mX3_ask GA 5 3 6 18 4 f) (hl : CLb T n t L0 kd mX3_both true 7 3 5 f) : CM T n t L0 kd mX3_both GA 6 4 9 63 5 (f + 1) := by
  intro s i o nu hC ho hN hz
  have hT := hC.1
  have hTb := hC.2.1
  have h300 := hC.2.2.2.1
  have hB := hC.2.2.2.2
  have hb := hB.1
  have e0 : RF n t L0 kd (f + 1) 6 [] i o = bd (RF n t L0 kd f 5 [] i o) fun c2 j => RF n t L0 kd f 7 c2 j o := rfl
  rw [e0] at hz ⊢
  have w0 := r_J2_init (s := Tk (s.setb (s.b.push (.inr (16, [.int 0, .null, .int 0])) 3)) T n t (tkL t n L0 i) nu (nI o) kd) (D := (512 + s.b.n)) (v := .null) (m := 0) (by omega) ((Tk_g (by omega)).trans push_g)
  have hw0 : hp ((Tk (s.setb (s.b.push (.inr (16, [.int 0, .null, .int 0])) 3)) T n t (tkL t n L0 i) nu (nI o) kd).setb ((Tk (s.setb (s.b.push (.inr (16, [.int 0, .null, .int 0])) 3)) T n t (tkL t n L0 i) nu (nI o) kd).b.set (512 + s.b.n) (.inr (16, [.int 0, .ref 2, .int 0])))) = hp (Tk (s.setb (s.b.push (.inr (16, [.int 0, .ref 2, .int 0])) 3)) T n t (tkL t n L0 i) nu (nI o) kd) := (tk_cm (s := s.setb (s.b.push (.inr (16, [.int 0, .null, .int 0])) 3)) (by omega)).trans (congrArg (fun z => hp (Tk (s.setb z) T n t (tkL t n L0 i) nu (nI o) kd)) push_set)
  have x1 : ExT T (512 + s.b.n) 1 3 s.b (s.b.push (.inr (16, [.int 0, .ref 2, .int 0])) 3) := ExT.push (Nat.le_refl _)
  have hC1 : TC (s.setb (s.b.push (.inr (16, [.int 0, .ref 2, .int 0])) 3)) T n t := hC.ext x1 (by omega)
  obtain ⟨⟨o9, h9⟩, q9, w9⟩ := h1 (s.setb (s.b.push (.inr (16, [.int 0, .ref 2, .int 0])) 3)) i o nu hC1 ho hN (nz_bd hz)
  cases hx : RF n t L0 kd f 5 [] i o with
  | inl e =>
    rw [hx] at q9
    have q8 : EQ T n t L0 kd (512 + s.b.n) 9 63 s i e.1 e.2 (o9, h9) := EQ.up (PQ.le q9) x1 (by show _ ≤ 512 + (s.b.n + 1); omega) (Nat.le_refl _) (by omega) (by omega)
    obtain ⟨-, q, b2, nu3, op3, -, -, qe⟩ := id q8
    obtain ⟨rfl, rfl⟩ := Prod.mk.inj qe
    refine ⟨_, PQ.l rfl q8, ?_⟩
    refine Run.ofX rfl (Nat.le_of_ble_eq_true rfl) rfl ?_
    refine AW.new ci16 dX3_both_0 q720 q340 q146 dfJ2 (tk_push hTb hb) rfl ?_
    refine AW.dup dX3_both_3 rfl rfl ?_
    refine AW.callI (Y := mJ2_init) (n := 0) (w0) (by omega) (by decide) rfl q721 q342 q146 q343 dX3_both_4 rfl (by decide +kernel) rfl rfl (Nat.le_of_ble_eq_true rfl) rfl ?_
    refine AW.hp hw0 ?_
    refine AW.astore_n (i := 1) dX3_both_7 rfl rfl (Nat.le_of_ble_eq_true rfl) rfl rfl ?_
    refine AW.aload_n dX3_both_8 rfl rfl ?_
    refine AW.aload_n dX3_both_9 rfl rfl ?_
    exact AW.callVX (Y := mX3_ask) (n := 0) (w9) (by omega) (by decide) rfl (gTk hT) q726 q728 qs19 q142 q729 dX3_both_10 (by decide +kernel) rfl rfl (Nat.le_of_ble_eq_true rfl) q725 rfl
  | inr e =>
    obtain ⟨c2, j⟩ := e
    rw [hx] at q9 hz
    obtain ⟨j1, y, b2, nu3, x2, ⟨G, hG1, hG2⟩, hN3, qe⟩ := q9
    obtain ⟨rfl, rfl⟩ := Prod.mk.inj qe
    have j1' : i + 1 ≤ j := j1
    have x2n : s.b.n + 1 ≤ b2.n := x2.1
    have x2c : b2.n ≤ s.b.n + 1 + (16 * (j - i) + 6) := x2.2.1
    have x2u : s.b.u + 3 ≤ b2.u := x2.2.2.1
    have x2v : b2.u ≤ s.b.u + 3 + (120 * (j - i) + 18) := x2.2.2.2.1
    have x2g := x2.2.2.2.2
    have gz : b2.g (512 + s.b.n) = some (.inr (16, [.int 0, .ref 2, .int 0])) := (x2g _ (by show _ < 512 + (s.b.n + 1); omega) (by omega)).trans push_g
    have gz2 : (Tk (s.setb b2) T n t (tkL t n L0 j) nu3 (nI o) kd).b.g (512 + s.b.n) = some (.inr (16, [.int 0, .ref 2, .int 0])) := (Tk_g (by omega)).trans gz
    have hC2 : TC (s.setb b2) T n t := hC1.ext x2 (by omega)
    have hk3 : LsB (Tk (s.setb b2) T n t (tkL t n L0 j) nu3 (nI o) kd).b (512 + s.b.n) (512 + (s.b.n + 1)) (6 + 3 * (8 - o) + 3) (512 + s.b.n) 0 0 (fun _ => G) := ⟨2, fun _ => 0, fun _ => 0, fun _ => 0, ⟨by omega, Nat.le_refl _, by omega, by omega, by show _ ≤ 512 + b2.n; omega, Or.inl rfl⟩, ⟨by omega, by show _ < 512 + b2.n; omega, ⟨0, gz2⟩, Nat.le_refl _, by decide, Nat.le_refl _, fun j hj => absurd hj (Nat.not_lt_zero j), Or.inl ⟨rfl, rfl⟩⟩, fun k hk => absurd hk (Nat.not_lt_zero k)⟩
    obtain ⟨_, ⟨b3, ⟨ix3, a1, a2, a3, a4, a5, a6⟩, rfl⟩, w3⟩ := ls_add (s := Tk (s.setb b2) T n t (tkL t n L0 j) nu3 (nI o) kd) (y := y) hk3 hC2.bh (Tk_fn (s := s.setb b2) hT (by show T < 512 + (s.b.n + 1); omega) hG2) (Nat.zero_le _)
    have hb3 : hp ((Tk (s.setb b2) T n t (tkL t n L0 j) nu3 (nI o) kd).setb b3) = hp (Tk (s.setb b3) T n t (tkL t n L0 j) nu3 (nI o) kd) := Tk_in (s := s.setb b2) (a2 T (by show T < 512 + b2.n; omega) (by omega))
    have a3' : b2.n ≤ b3.n := a3
    have a4' : b3.n ≤ b2.n + 1 := a4
    have a5' : b2.u ≤ b3.u := a5
    have a6' : b3.u + 4 * capN 0 ≤ b2.u + 4 * capN ix3 := a6
    have cz : capN 0 = 0 := rfl
    have x3 : ExT T (512 + s.b.n) (b3.n - s.b.n) (b3.u - s.b.u) s.b b3 := ⟨by omega, by omega, by omega, by omega, fun k hk hkT => (a2 k (by show k < 512 + b2.n; omega) (by omega)).trans ((Tk_g hkT).trans ((x2g k (by show k < 512 + (s.b.n + 1); omega) hkT).trans (push_go (by omega))))⟩
    have hC3 : TC (s.setb b3) T n t := hC.ext x3 (by omega)
    have c3 := a1.c_
    have ih := hl (s.setb b3) j o nu3 (512 + s.b.n) _ (512 + s.b.n) 0 ix3 (up (fun _ => G) 0 G) c2 hC3 ho hN3 (by omega) a1 (by show CA c2 (up (fun _ => G) 0 G 0); rw [up_eq]; exact hG1) (Nat.zero_le _) (Nat.zero_le _) hz
    have ih2 := ih.mono (fun oh h => PQ.up (z := 1) (sc := 9) (su := 63) (i := i) h x3 (Nat.le_refl _) (by omega) (by omega) (by omega) (by omega) (fun C b a h => h))
    obtain ⟨oh, qf, wf⟩ := ih2
    have gc : (hp (Tk (s.setb b2) T n t (tkL t n L0 j) nu3 (nI o) kd)).g (512 + s.b.n) = some (.inr (16, [.int 0, .ref 2, .int 0])) := (hp_gb (nfx (by omega))).trans gz2
    have kk : AW (12 + 4 * (8 - o) + 5) mX3_both (hp (Tk s T n t (tkL t n L0 i) nu (nI o) kd)) 0 [some (.ref T), none] [] oh.1 oh.2 := by
      refine AW.new ci16 dX3_both_0 q720 q340 q146 dfJ2 (tk_push hTb hb) rfl ?_
      refine AW.dup dX3_both_3 rfl rfl ?_
      refine AW.callI (Y := mJ2_init) (n := 0) (w0) (by omega) (by decide) rfl q721 q342 q146 q343 dX3_both_4 rfl (by decide +kernel) rfl rfl (Nat.le_of_ble_eq_true rfl) rfl ?_
      refine AW.hp hw0 ?_
      refine AW.astore_n (i := 1) dX3_both_7 rfl rfl (Nat.le_of_ble_eq_true rfl) rfl rfl ?_
      refine AW.aload_n dX3_both_8 rfl rfl ?_
      refine AW.aload_n dX3_both_9 rfl rfl ?_
      refine AW.callV (Y := mX3_ask) (n := 0) (w9) (by omega) (by decide) rfl (gTk hT) q726 q728 qs19 q142 q729 dX3_both_10 (by decide +kernel) rfl rfl (Nat.le_of_ble_eq_true rfl) rfl ?_
      refine AW.callV (Y := mJ2_add) (n := 1) (w3) (by omega) (by decide) rfl (gc) q773 q648 q649 q146 q650 dX3_both_13 (by decide +kernel) rfl rfl (Nat.le_of_ble_eq_true rfl) rfl ?_
      refine AW.pop dX3_both_16 rfl rfl ?_
      exact AW.hp hb3 wf
    exact RXO.of rfl (Nat.le_of_ble_eq_true rfl) rfl ⟨oh, qf, kk⟩
theorem lo_either {T n : Nat} {t : Nat → Int32} {L0 : Lq} {kd : Int32} {f : Nat} (h1 : CM T n t L0 kd mX3_both GA 6 4 9 63 5 f) (hl : CLb T n t L0 kd mX3_either false 9 4 6 f) : CLb T n t L0 kd mX3_either false 9 4 6 (f + 1) := by
  intro s i o nu lo top Mo m ix Fs C hC ho hN hTl hh hCS hm hm2 hz
  have hT := hC.1
  have hTb := hC.2.1
  have h300 := hC.2.2.2.1
  have hb := hC.2.2.2.2.1
  obtain ⟨k1, k2, k3, ⟨fs, k4⟩, k5, k7, k6⟩ := hh.c_
  have gc : (hp (Tk s T n t (tkL t n L0 i) nu (nI o) kd)).g Mo = some (.inr (16, fs)) := (hp_gb (nfx (by omega))).trans ((Tk_g (by omega)).trans k4)
  have e0 : RF n t L0 kd (f + 1) 9 C i o = (if isWd (tkL t n L0 i) (w2F 111 114) = true then bd (RF n t L0 kd f 6 [] (i + 1) o) fun c2 j => RF n t L0 kd f 9 (C ++ c2 ++ [(22, 0)]) j o else .inr (C, i)) := rfl
  by_cases h0 : isWd (tkL t n L0 i) (w2F 111 114) = true
  · have kw := of_decide_eq_true (Bool.and_eq_true_iff.mp h0).1
    have i3 := tk_300 (L0 := L0) h300 (i := i) (by rw [kw]; decide)
    have hs : sortS (byteF t n) (tkL t n L0 i) = 213 := (so_w h300 i (k := 13) (by decide) (by decide) (by decide +kernel)).mpr h0
    rw [if_pos h0] at e0
    rw [e0] at hz ⊢
    obtain ⟨nu2, hN2, w1⟩ := tk_next hC L0 i (nu := nu) (op := nI o) (kd := kd)
    obtain ⟨⟨o9, h9⟩, q9, w9⟩ := h1 s (i + 1) o nu2 hC ho hN2 (nz_bd hz)
    cases hx : RF n t L0 kd f 6 [] (i + 1) o with
    | inl e =>
      rw [hx] at q9
      have q8 : EQ T n t L0 kd lo 1 (2 + (40 * (m + 1) - 4 * capN ix)) s i e.1 e.2 (o9, h9) := EQ.up (b1 := s.b) (show EQ T n t L0 kd (512 + s.b.n) 9 63 (s.setb s.b) (i + 1) e.1 e.2 (o9, h9) from q9) (ExT.refl T lo s.b) (by omega) (by omega) (by omega) (by omega)
      obtain ⟨-, q, b2, nu3, op3, -, -, qe⟩ := id q8
      obtain ⟨rfl, rfl⟩ := Prod.mk.inj qe
      refine ⟨_, PQ.l rfl q8, ?_⟩
      refine AW.aload_n dX3_either_17 rfl rfl ?_
      refine AW.get ci3 4 (by decide) q308 dX3_either_18 (gTk hT) rfl rfl ?_
      refine AW.sipush (v := 213) dX3_either_21 (by decide) rfl ?_
      refine AW.icmp_ne (tgt := 43) dX3_either_24 (by decide) rfl (fun c_ => by first | exact absurd c_ hs | exact absurd hs c_ | exact Bool.noConfusion (c_.symm.trans hs)) (fun _ => ?_)
      refine AW.aload_n dX3_either_27 rfl rfl ?_
      refine AW.callV (Y := mX3_next) (n := 0) (w1) (by omega) (by decide) rfl (gTk hT) q386 q388 qs1 q142 q389 dX3_either_28 (by decide +kernel) rfl rfl (Nat.le_of_ble_eq_true rfl) rfl ?_
      refine AW.aload_n dX3_either_31 rfl rfl ?_
      refine AW.aload_n dX3_either_32 rfl rfl ?_
      exact AW.callVX (Y := mX3_both) (n := 0) (w9) (by omega) (by decide) rfl (gTk hT) q722 q724 qs18 q142 q725 dX3_either_33 (by decide +kernel) rfl rfl (Nat.le_of_ble_eq_true rfl) q719 rfl
    | inr e =>
      obtain ⟨c2, j⟩ := e
      rw [hx] at q9 hz
      obtain ⟨j1, y, b2, nu3, x2, ⟨G, hG1, hG2⟩, hN3, qe⟩ := q9
      obtain ⟨rfl, rfl⟩ := Prod.mk.inj qe
      have j1' : i + 1 + 1 ≤ j := j1
      have x2n := x2.1
      have x2c : b2.n ≤ s.b.n + (16 * (j - (i + 1)) + 9) := x2.2.1
      have x2u := x2.2.2.1
      have x2v : b2.u ≤ s.b.u + (120 * (j - (i + 1)) + 63) := x2.2.2.2.1
      have hC2 : TC (s.setb b2) T n t := hC.ext x2 (by omega)
      have hk2 : LsB b2 lo top (6 + 3 * (8 - o) + 4) Mo (m + 1) ix Fs := hh.by_ x2n (fun k hk hl => x2.2.2.2.2 k (by omega) (by omega))
      have hk3 : LsB (Tk (s.setb b2) T n t (tkL t n L0 j) nu3 (nI o) kd).b lo top (6 + 3 * (8 - o) + 4) Mo (m + 1) ix Fs := hk2.by_ (Nat.le_refl _) (fun k hk hl => Tk_g (by omega))
      obtain ⟨_, ⟨b3, ⟨ix3, a1, a2, a3, a4, a5, a6⟩, rfl⟩, w3⟩ := ls_add (s := Tk (s.setb b2) T n t (tkL t n L0 j) nu3 (nI o) kd) (y := y) hk3 hC2.bh (FnO.widen (Tk_fn hT (by omega) hG2) (by omega) k6 (Nat.le_refl _) (Nat.le_refl _) (Nat.le_refl _)) (by omega)
      have hb3 : hp ((Tk (s.setb b2) T n t (tkL t n L0 j) nu3 (nI o) kd).setb b3) = hp (Tk (s.setb b3) T n t (tkL t n L0 j) nu3 (nI o) kd) := Tk_in (s := s.setb b2) (a2 T (by show T < 512 + b2.n; omega) hTl)
      have a3' : b2.n ≤ b3.n := a3
      have a4' : b3.n ≤ b2.n + 1 := a4
      have a5' : b2.u ≤ b3.u := a5
      have a6' : b3.u + 4 * capN ix ≤ b2.u + 4 * capN ix3 := a6
      have x3 : ExT T lo (b3.n - s.b.n) (b3.u - s.b.u) s.b b3 := ⟨by omega, by omega, by omega, by omega, fun k hk hkT => (a2 k (by show k < 512 + b2.n; omega) hk).trans ((Tk_g hkT).trans (x2.2.2.2.2 k (by omega) hkT))⟩
      have c3 := a1.c_
      have hC3 : TC (s.setb b3) T n t := hC.ext x3 (by omega)
      have hCS3 : CA (C ++ c2 ++ [(22, 0)]) (jnX false (up Fs (m + 1) G) (m + 1)) := by
        have := CA.join hCS hG1 22 (by decide) (by decide) (by decide) (by decide) (by decide)
        have e1 : jnX false (up Fs (m + 1) G) m = jnX false Fs m := jn_c m (fun k hk => up_ne (by omega))
        show CA _ (fun N => joinB 22 (jnX false (up Fs (m + 1) G) m N) (up Fs (m + 1) G (m + 1) N))
        rw [e1, up_eq]
        exact this
      have ih := hl (s.setb b3) j o nu3 lo _ Mo (m + 1) ix3 _ (C ++ c2 ++ [(22, 0)]) hC3 ho hN3 hTl a1 hCS3 (by omega) (by omega) hz
      have ih2 := ih.mono (fun oh h => PQ.up (z := 0) (sc := 1) (su := 2 + (40 * (m + 1) - 4 * capN ix)) (i := i) h x3 (Nat.le_refl _) (by omega) (by omega) (by omega) (by omega) (fun C b a h => h))
      have gc3 : (hp (Tk (s.setb b2) T n t (tkL t n L0 j) nu3 (nI o) kd)).g Mo = some (.inr (16, fs)) := (hp_gb (nfx (by omega))).trans ((Tk_g (by omega)).trans ((x2.2.2.2.2 Mo (by omega) (by omega)).trans k4))
      refine AXO.map (fun _ kk => ?_) ih2
      refine AW.aload_n dX3_either_17 rfl rfl ?_
      refine AW.get ci3 4 (by decide) q308 dX3_either_18 (gTk hT) rfl rfl ?_
      refine AW.sipush (v := 213) dX3_either_21 (by decide) rfl ?_
      refine AW.icmp_ne (tgt := 43) dX3_either_24 (by decide) rfl (fun c_ => by first | exact absurd c_ hs | exact absurd hs c_ | exact Bool.noConfusion (c_.symm.trans hs)) (fun _ => ?_)
      refine AW.aload_n dX3_either_27 rfl rfl ?_
      refine AW.callV (Y := mX3_next) (n := 0) (w1) (by omega) (by decide) rfl (gTk hT) q386 q388 qs1 q142 q389 dX3_either_28 (by decide +kernel) rfl rfl (Nat.le_of_ble_eq_true rfl) rfl ?_
      refine AW.aload_n dX3_either_31 rfl rfl ?_
      refine AW.aload_n dX3_either_32 rfl rfl ?_
      refine AW.callV (Y := mX3_both) (n := 0) (w9) (by omega) (by decide) rfl (gTk hT) q722 q724 qs18 q142 q725 dX3_either_33 (by decide +kernel) rfl rfl (Nat.le_of_ble_eq_true rfl) rfl ?_
      refine AW.callV (Y := mJ2_add) (n := 1) (w3) (by omega) (by decide) rfl (by first | exact gc3 | exact gc) q773 q648 q649 q146 q650 dX3_either_36 (by decide +kernel) rfl rfl (Nat.le_of_ble_eq_true rfl) rfl ?_
      refine AW.pop dX3_either_39 rfl rfl ?_
      refine AW.goto (tgt := 17) dX3_either_40 (by decide) ?_
      exact AW.hp hb3 kk
  rw [if_neg h0] at e0
  rw [e0]
  have hs : ¬ sortS (byteF t n) (tkL t n L0 i) = 213 := fun q => h0 ((so_w h300 i (k := 13) (by decide) (by decide) (by decide +kernel)).mp q)
  obtain ⟨E, av, los, his, ⟨l1, l2, l3, l4, l5, l6⟩, h7, h8⟩ := id hh
  obtain ⟨p1, p2, ⟨mM, gM⟩, p3, p4, p5, p6, p7⟩ := h7
  have gc : (hp (Tk s T n t (tkL t n L0 i) nu (nI o) kd)).g Mo = some (.inr (16, [.int mM, .ref E, .int (nI (m + 1))])) := (hp_gb (nfx (by omega))).trans ((Tk_g (by omega)).trans gM)
  by_cases hm0 : m = 0
  · subst hm0
    obtain ⟨r1, r2, r3, r4, gg, r5, r6⟩ := p7.resolve_left (fun z => by have := z.1; subst this; have : capN 0 = 0 := rfl; omega)
    have hE : ¬ E = T := by rcases l6 with z | z <;> omega
    have w5 : Run 3 mJ2_get [.ref Mo, .int 0] (hp (Tk s T n t (tkL t n L0 i) nu (nI o) kd)) (.inl (some (.ref (av 0)))) (hp (Tk s T n t (tkL t n L0 i) nu (nI o) kd)) := by
      have := r_J2_get gc (cap := capN ix) (f := gg) ((hp_gb (nfx r2)).trans ((Tk_g hE).trans r5)) 0 (by decide) (by decide) (vp_in_nI (n := 0) (by omega) (by have := capN_le ix; omega)) (Or.inr ⟨av 0, r6 0 (by omega)⟩)
      rw [show gg (cI 0) = .ref (av 0) from r6 0 (by omega)] at this
      exact this
    obtain ⟨v1, v2, v3, v4⟩ := h8 0 (by omega)
    have va := FnO.at_ v1
    refine ⟨(.inl (some (.ref (av 0))), (hp (Tk s T n t (tkL t n L0 i) nu (nI o) kd))), PQ.r rfl ⟨Nat.le_refl _, av 0, s.b, nu, (ExT.refl T lo s.b).mono (Nat.le_refl _) (Nat.zero_le _) (Nat.zero_le _), ⟨Fs 0, hCS, FnO.widen v1 l1 v2 va.2.2.2 (Nat.le_refl _) (Nat.le_succ _)⟩, hN, rfl⟩, ?_⟩
    refine AW.aload_n dX3_either_17 rfl rfl ?_
    refine AW.get ci3 4 (by decide) q308 dX3_either_18 (gTk hT) rfl rfl ?_
    refine AW.sipush (v := 213) dX3_either_21 (by decide) rfl ?_
    refine AW.icmp_ne (tgt := 43) dX3_either_24 (by decide) rfl (fun _ => ?_) (fun c_ => by first | exact absurd c_ hs | exact absurd hs c_ | exact absurd c_ (not_not_intro hs) | exact Bool.noConfusion (c_.symm.trans hs))
    refine AW.aload_n dX3_either_43 rfl rfl ?_
    refine AW.callV (Y := mJ2_size) (n := 0) (r_J2_size gc) (by omega) (by decide) rfl (by first | exact gc3 | exact gc) q774 q775 q776 q146 q777 dX3_either_44 (by decide +kernel) rfl rfl (Nat.le_of_ble_eq_true rfl) rfl ?_
    refine AW.iconst (v := 1) dX3_either_47 (by decide) rfl ?_
    refine AW.icmp_ne (tgt := 62) dX3_either_48 (by decide) rfl (fun c_ => by first | exact absurd c_ (show nI (0 + 1) = 1 from rfl) | exact absurd (show nI (0 + 1) = 1 from rfl) c_ | exact Bool.noConfusion (c_.symm.trans (show nI (0 + 1) = 1 from rfl))) (fun _ => ?_)
    refine AW.aload_n dX3_either_51 rfl rfl ?_
    refine AW.iconst (v := 0) dX3_either_52 (by decide) rfl ?_
    refine AW.callV (Y := mJ2_get) (n := 1) (w5) (by omega) (by decide) rfl (by first | exact gc3 | exact gc) q778 q779 q780 q146 q781 dX3_either_53 (by decide +kernel) rfl rfl (Nat.le_of_ble_eq_true rfl) rfl ?_
    refine aw_castO (s := Tk s T n t (tkL t n L0 i) nu (nI o) kd) (b := s.b) v1 (fun k hk => Tk_g (by omega)) dX3_either_56 q790 rfl rfl ?_
    refine AW.goto (tgt := 71) dX3_either_59 (by decide) ?_
    exact AW.aretE dX3_either_71 rfl (Or.inl ⟨_, rfl⟩) (Or.inr ⟨_, rfl⟩) rfl rfl rfl
  have hne : ¬ nI (m + 1) = 1 := fun q => by
    have e := congrArg Int32.toInt q
    rw [nI_t (by omega)] at e
    have e1 : (1 : Int32).toInt = 1 := rfl
    omega
  have w3 := r_X14_init (s := Tk (s.setb (s.b.push (.inr (14, [.int 0, .null])) 2)) T n t (tkL t n L0 i) nu (nI o) kd) (a := (512 + s.b.n)) (by omega) ((Tk_g (by omega)).trans push_g) false Mo
  have hw3 : hp ((Tk (s.setb (s.b.push (.inr (14, [.int 0, .null])) 2)) T n t (tkL t n L0 i) nu (nI o) kd).setb ((Tk (s.setb (s.b.push (.inr (14, [.int 0, .null])) 2)) T n t (tkL t n L0 i) nu (nI o) kd).b.set (512 + s.b.n) (.inr (14, [.int (b2i false), .ref Mo])))) = hp (Tk (s.setb (s.b.push (.inr (14, [.int (b2i false), .ref Mo])) 2)) T n t (tkL t n L0 i) nu (nI o) kd) := (tk_cm (s := s.setb (s.b.push (.inr (14, [.int 0, .null])) 2)) (by omega)).trans (congrArg (fun z => hp (Tk (s.setb z) T n t (tkL t n L0 i) nu (nI o) kd)) push_set)
  have mk := mk14 (a := (512 + s.b.n)) (p := false) (hh.by_ (b2 := s.b.push (.inr (14, [.int (b2i false), .ref Mo])) 2) (Nat.le_succ _) (fun k hk hl => push_go (by omega))) (by omega) (by omega) (by omega) (by show _ < 512 + (s.b.n + 1); omega) (by omega) push_g
  rw [← jn_all false Fs m (by omega)] at mk
  refine ⟨_, PQ.r rfl ⟨Nat.le_refl _, (512 + s.b.n), _, nu, (ExT.push (T := T) (lo := lo) (by omega)).mono (Nat.le_refl _) (by omega) (by omega), ⟨_, hCS, mk⟩, hN, rfl⟩, ?_⟩
  refine AW.aload_n dX3_either_17 rfl rfl ?_
  refine AW.get ci3 4 (by decide) q308 dX3_either_18 (gTk hT) rfl rfl ?_
  refine AW.sipush (v := 213) dX3_either_21 (by decide) rfl ?_
  refine AW.icmp_ne (tgt := 43) dX3_either_24 (by decide) rfl (fun _ => ?_) (fun c_ => by first | exact absurd c_ hs | exact absurd hs c_ | exact absurd c_ (not_not_intro hs) | exact Bool.noConfusion (c_.symm.trans hs))
  refine AW.aload_n dX3_either_43 rfl rfl ?_
  refine AW.callV (Y := mJ2_size) (n := 0) (r_J2_size gc) (by omega) (by decide) rfl (by first | exact gc3 | exact gc) q774 q775 q776 q146 q777 dX3_either_44 (by decide +kernel) rfl rfl (Nat.le_of_ble_eq_true rfl) rfl ?_
  refine AW.iconst (v := 1) dX3_either_47 (by decide) rfl ?_
  refine AW.icmp_ne (tgt := 62) dX3_either_48 (by decide) rfl (fun _ => ?_) (fun c_ => by first | exact absurd c_ hne | exact absurd hne c_ | exact absurd c_ (not_not_intro hne) | exact Bool.noConfusion (c_.symm.trans hne))
  refine AW.new ci14 dX3_either_62 q791 q792 q170 dfX14 (tk_push hTb hb) rfl ?_
  refine AW.dup dX3_either_65 rfl rfl ?_
  refine AW.iconst (v := 0) dX3_either_66 (by decide) rfl ?_
  refine AW.aload_n dX3_either_67 rfl rfl ?_
  refine AW.callIN (Y := mX14_init) (n := 2) (w3) (by omega) (by decide) rfl q793 q794 q170 q795 dX3_either_68 rfl (by decide +kernel) rfl rfl (Nat.le_of_ble_eq_true rfl) rfl ?_
  refine AW.hp hw3 ?_
  exact AW.aretE dX3_either_71 rfl (Or.inl ⟨_, rfl⟩) (Or.inr ⟨_, rfl⟩) rfl rfl rfl
theorem cm_either {T n : Nat} {t : Nat → Int32} {L0 : Lq} {kd : Int32} {f : Nat} (h1 : CM T n t L0 kd mX3_both GA 6 4 9 63 5 f) (hl : CLb T n t L0 kd mX3_either false 9 4 6 f) : CM T n t L0 kd mX3_either GA 8 5 12 108 6 (f + 1) := by
  intro s i o nu hC ho hN hz
  have hT := hC.1
  have hTb := hC.2.1
  have h300 := hC.2.2.2.1
  have hB := hC.2.2.2.2
  have hb := hB.1
  have e0 : RF n t L0 kd (f + 1) 8 [] i o = bd (RF n t L0 kd f 6 [] i o) fun c2 j => RF n t L0 kd f 9 c2 j o := rfl
  rw [e0] at hz ⊢
  have w0 := r_J2_init (s := Tk (s.setb (s.b.push (.inr (16, [.int 0, .null, .int 0])) 3)) T n t (tkL t n L0 i) nu (nI o) kd) (D := (512 + s.b.n)) (v := .null) (m := 0) (by omega) ((Tk_g (by omega)).trans push_g)
  have hw0 : hp ((Tk (s.setb (s.b.push (.inr (16, [.int 0, .null, .int 0])) 3)) T n t (tkL t n L0 i) nu (nI o) kd).setb ((Tk (s.setb (s.b.push (.inr (16, [.int 0, .null, .int 0])) 3)) T n t (tkL t n L0 i) nu (nI o) kd).b.set (512 + s.b.n) (.inr (16, [.int 0, .ref 2, .int 0])))) = hp (Tk (s.setb (s.b.push (.inr (16, [.int 0, .ref 2, .int 0])) 3)) T n t (tkL t n L0 i) nu (nI o) kd) := (tk_cm (s := s.setb (s.b.push (.inr (16, [.int 0, .null, .int 0])) 3)) (by omega)).trans (congrArg (fun z => hp (Tk (s.setb z) T n t (tkL t n L0 i) nu (nI o) kd)) push_set)
  have x1 : ExT T (512 + s.b.n) 1 3 s.b (s.b.push (.inr (16, [.int 0, .ref 2, .int 0])) 3) := ExT.push (Nat.le_refl _)
  have hC1 : TC (s.setb (s.b.push (.inr (16, [.int 0, .ref 2, .int 0])) 3)) T n t := hC.ext x1 (by omega)
  obtain ⟨⟨o9, h9⟩, q9, w9⟩ := h1 (s.setb (s.b.push (.inr (16, [.int 0, .ref 2, .int 0])) 3)) i o nu hC1 ho hN (nz_bd hz)
  cases hx : RF n t L0 kd f 6 [] i o with
  | inl e =>
    rw [hx] at q9
    have q8 : EQ T n t L0 kd (512 + s.b.n) 12 108 s i e.1 e.2 (o9, h9) := EQ.up (PQ.le q9) x1 (by show _ ≤ 512 + (s.b.n + 1); omega) (Nat.le_refl _) (by omega) (by omega)
    obtain ⟨-, q, b2, nu3, op3, -, -, qe⟩ := id q8
    obtain ⟨rfl, rfl⟩ := Prod.mk.inj qe
    refine ⟨_, PQ.l rfl q8, ?_⟩
    refine Run.ofX rfl (Nat.le_of_ble_eq_true rfl) rfl ?_
    refine AW.new ci16 dX3_either_0 q720 q340 q146 dfJ2 (tk_push hTb hb) rfl ?_
    refine AW.dup dX3_either_3 rfl rfl ?_
    refine AW.callI (Y := mJ2_init) (n := 0) (w0) (by omega) (by decide) rfl q721 q342 q146 q343 dX3_either_4 rfl (by decide +kernel) rfl rfl (Nat.le_of_ble_eq_true rfl) rfl ?_
    refine AW.hp hw0 ?_
    refine AW.astore_n (i := 1) dX3_either_7 rfl rfl (Nat.le_of_ble_eq_true rfl) rfl rfl ?_
    refine AW.aload_n dX3_either_8 rfl rfl ?_
    refine AW.aload_n dX3_either_9 rfl rfl ?_
    exact AW.callVX (Y := mX3_both) (n := 0) (w9) (by omega) (by decide) rfl (gTk hT) q722 q724 qs18 q142 q725 dX3_either_10 (by decide +kernel) rfl rfl (Nat.le_of_ble_eq_true rfl) q719 rfl
  | inr e =>
    obtain ⟨c2, j⟩ := e
    rw [hx] at q9 hz
    obtain ⟨j1, y, b2, nu3, x2, ⟨G, hG1, hG2⟩, hN3, qe⟩ := q9
    obtain ⟨rfl, rfl⟩ := Prod.mk.inj qe
    have j1' : i + 1 ≤ j := j1
    have x2n : s.b.n + 1 ≤ b2.n := x2.1
    have x2c : b2.n ≤ s.b.n + 1 + (16 * (j - i) + 9) := x2.2.1
    have x2u : s.b.u + 3 ≤ b2.u := x2.2.2.1
    have x2v : b2.u ≤ s.b.u + 3 + (120 * (j - i) + 63) := x2.2.2.2.1
    have x2g := x2.2.2.2.2
    have gz : b2.g (512 + s.b.n) = some (.inr (16, [.int 0, .ref 2, .int 0])) := (x2g _ (by show _ < 512 + (s.b.n + 1); omega) (by omega)).trans push_g
    have gz2 : (Tk (s.setb b2) T n t (tkL t n L0 j) nu3 (nI o) kd).b.g (512 + s.b.n) = some (.inr (16, [.int 0, .ref 2, .int 0])) := (Tk_g (by omega)).trans gz
    have hC2 : TC (s.setb b2) T n t := hC1.ext x2 (by omega)
    have hk3 : LsB (Tk (s.setb b2) T n t (tkL t n L0 j) nu3 (nI o) kd).b (512 + s.b.n) (512 + (s.b.n + 1)) (6 + 3 * (8 - o) + 4) (512 + s.b.n) 0 0 (fun _ => G) := ⟨2, fun _ => 0, fun _ => 0, fun _ => 0, ⟨by omega, Nat.le_refl _, by omega, by omega, by show _ ≤ 512 + b2.n; omega, Or.inl rfl⟩, ⟨by omega, by show _ < 512 + b2.n; omega, ⟨0, gz2⟩, Nat.le_refl _, by decide, Nat.le_refl _, fun j hj => absurd hj (Nat.not_lt_zero j), Or.inl ⟨rfl, rfl⟩⟩, fun k hk => absurd hk (Nat.not_lt_zero k)⟩
    obtain ⟨_, ⟨b3, ⟨ix3, a1, a2, a3, a4, a5, a6⟩, rfl⟩, w3⟩ := ls_add (s := Tk (s.setb b2) T n t (tkL t n L0 j) nu3 (nI o) kd) (y := y) hk3 hC2.bh (Tk_fn (s := s.setb b2) hT (by show T < 512 + (s.b.n + 1); omega) hG2) (Nat.zero_le _)
    have hb3 : hp ((Tk (s.setb b2) T n t (tkL t n L0 j) nu3 (nI o) kd).setb b3) = hp (Tk (s.setb b3) T n t (tkL t n L0 j) nu3 (nI o) kd) := Tk_in (s := s.setb b2) (a2 T (by show T < 512 + b2.n; omega) (by omega))
    have a3' : b2.n ≤ b3.n := a3
    have a4' : b3.n ≤ b2.n + 1 := a4
    have a5' : b2.u ≤ b3.u := a5
    have a6' : b3.u + 4 * capN 0 ≤ b2.u + 4 * capN ix3 := a6
    have cz : capN 0 = 0 := rfl
    have x3 : ExT T (512 + s.b.n) (b3.n - s.b.n) (b3.u - s.b.u) s.b b3 := ⟨by omega, by omega, by omega, by omega, fun k hk hkT => (a2 k (by show k < 512 + b2.n; omega) (by omega)).trans ((Tk_g hkT).trans ((x2g k (by show k < 512 + (s.b.n + 1); omega) hkT).trans (push_go (by omega))))⟩
    have hC3 : TC (s.setb b3) T n t := hC.ext x3 (by omega)
    have c3 := a1.c_
    have ih := hl (s.setb b3) j o nu3 (512 + s.b.n) _ (512 + s.b.n) 0 ix3 (up (fun _ => G) 0 G) c2 hC3 ho hN3 (by omega) a1 (by show CA c2 (up (fun _ => G) 0 G 0); rw [up_eq]; exact hG1) (Nat.zero_le _) (Nat.zero_le _) hz
    have ih2 := ih.mono (fun oh h => PQ.up (z := 1) (sc := 12) (su := 108) (i := i) h x3 (Nat.le_refl _) (by omega) (by omega) (by omega) (by omega) (fun C b a h => h))
    obtain ⟨oh, qf, wf⟩ := ih2
    have gc : (hp (Tk (s.setb b2) T n t (tkL t n L0 j) nu3 (nI o) kd)).g (512 + s.b.n) = some (.inr (16, [.int 0, .ref 2, .int 0])) := (hp_gb (nfx (by omega))).trans gz2
    have kk : AW (12 + 4 * (8 - o) + 6) mX3_either (hp (Tk s T n t (tkL t n L0 i) nu (nI o) kd)) 0 [some (.ref T), none] [] oh.1 oh.2 := by
      refine AW.new ci16 dX3_either_0 q720 q340 q146 dfJ2 (tk_push hTb hb) rfl ?_
      refine AW.dup dX3_either_3 rfl rfl ?_
      refine AW.callI (Y := mJ2_init) (n := 0) (w0) (by omega) (by decide) rfl q721 q342 q146 q343 dX3_either_4 rfl (by decide +kernel) rfl rfl (Nat.le_of_ble_eq_true rfl) rfl ?_
      refine AW.hp hw0 ?_
      refine AW.astore_n (i := 1) dX3_either_7 rfl rfl (Nat.le_of_ble_eq_true rfl) rfl rfl ?_
      refine AW.aload_n dX3_either_8 rfl rfl ?_
      refine AW.aload_n dX3_either_9 rfl rfl ?_
      refine AW.callV (Y := mX3_both) (n := 0) (w9) (by omega) (by decide) rfl (gTk hT) q722 q724 qs18 q142 q725 dX3_either_10 (by decide +kernel) rfl rfl (Nat.le_of_ble_eq_true rfl) rfl ?_
      refine AW.callV (Y := mJ2_add) (n := 1) (w3) (by omega) (by decide) rfl (gc) q773 q648 q649 q146 q650 dX3_either_13 (by decide +kernel) rfl rfl (Nat.le_of_ble_eq_true rfl) rfl ?_
      refine AW.pop dX3_either_16 rfl rfl ?_
      exact AW.hp hb3 wf
    exact RXO.of rfl (Nat.le_of_ble_eq_true rfl) rfl ⟨oh, qf, kk⟩
