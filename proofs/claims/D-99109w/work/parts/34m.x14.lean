/-! SYSTEM 14: what is asked by a text: rules, days to come, the richest (printed by tools/x14.py) -/
set_option maxRecDepth 100000
theorem AW.aretE {d : Nat} {M : Mt} {h h2 : AH} {pc : Nat} {ls : List (Option Value)} {v w : Value} {rt : FieldType} (hd : decode M.2.1 pc = .ok (.areturn, 1)) (hr : M.2.2.2 = some rt) (hrt : (∃ n, rt = .object n) ∨ ∃ t, rt = .array t) (hv : v = .null ∨ ∃ a, v = .ref a) (hz : ls.length = M.2.2.1) (e : v = w) (eh : h = h2) : AW d M h pc ls [v] (.inl (some w)) h2 := by
  subst e; subst eh; exact AW.aret hd hr hrt hv hz
/-- the same but for what is scratch: the names, the row that is tried, cells made meanwhile -/
def EqX (s t : Sg) : Prop := (∀ k, k ≠ 620 → k ≠ 621 → t.A k = s.A k) ∧ t.S = s.S ∧ t.V = s.V ∧ t.w = s.w ∧ t.T = s.T
theorem EqX.A {s t : Sg} (h : EqX s t) {k : Nat} (h1 : k ≠ 620) (h2 : k ≠ 621) : t.A k = s.A k := h.1 k h1 h2
theorem EqX.T {s t : Sg} (h : EqX s t) : t.T = s.T := h.2.2.2.2
theorem EqX.refl (s : Sg) : EqX s s := ⟨fun _ _ _ => rfl, rfl, rfl, rfl, rfl⟩
theorem EqX.trans {s t u : Sg} (h : EqX s t) (k : EqX t u) : EqX s u := ⟨fun j h1 h2 => (k.1 j h1 h2).trans (h.1 j h1 h2), k.2.1.trans h.2.1, k.2.2.1.trans h.2.2.1, k.2.2.2.1.trans h.2.2.2.1, k.2.2.2.2.trans h.2.2.2.2⟩
theorem EqX.sc {s : Sg} {N : Nat → Int32} : EqX s (s.setA 620 N) := ⟨fun _ h1 _ => setA_ne h1, rfl, rfl, rfl, rfl⟩
theorem EqX.st {s : Sg} {N : Nat → Int32} : EqX s (s.setA 621 N) := ⟨fun _ _ h1 => setA_ne h1, rfl, rfl, rfl, rfl⟩
theorem EqX.sb {s : Sg} {b : AH} : EqX s (s.setb b) := ⟨fun _ _ _ => rfl, rfl, rfl, rfl, rfl⟩
theorem EqX.set {s t : Sg} (h : EqX s t) (k : Nat) (f : Nat → Int32) : EqX (s.setA k f) (t.setA k f) := ⟨fun j h1 h2 => by
  by_cases e : j = k
  · subst e; rw [setA_at, setA_at]
  · rw [setA_ne e, setA_ne e]; exact h.1 j h1 h2, h.2⟩
theorem EqX.lay {s t : Sg} (h : EqX s t) {c : Nat} (hc : c ≤ 30) : EqX (layS s c) (layS t c) := by
  unfold layS
  rw [h.A (k := 535 + c) (by omega) (by omega), h.A (k := 515) (by decide) (by decide), h.A (k := 514) (by decide) (by decide)]
  exact (h.set _ _).set _ _
theorem EqX.shf {s t : Sg} (h : EqX s t) {m : Nat} (hm : m ≤ 29) : EqX (shf s m) (shf t m) := ⟨fun j h1 h2 => by
  show (if 535 ≤ j ∧ j < 535 + m then mv0 (t.A j) (t.A (j + 1)) 145 else t.A j) = (if 535 ≤ j ∧ j < 535 + m then mv0 (s.A j) (s.A (j + 1)) 145 else s.A j)
  by_cases q : 535 ≤ j ∧ j < 535 + m
  · rw [if_pos q, if_pos q, h.A h1 h2, h.A (by omega) (by omega)]
  · rw [if_neg q, if_neg q, h.A h1 h2], h.2⟩
theorem EqX.keep {s t : Sg} (h : EqX s t) {c : Nat} (hc : c ≤ 30) : EqX (keepS s c) (keepS t c) := by
  unfold keepS
  by_cases q : c = 30
  · rw [if_pos q, if_pos q, h.A (k := 514) (by decide) (by decide)]
    exact ((h.shf (by decide)).set _ _).lay (by decide)
  · rw [if_neg q, if_neg q]
    exact h.lay hc
theorem keepS_T {s : Sg} {c : Nat} : (keepS s c).T = s.T := by
  unfold keepS
  split <;> rfl
/-- some cells more, those that were there as they were -/
def Ext (c u : Nat) (b b2 : AH) : Prop := b.n ≤ b2.n ∧ b2.n ≤ b.n + c ∧ b.u ≤ b2.u ∧ b2.u ≤ b.u + u ∧ ∀ k, k < 512 + b.n → b2.g k = b.g k
theorem Ext.refl (b : AH) : Ext 0 0 b b := ⟨Nat.le_refl _, Nat.le_refl _, Nat.le_refl _, Nat.le_refl _, fun _ _ => rfl⟩
theorem Ext.trans {c u c2 u2 : Nat} {b b1 b2 : AH} (h : Ext c u b b1) (k : Ext c2 u2 b1 b2) : Ext (c + c2) (u + u2) b b2 := by
  obtain ⟨h1, h2, h3, h4, h5⟩ := h
  obtain ⟨k1, k2, k3, k4, k5⟩ := k
  exact ⟨by omega, by omega, by omega, by omega, fun q hq => (k5 q (by omega)).trans (h5 q hq)⟩
theorem Ext.mono {c u c2 u2 : Nat} {b b1 : AH} (h : Ext c u b b1) (hc : c ≤ c2) (hu : u ≤ u2) : Ext c2 u2 b b1 := by
  obtain ⟨h1, h2, h3, h4, h5⟩ := h
  exact ⟨h1, by omega, h3, by omega, h5⟩
theorem Ext.push {b : AH} {c : AC} {w : Nat} : Ext 1 w b (b.push c w) := ⟨Nat.le_succ _, Nat.le_refl _, Nat.le_add_right _ _, Nat.le_refl _, fun k hk => push_go (by omega)⟩
theorem FnO.ext {x : MethodName} {lo hi : Nat} {b b2 : AH} {d a : Nat} {G : (Nat → Int32) → Value} (h : FnO x lo hi b d a G) (hn : b.n ≤ b2.n) (e : ∀ k, (k < 512 ∨ lo ≤ k ∧ k < hi) → b2.g k = b.g k) : FnO x lo hi b2 d a G := by
  obtain ⟨x1, ⟨x2, x3, x4, x5⟩, ci, fs, rC, Y, y1, y2, y3, y4, y5, y6, y7, y8, yc, y9⟩ := h
  exact ⟨x1, ⟨x2, x3, x4, by omega⟩, ci, fs, rC, Y, y1, (e a (Or.inr ⟨x3, x4⟩)).trans y2, y3, y4, y5, y6, y7, y8, yc, fun dd s hd hs => y9 dd s hd (fun k hk => (hs k hk).trans (e k hk))⟩
theorem FnO.hi {x : MethodName} {lo hi : Nat} {b : AH} {d a : Nat} {G : (Nat → Int32) → Value} (h : FnO x lo hi b d a G) : hi ≤ 512 + b.n := h.2.1.2.2.2
theorem SlotS.ext {b b2 : AH} {v : Value} {f : Option SumF} {c u : Nat} (h : SlotS b v f) (x : Ext c u b b2) : SlotS b2 v f := by
  cases f with
  | none => exact h
  | some F =>
    obtain ⟨a, lo, hi, e, k⟩ := h
    have k5 := FnO.hi k
    exact ⟨a, lo, hi, e, FnO.ext k x.1 (fun j hj => x.2.2.2.2 j (by omega))⟩
theorem SlotA.ext {b b2 : AH} {v : Value} {f : Option AskF} {c u : Nat} (h : SlotA b v f) (x : Ext c u b b2) : SlotA b2 v f := by
  cases f with
  | none => exact h
  | some F =>
    obtain ⟨a, lo, hi, e, k⟩ := h
    have k5 := FnO.hi k
    exact ⟨a, lo, hi, e, FnO.ext k x.1 (fun j hj => x.2.2.2.2 j (by omega))⟩
theorem LawT.ext {b b2 : AH} {a : Nat} {L : Lw} {c u : Nat} (h : LawT b a L) (x : Ext c u b b2) : LawT b2 a L := by
  obtain ⟨h1, h2, e, l, q, cc, dd, hg, he, hl, hq⟩ := h
  have x1 := x.1
  exact ⟨h1, by omega, e, l, q, cc, dd, (x.2.2.2.2 a h2).trans hg, he.ext x, hl.ext x, hq.ext x⟩
/-- ends in a state that is the same but for scratch and at most c cells, u places more -/
def QX (s : Sg) (c u : Nat) (h : AH) : Prop := ∃ t, EqX s t ∧ Ext c u s.b t.b ∧ h = hp t
/-- the same, and the row that is tried is r -/
def QT (s : Sg) (r : Nat → Int32) (h : AH) : Prop := ∃ t, EqX s t ∧ t.b = s.b ∧ t.A 621 = r ∧ h = hp t
theorem ok_e {s t : Sg} (e : EqX s t) {r r2 : Nat → Int32} (h : (vwS (s.A 514) r).ok) : (vwS (t.A 514) r2).ok := by rw [e.A (by decide) (by decide)]; exact ok_n h
theorem q_earnsBy {s : Sg} (hn : (vwS (s.A 514) (s.A 515)).ok) {a : Nat} {L : Lw} (hL : LawT s.b a L) (hX : extL L) (h day : Int32) (hh : (vwS (s.A 514) (s.A 515)).hou h = true) : RX (QX s 0 0) 62 mX0_earnsBy [.ref 512, .ref a, .ref 515, .int h, .int day] (hp s) (some (.int (earnX L (vwS (s.A 514) (s.A 515)) h day))) := by
  have q := r_X0_earnsBy (N := s.A 620) hn hL h day hh
  rw [setA_id, earnX_e hX] at q
  exact ⟨_, ⟨_, EqX.sc, Ext.refl _, rfl⟩, q⟩
theorem q_losesBy {s : Sg} (hn : (vwS (s.A 514) (s.A 515)).ok) {a : Nat} {L : Lw} (hL : LawT s.b a L) (hX : extL L) (h day : Int32) (hh : (vwS (s.A 514) (s.A 515)).hou h = true) : RX (QX s 0 0) 62 mX0_losesBy [.ref 512, .ref a, .ref 515, .int h, .int day] (hp s) (some (.int (loseX L (vwS (s.A 514) (s.A 515)) h day))) := by
  have q := r_X0_losesBy (N := s.A 620) hn hL h day hh
  rw [setA_id, loseX_e hX] at q
  exact ⟨_, ⟨_, EqX.sc, Ext.refl _, rfl⟩, q⟩
theorem q_letsBy {s : Sg} (hn : (vwS (s.A 514) (s.A 515)).ok) {a : Nat} {L : Lw} (hL : LawT s.b a L) (hX : extL L) (h : Int32) (hh : (vwS (s.A 514) (s.A 515)).hou h = true) : RX (QX s 0 0) 62 mX0_letsBy [.ref 512, .ref a, .ref 515, .int h] (hp s) (some (.int (b2i (letX L (vwS (s.A 514) (s.A 515)) h (s.A 515 0))))) := by
  have q := r_X0_letsBy (N := s.A 620) hn hL h hh
  rw [setA_id, letX_e hX] at q
  exact ⟨_, ⟨_, EqX.sc, Ext.refl _, rfl⟩, q⟩
theorem q_passes {s : Sg} (hn : (vwS (s.A 514) (s.A 515)).ok) {a : Nat} {L : Lw} (hL : LawT s.b a L) (hX : extL L) : RX (QX (s.setA 515 (passS L (s.A 514) (s.A 515))) 0 0) 63 mX0_passes [.ref 512, .ref a, .ref 515] (hp s) none := by
  have q := r_X0_passes (N := s.A 620) hn hL hX
  rw [setA_id] at q
  exact RX.mono (fun h' ⟨N, e⟩ => ⟨_, EqX.sc, Ext.refl _, e⟩) q
theorem q_passes_t {s : Sg} (hn : (vwS (s.A 514) (s.A 621)).ok) {a : Nat} {L : Lw} (hL : LawT s.b a L) (hX : extL L) : RX (QT s (passS L (s.A 514) (s.A 621))) 63 mX0_passes [.ref 512, .ref a, .ref 621] (hp s) none := by
  have q := r_X0_passes_t (N := s.A 620) hn hL hX
  rw [setA_id] at q
  exact RX.mono (fun h' ⟨N, e⟩ => ⟨_, EqX.st.trans EqX.sc, rfl, (setA_ne (by decide)).trans setA_at, e⟩) q
/-- the text that holds -/
def RulesAt (s : Sg) (a : Nat) : Prop := (s.A 514 2 = -1 ∧ a = 0) ∨ ∃ t, t < 4 ∧ s.A 514 2 = nI t ∧ s.T (2 * t) = .ref a
def Rl (s : Sg) (a : Nat) (L : Lw) : Prop := RulesAt s a ∧ LawT s.b a L ∧ extL L
theorem RulesAt.eqx {s t : Sg} {a : Nat} (h : RulesAt s a) (e : EqX s t) : RulesAt t a := by
  unfold RulesAt
  rw [e.A (k := 514) (by decide) (by decide), e.T]
  exact h
theorem Rl.eqx {s t : Sg} {a : Nat} {L : Lw} (h : Rl s a L) (e : EqX s t) {c u : Nat} (x : Ext c u s.b t.b) : Rl t a L := ⟨h.1.eqx e, h.2.1.ext x, h.2.2⟩
theorem Rl.set {s : Sg} {a k : Nat} {L : Lw} {f : Nat → Int32} (h : Rl s a L) (hk : 514 ≠ k) : Rl (s.setA k f) a L := by
  refine ⟨?_, h.2.1, h.2.2⟩
  unfold RulesAt
  rw [setA_ne hk]
  exact h.1
theorem Rl.keep {s : Sg} {a c : Nat} {L : Lw} (h : Rl s a L) (hc : c ≤ 30) : Rl (keepS s c) a L := by
  refine ⟨?_, by rw [keepS_b]; exact h.2.1, h.2.2⟩
  unfold RulesAt
  rw [keepS_514 hc (by decide), keepS_T]
  exact h.1
theorem r_X0_rules_0 {s : Sg} (h : s.A 514 2 = -1) : Run 1 mX0_rules [.ref 512] (hp s) (.inl (some (.ref 0))) (hp s) := by
  refine Run.of rfl (Nat.le_of_ble_eq_true rfl) rfl ?_
  refine AW.aload_n dX0_rules_0 rfl rfl ?_
  refine AW.get ci0 0 (by decide) q229 dX0_rules_1 gX rfl rfl ?_
  refine AW.getN ci1 0 (by decide) q191 dX0_rules_4 gN rfl rfl ?_
  refine AW.iconst (v := 2) dX0_rules_7 (by decide) rfl ?_
  refine AW.iald dX0_rules_8 g514 (vp_in_iff.mpr (by decide)) (j := 2) (by decide) rfl ?_
  refine AW.iconst (v := (-1)) dX0_rules_9 (by decide) rfl ?_
  refine AW.icmp_ne (tgt := 19) dX0_rules_10 (by decide) rfl (fun c_ => by first | exact absurd c_ h | exact absurd h c_ | exact Bool.noConfusion (c_.symm.trans h)) (fun _ => ?_)
  refine AW.gets (q := zL.get ⟨0, by decide⟩) (List.get_mem _ _) dX0_rules_13 q858 rfl ?_
  refine AW.goto (tgt := 36) dX0_rules_16 (by decide) ?_
  exact AW.aretE dX0_rules_36 rfl (Or.inl ⟨_, rfl⟩) (Or.inr ⟨_, rfl⟩) rfl rfl rfl
theorem nI_nm1 {k : Nat} (h : k < 2147483648) : ¬ nI k = -1 := fun q => by
  have := congrArg Int32.toInt q
  rw [nI_t h, tm1] at this
  omega
theorem r_X0_rules_t {s : Sg} {a : Nat} (t : Nat) (ht : t < 4) (h2 : s.A 514 2 = nI t) (hT : s.T (2 * t) = .ref a) : Run 1 mX0_rules [.ref 512] (hp s) (.inl (some (.ref a))) (hp s) := by
  have h : ¬ s.A 514 2 = -1 := by rw [h2]; exact nI_nm1 (by omega)
  refine Run.of rfl (Nat.le_of_ble_eq_true rfl) rfl ?_
  refine AW.aload_n dX0_rules_0 rfl rfl ?_
  refine AW.get ci0 0 (by decide) q229 dX0_rules_1 gX rfl rfl ?_
  refine AW.getN ci1 0 (by decide) q191 dX0_rules_4 gN rfl rfl ?_
  refine AW.iconst (v := 2) dX0_rules_7 (by decide) rfl ?_
  refine AW.iald dX0_rules_8 g514 (vp_in_iff.mpr (by decide)) (j := 2) (by decide) rfl ?_
  refine AW.iconst (v := (-1)) dX0_rules_9 (by decide) rfl ?_
  refine AW.icmp_ne (tgt := 19) dX0_rules_10 (by decide) rfl (fun _ => ?_) (fun c_ => by first | exact absurd c_ h | exact absurd h c_ | exact absurd c_ (not_not_intro h) | exact Bool.noConfusion (c_.symm.trans h))
  refine AW.aload_n dX0_rules_19 rfl rfl ?_
  refine AW.get ci0 0 (by decide) q229 dX0_rules_20 gX rfl rfl ?_
  refine AW.getN ci1 5 (by decide) q201 dX0_rules_23 gN rfl rfl ?_
  refine AW.aload_n dX0_rules_26 rfl rfl ?_
  refine AW.get ci0 0 (by decide) q229 dX0_rules_27 gX rfl rfl ?_
  refine AW.getN ci1 0 (by decide) q191 dX0_rules_30 gN rfl rfl ?_
  refine AW.iconst (v := 2) dX0_rules_33 (by decide) rfl ?_
  refine AW.iald dX0_rules_34 g514 (vp_in_iff.mpr (by decide)) (j := 2) (by decide) rfl ?_
  refine AW.aald dX0_rules_35 g565 rfl rfl (by rw [h2]; exact vp_in_nI (by omega) (by omega)) (j := t) (by rw [h2]; exact cI_nI (by omega)) rfl ?_
  exact AW.aretE dX0_rules_36 rfl (Or.inl ⟨_, rfl⟩) (Or.inr ⟨_, hT⟩) rfl hT rfl
theorem r_X0_rules {s : Sg} {a : Nat} (h : RulesAt s a) : Run 1 mX0_rules [.ref 512] (hp s) (.inl (some (.ref a))) (hp s) := by
  rcases h with ⟨h1, rfl⟩ | ⟨t, h1, h2, h3⟩
  · exact r_X0_rules_0 h1
  · exact r_X0_rules_t t h1 h2 h3
/-- days to come, on the row that is tried -/
def goesS (L : Lw) (n r : Nat → Int32) : Nat → (Nat → Int32) := fun k => iter (fun b => if b 0 < 9999 then passS L n b else b) k r
theorem goesS_s {L : Lw} {n r : Nat → Int32} {k : Nat} (h : goesS L n r k 0 < 9999) : goesS L n r (k + 1) = passS L n (goesS L n r k) := if_pos h
theorem goesS_n {L : Lw} {n r : Nat → Int32} {k : Nat} (h : ¬ goesS L n r k 0 < 9999) : goesS L n r (k + 1) = goesS L n r k := if_neg h
theorem goesS_fix {L : Lw} {n r : Nat → Int32} {k : Nat} (h : ¬ goesS L n r k 0 < 9999) : ∀ m, goesS L n r (k + m) = goesS L n r k
  | 0 => rfl
  | m + 1 => by
    have e := goesS_fix h m
    exact (goesS_n (k := k + m) (by rw [e]; exact h)).trans e
theorem goesS_end {L : Lw} {n r : Nat → Int32} {k m : Nat} (h : ¬ goesS L n r k 0 < 9999) (hk : k ≤ m) : goesS L n r m = goesS L n r k := by
  have e := goesS_fix h (m - k)
  rwa [show k + (m - k) = m by omega] at e
def aheadS (s : Sg) (L : Lw) (m : Nat) : Nat → Int32 := goesS L (s.A 514) (mv0 (s.A 621) (s.A 515) 145) m
theorem r_X0_goes {s : Sg} (hn : (vwS (s.A 514) (s.A 515)).ok) {a : Nat} {L : Lw} (hL : LawT s.b a L) (hX : extL L) (n : Nat) (hn2 : n < 2147483648) : RX (QT s (aheadS s L n)) 64 mX0_goes [.ref 512, .ref a, .int (nI n)] (hp s) none := by
  refine RX.of rfl (Nat.le_of_ble_eq_true rfl) rfl ?_
  refine AX.map (fun _ k_ => AW.aload_n dX0_goes_0 rfl rfl k_) ?_
  refine AX.map (fun _ k_ => AW.get ci0 0 (by decide) q229 dX0_goes_1 gX rfl rfl k_) ?_
  refine AX.map (fun _ k_ => AW.getN ci1 1 (by decide) q193 dX0_goes_4 gN rfl rfl k_) ?_
  refine AX.map (fun _ k_ => AW.aload_n dX0_goes_7 rfl rfl k_) ?_
  refine AX.map (fun _ k_ => AW.get ci0 7 (by decide) q236 dX0_goes_8 gX rfl rfl k_) ?_
  refine AX.map (fun _ k_ => AW.callSN (Y := mX1_copy) (n := 2) (r_X1_copy g515 (by decide) g621 (Nat.le_refl _) (by decide) s621) (by decide) (by decide) q1124 q221 q139 q222 dX0_goes_11 (by decide +kernel) rfl rfl (Nat.le_of_ble_eq_true rfl) rfl k_) ?_
  refine AX.map (fun _ k_ => AW.iconst (v := 0) dX0_goes_14 (by decide) rfl k_) ?_
  refine AX.map (fun _ k_ => AW.istore_n (i := 3) dX0_goes_15 rfl rfl (Nat.le_of_ble_eq_true rfl) rfl rfl k_) ?_
  refine loopUp (P := fun k => ∀ t : Sg, EqX s t → t.b = s.b → t.A 621 = aheadS s L k → AX (QT s (aheadS s L n)) 64 mX0_goes (hp t) 16 [some (.ref 512), some (.ref a), some (.int (nI n)), some (.int (nI k))] [] (.inl none)) n ?_ ?_ 0 (by first | exact Nat.zero_le _ | omega) (s.setA 621 (mv0 (s.A 621) (s.A 515) 145)) EqX.st rfl setA_at
  · intro t et bt rt
    refine AX.map (fun _ k_ => AW.iload_n dX0_goes_16 rfl rfl k_) ?_
    refine AX.map (fun _ k_ => AW.iload_n dX0_goes_17 rfl rfl k_) ?_
    refine AX.map (fun _ k_ => AW.icmp_ge (tgt := 48) dX0_goes_18 (by decide) rfl (fun _ => k_) (fun c_ => by first | exact absurd c_ (Int32.le_refl _) | exact absurd (Int32.le_refl _) c_ | exact absurd c_ (not_not_intro (Int32.le_refl _)) | exact Bool.noConfusion (c_.symm.trans (Int32.le_refl _)))) ?_
    exact ⟨_, ⟨t, et, bt, rt, rfl⟩, AW.vretE dX0_goes_48 rfl rfl rfl⟩
  · intro k hk ihk
    intro t et bt rt
    refine AX.map (fun _ k_ => AW.iload_n dX0_goes_16 rfl rfl k_) ?_
    refine AX.map (fun _ k_ => AW.iload_n dX0_goes_17 rfl rfl k_) ?_
    refine AX.map (fun _ k_ => AW.icmp_ge (tgt := 48) dX0_goes_18 (by decide) rfl (fun c_ => by first | exact absurd c_ (loop_in hk hn2 rfl) | exact absurd (loop_in hk hn2 rfl) c_ | exact Bool.noConfusion (c_.symm.trans (loop_in hk hn2 rfl))) (fun _ => k_)) ?_
    refine AX.map (fun _ k_ => AW.aload_n dX0_goes_21 rfl rfl k_) ?_
    refine AX.map (fun _ k_ => AW.get ci0 7 (by decide) q236 dX0_goes_22 gX rfl rfl k_) ?_
    refine AX.map (fun _ k_ => AW.iconst (v := 0) dX0_goes_25 (by decide) rfl k_) ?_
    refine AX.map (fun _ k_ => AW.iald dX0_goes_26 g621 (vp_in_iff.mpr (by decide)) (j := 0) (by decide) rfl k_) ?_
    refine AX.map (fun _ k_ => AW.sipush (v := 9999) dX0_goes_27 (by decide) rfl k_) ?_
    refine AX.brN (fun _ kt_ kf_ => AW.icmp_ge (tgt := 48) dX0_goes_30 (by decide) rfl kt_ kf_) (fun c30 => ?_) (fun c30 => ?_)
    · exact ⟨_, ⟨t, et, bt, rt.trans (goesS_end (m := n) (by have c31 : (9999 : Int32) ≤ t.A 621 0 := c30; rw [rt] at c31; exact Int32.not_lt.mpr c31) (Nat.le_of_lt hk)).symm, rfl⟩, AW.vretE dX0_goes_48 rfl rfl rfl⟩
    · refine AX.map (fun _ k_ => AW.aload_n dX0_goes_33 rfl rfl k_) ?_
      refine AX.map (fun _ k_ => AW.aload_n dX0_goes_34 rfl rfl k_) ?_
      refine AX.map (fun _ k_ => AW.aload_n dX0_goes_35 rfl rfl k_) ?_
      refine AX.map (fun _ k_ => AW.get ci0 7 (by decide) q236 dX0_goes_36 gX rfl rfl k_) ?_
      obtain ⟨_, ⟨t2, et2, bt2, rt2, rfl⟩, hr⟩ := q_passes_t (s := t) (ok_e et hn) (by rw [bt]; exact hL) hX
      refine AX.map (fun _ k_ => AW.callV (Y := mX0_passes) (n := 2) (hr) (by decide) (by decide) rfl gX q860 q862 qs25 q138 q863 dX0_goes_39 (by decide +kernel) rfl rfl (Nat.le_of_ble_eq_true rfl) rfl k_) ?_
      refine AX.map (fun _ k_ => AW.iinc (v := 1) dX0_goes_42 rfl (by decide) rfl rfl rfl k_) ?_
      refine AX.map (fun _ k_ => AW.goto (tgt := 16) dX0_goes_45 (by decide) k_) ?_
      have c31 : t.A 621 0 < 9999 := Int32.not_le.mp c30
      rw [rt] at c31
      rw [et.A (by decide) (by decide), rt] at rt2
      exact AX.lsE (by rw [nI_succ]; rfl) (ihk t2 (et.trans et2) (bt2.trans bt) (rt2.trans (goesS_s c31).symm))
theorem q_goes {s : Sg} (hn : (vwS (s.A 514) (s.A 515)).ok) {a : Nat} {L : Lw} (hL : LawT s.b a L) (hX : extL L) (n : Int32) (h0 : 0 ≤ n.toInt) : RX (QT s (aheadS s L (cI n))) 64 mX0_goes [.ref 512, .ref a, .int n] (hp s) none := by
  have q := r_X0_goes hn hL hX (cI n) (cI_lt n)
  rwa [nI_cI h0] at q
theorem r_X0_foretold_f {s : Sg} (n h : Int32) (hc : (inI n 1 60 && (vwS (s.A 514) (s.A 515)).hou h) = false) : Run 3 mX0_foretold [.ref 512, .int n, .int h] (hp s) (.inl (some (.int (-1)))) (hp s) := by
  refine Run.of rfl (Nat.le_of_ble_eq_true rfl) rfl ?_
  refine AW.iload_n dX0_foretold_0 rfl rfl ?_
  refine AW.iconst (v := 1) dX0_foretold_1 (by decide) rfl ?_
  refine AW.bipush (v := 60) dX0_foretold_2 (by decide) rfl ?_
  refine AW.callS (Y := mX0_in) (n := 3) (r_X0_in _ _ _) (by decide) (by decide) q271 q272 q138 q273 dX0_foretold_4 (by decide +kernel) rfl rfl (Nat.le_of_ble_eq_true rfl) rfl ?_
  refine AW.if_eqB (tgt := 18) dX0_foretold_7 (by decide) rfl (fun c7 => ?_) (fun c7 => ?_)
  · refine AW.iconst (v := (-1)) dX0_foretold_18 (by decide) rfl ?_
    exact AW.iretE dX0_foretold_19 rfl rfl rfl rfl
  · refine AW.aload_n dX0_foretold_10 rfl rfl ?_
    refine AW.iload_n dX0_foretold_11 rfl rfl ?_
    refine AW.callV (Y := mX0_isHouse) (n := 1) (r_X0_isHouse (r := s.A 515) _) (by decide) (by decide) rfl gX q895 q897 qs30 q138 q898 dX0_foretold_12 (by decide +kernel) rfl rfl (Nat.le_of_ble_eq_true rfl) rfl ?_
    refine AW.if_neB (tgt := 20) dX0_foretold_15 (by decide) rfl (fun c15 => ?_) (fun c15 => ?_)
    · exact absurd hc (by rw [c7, c15]; decide)
    · refine AW.iconst (v := (-1)) dX0_foretold_18 (by decide) rfl ?_
      exact AW.iretE dX0_foretold_19 rfl rfl rfl rfl
theorem r_X0_foretold_t {s : Sg} (hn : (vwS (s.A 514) (s.A 515)).ok) {a : Nat} {L : Lw} (hR : Rl s a L) (n h : Int32) (h0 : 0 ≤ n.toInt) (hc : (inI n 1 60 && (vwS (s.A 514) (s.A 515)).hou h) = true) : RX (QX s 0 0) 65 mX0_foretold [.ref 512, .int n, .int h] (hp s) (some (.int ((vwS (s.A 514) (aheadS s L (cI n))).pu h))) := by
  have hc2 := Bool.and_eq_true_iff.mp hc
  have hh2 : (vwS (s.A 514) (aheadS s L (cI n))).hou h = true := hou_n hc2.2
  refine RX.of rfl (Nat.le_of_ble_eq_true rfl) rfl ?_
  refine AX.map (fun _ k_ => AW.iload_n dX0_foretold_0 rfl rfl k_) ?_
  refine AX.map (fun _ k_ => AW.iconst (v := 1) dX0_foretold_1 (by decide) rfl k_) ?_
  refine AX.map (fun _ k_ => AW.bipush (v := 60) dX0_foretold_2 (by decide) rfl k_) ?_
  refine AX.map (fun _ k_ => AW.callS (Y := mX0_in) (n := 3) (r_X0_in _ _ _) (by decide) (by decide) q271 q272 q138 q273 dX0_foretold_4 (by decide +kernel) rfl rfl (Nat.le_of_ble_eq_true rfl) rfl k_) ?_
  refine AX.map (fun _ k_ => AW.if_eqB (tgt := 18) dX0_foretold_7 (by decide) rfl (fun c_ => by first | exact absurd c_ hc2.1 | exact absurd hc2.1 c_ | exact Bool.noConfusion (c_.symm.trans hc2.1)) (fun _ => k_)) ?_
  refine AX.map (fun _ k_ => AW.aload_n dX0_foretold_10 rfl rfl k_) ?_
  refine AX.map (fun _ k_ => AW.iload_n dX0_foretold_11 rfl rfl k_) ?_
  refine AX.map (fun _ k_ => AW.callV (Y := mX0_isHouse) (n := 1) (r_X0_isHouse (r := s.A 515) _) (by decide) (by decide) rfl gX q895 q897 qs30 q138 q898 dX0_foretold_12 (by decide +kernel) rfl rfl (Nat.le_of_ble_eq_true rfl) rfl k_) ?_
  refine AX.map (fun _ k_ => AW.if_neB (tgt := 20) dX0_foretold_15 (by decide) rfl (fun _ => k_) (fun c_ => by first | exact absurd c_ hc2.2 | exact absurd hc2.2 c_ | exact absurd c_ (not_not_intro hc2.2) | exact Bool.noConfusion (c_.symm.trans hc2.2))) ?_
  refine AX.map (fun _ k_ => AW.aload_n dX0_foretold_20 rfl rfl k_) ?_
  refine AX.map (fun _ k_ => AW.aload_n dX0_foretold_21 rfl rfl k_) ?_
  refine AX.map (fun _ k_ => AW.callV (Y := mX0_rules) (n := 0) (r_X0_rules hR.1) (by decide) (by decide) rfl gX q854 q856 qs24 q138 q857 dX0_foretold_22 (by decide +kernel) rfl rfl (Nat.le_of_ble_eq_true rfl) rfl k_) ?_
  refine AX.map (fun _ k_ => AW.iload_n dX0_foretold_25 rfl rfl k_) ?_
  obtain ⟨_, ⟨t, et, bt, rt, rfl⟩, hr⟩ := q_goes hn hR.2.1 hR.2.2 n h0
  refine AX.map (fun _ k_ => AW.callV (Y := mX0_goes) (n := 2) (hr) (by decide) (by decide) rfl gX q1141 q1143 qs45 q138 q1144 dX0_foretold_26 (by decide +kernel) rfl rfl (Nat.le_of_ble_eq_true rfl) rfl k_) ?_
  refine AX.map (fun _ k_ => AW.aload_n dX0_foretold_29 rfl rfl k_) ?_
  refine AX.map (fun _ k_ => AW.get ci0 7 (by decide) q236 dX0_foretold_30 gX rfl rfl k_) ?_
  refine AX.map (fun _ k_ => AW.bipush (v := 10) dX0_foretold_33 (by decide) rfl k_) ?_
  refine AX.map (fun _ k_ => AW.iload_n dX0_foretold_35 rfl rfl k_) ?_
  refine AX.map (fun _ k_ => AW.iadd dX0_foretold_36 rfl k_) ?_
  refine AX.map (fun _ k_ => AW.iald dX0_foretold_37 g621 (in_row (v := (vwS (s.A 514) (aheadS s L (cI n)))) (ok_n hn) hh2 (by decide) (by decide)) rfl rfl k_) ?_
  exact ⟨_, ⟨t, et, by rw [bt]; exact Ext.refl _, rfl⟩, AW.iretE dX0_foretold_38 rfl rfl (by rw [vwS_pu hh2, ← rt]) rfl⟩
def poor2 (v w : Vw) : Nat → Int32
  | 0 => -1
  | k + 1 => if v.her (nI k) && (decide (poor2 v w k = -1) || decide (w.pu (nI k) < w.pu (poor2 v w k))) then nI k else poor2 v w k
theorem poor2_hou {v w : Vw} (hn : v.ok) : ∀ k, k ≤ v.n → poor2 v w k = -1 ∨ v.hou (poor2 v w k) = true
  | 0, _ => Or.inl rfl
  | k + 1, h => by
    have e : poor2 v w (k + 1) = if v.her (nI k) && (decide (poor2 v w k = -1) || decide (w.pu (nI k) < w.pu (poor2 v w k))) then nI k else poor2 v w k := rfl
    rw [e]
    split
    · exact Or.inr (Vw.hou_k hn (by omega))
    · exact poor2_hou hn k (by omega)
def sumPu2 (v w : Vw) : Nat → Int32 := sumUp (fun k => if v.her (nI k) then w.pu (nI k) else 0)
theorem q_isThere {s t : Sg} (e : EqX s t) (h : Int32) : Run 3 mX0_isThere [.ref 512, .int h] (hp t) (.inl (some (.int (b2i ((vwS (s.A 514) (s.A 515)).her h))))) (hp t) := by
  have q := r_X0_isThere (s := t) h
  rwa [e.A (by decide) (by decide), e.A (by decide) (by decide)] at q
theorem g621e {t : Sg} {r : Nat → Int32} (h : t.A 621 = r) : (hp t).g 621 = some (ia 145 r) := h ▸ g621
theorem g514e {s t : Sg} (e : EqX s t) : (hp t).g 514 = some (ia 6 (s.A 514)) := (e.A (k := 514) (by decide) (by decide)) ▸ g514
theorem g515e {s t : Sg} (e : EqX s t) : (hp t).g 515 = some (ia 145 (s.A 515)) := (e.A (k := 515) (by decide) (by decide)) ▸ g515
theorem r_X0_poorest_f {s : Sg} (n : Int32) (hc : inI n 1 60 = false) : Run 2 mX0_poorest [.ref 512, .int n] (hp s) (.inl (some (.int (-1)))) (hp s) := by
  refine Run.of rfl (Nat.le_of_ble_eq_true rfl) rfl ?_
  refine AW.iload_n dX0_poorest_0 rfl rfl ?_
  refine AW.iconst (v := 1) dX0_poorest_1 (by decide) rfl ?_
  refine AW.bipush (v := 60) dX0_poorest_2 (by decide) rfl ?_
  refine AW.callS (Y := mX0_in) (n := 3) (r_X0_in _ _ _) (by decide) (by decide) q271 q272 q138 q273 dX0_poorest_4 (by decide +kernel) rfl rfl (Nat.le_of_ble_eq_true rfl) rfl ?_
  refine AW.if_neB (tgt := 12) dX0_poorest_7 (by decide) rfl (fun c_ => by first | exact absurd c_ hc | exact absurd hc c_ | exact Bool.noConfusion (c_.symm.trans hc)) (fun _ => ?_)
  refine AW.iconst (v := (-1)) dX0_poorest_10 (by decide) rfl ?_
  exact AW.iretE dX0_poorest_11 rfl rfl rfl rfl
theorem r_X0_poorest_t {s : Sg} (hn : (vwS (s.A 514) (s.A 515)).ok) {a : Nat} {L : Lw} (hR : Rl s a L) (n : Int32) (h0 : 0 ≤ n.toInt) (hc : inI n 1 60 = true) : RX (QX s 0 0) 65 mX0_poorest [.ref 512, .int n] (hp s) (some (.int (poor2 (vwS (s.A 514) (s.A 515)) (vwS (s.A 514) (aheadS s L (cI n))) (vwS (s.A 514) (s.A 515)).n))) := by
  refine RX.of rfl (Nat.le_of_ble_eq_true rfl) rfl ?_
  refine AX.map (fun _ k_ => AW.iload_n dX0_poorest_0 rfl rfl k_) ?_
  refine AX.map (fun _ k_ => AW.iconst (v := 1) dX0_poorest_1 (by decide) rfl k_) ?_
  refine AX.map (fun _ k_ => AW.bipush (v := 60) dX0_poorest_2 (by decide) rfl k_) ?_
  refine AX.map (fun _ k_ => AW.callS (Y := mX0_in) (n := 3) (r_X0_in _ _ _) (by decide) (by decide) q271 q272 q138 q273 dX0_poorest_4 (by decide +kernel) rfl rfl (Nat.le_of_ble_eq_true rfl) rfl k_) ?_
  refine AX.map (fun _ k_ => AW.if_neB (tgt := 12) dX0_poorest_7 (by decide) rfl (fun _ => k_) (fun c_ => by first | exact absurd c_ hc | exact absurd hc c_ | exact absurd c_ (not_not_intro hc) | exact Bool.noConfusion (c_.symm.trans hc))) ?_
  refine AX.map (fun _ k_ => AW.aload_n dX0_poorest_12 rfl rfl k_) ?_
  refine AX.map (fun _ k_ => AW.aload_n dX0_poorest_13 rfl rfl k_) ?_
  refine AX.map (fun _ k_ => AW.callV (Y := mX0_rules) (n := 0) (r_X0_rules hR.1) (by decide) (by decide) rfl gX q854 q856 qs24 q138 q857 dX0_poorest_14 (by decide +kernel) rfl rfl (Nat.le_of_ble_eq_true rfl) rfl k_) ?_
  refine AX.map (fun _ k_ => AW.iload_n dX0_poorest_17 rfl rfl k_) ?_
  obtain ⟨_, ⟨t, et, bt, rt, rfl⟩, hr⟩ := q_goes hn hR.2.1 hR.2.2 n h0
  refine AX.map (fun _ k_ => AW.callV (Y := mX0_goes) (n := 2) (hr) (by decide) (by decide) rfl gX q1141 q1143 qs45 q138 q1144 dX0_poorest_18 (by decide +kernel) rfl rfl (Nat.le_of_ble_eq_true rfl) rfl k_) ?_
  refine AX.map (fun _ k_ => AW.iconst (v := (-1)) dX0_poorest_21 (by decide) rfl k_) ?_
  refine AX.map (fun _ k_ => AW.istore_n (i := 2) dX0_poorest_22 rfl rfl (Nat.le_of_ble_eq_true rfl) rfl rfl k_) ?_
  refine AX.map (fun _ k_ => AW.iconst (v := 0) dX0_poorest_23 (by decide) rfl k_) ?_
  refine AX.map (fun _ k_ => AW.istore_n (i := 3) dX0_poorest_24 rfl rfl (Nat.le_of_ble_eq_true rfl) rfl rfl k_) ?_
  refine loopUp (P := fun k => AX (QX s 0 0) 65 mX0_poorest (hp t) 25 [some (.ref 512), some (.int (n)), some (.int (poor2 (vwS (s.A 514) (s.A 515)) (vwS (s.A 514) (aheadS s L (cI n))) k)), some (.int (nI k))] [] (.inl (some (.int (poor2 (vwS (s.A 514) (s.A 515)) (vwS (s.A 514) (aheadS s L (cI n))) (vwS (s.A 514) (s.A 515)).n))))) (vwS (s.A 514) (s.A 515)).n ?_ ?_ 0 (by first | exact Nat.zero_le _ | omega)
  · refine AX.map (fun _ k_ => AW.iload_n dX0_poorest_25 rfl rfl k_) ?_
    refine AX.map (fun _ k_ => AW.aload_n dX0_poorest_26 rfl rfl k_) ?_
    refine AX.map (fun _ k_ => AW.get ci0 0 (by decide) q229 dX0_poorest_27 gX rfl rfl k_) ?_
    refine AX.map (fun _ k_ => AW.getN ci1 0 (by decide) q191 dX0_poorest_30 gN rfl rfl k_) ?_
    refine AX.map (fun _ k_ => AW.iconst (v := 0) dX0_poorest_33 (by decide) rfl k_) ?_
    refine AX.map (fun _ k_ => AW.iald dX0_poorest_34 (g514e et) (vp_in_iff.mpr (by decide)) (j := 0) (by decide) rfl k_) ?_
    refine AX.map (fun _ k_ => AW.icmp_ge (tgt := 80) dX0_poorest_35 (by decide) rfl (fun _ => k_) (fun c_ => by first | exact absurd c_ (loop_end (by have := Vw.n7 hn; omega) (Vw.nN hn)) | exact absurd (loop_end (by have := Vw.n7 hn; omega) (Vw.nN hn)) c_ | exact absurd c_ (not_not_intro (loop_end (by have := Vw.n7 hn; omega) (Vw.nN hn))) | exact Bool.noConfusion (c_.symm.trans (loop_end (by have := Vw.n7 hn; omega) (Vw.nN hn))))) ?_
    refine AX.map (fun _ k_ => AW.iload_n dX0_poorest_80 rfl rfl k_) ?_
    exact ⟨_, ⟨t, et, by rw [bt]; exact Ext.refl _, rfl⟩, AW.iretE dX0_poorest_81 rfl rfl rfl rfl⟩
  · intro k hk ihk
    refine AX.map (fun _ k_ => AW.iload_n dX0_poorest_25 rfl rfl k_) ?_
    refine AX.map (fun _ k_ => AW.aload_n dX0_poorest_26 rfl rfl k_) ?_
    refine AX.map (fun _ k_ => AW.get ci0 0 (by decide) q229 dX0_poorest_27 gX rfl rfl k_) ?_
    refine AX.map (fun _ k_ => AW.getN ci1 0 (by decide) q191 dX0_poorest_30 gN rfl rfl k_) ?_
    refine AX.map (fun _ k_ => AW.iconst (v := 0) dX0_poorest_33 (by decide) rfl k_) ?_
    refine AX.map (fun _ k_ => AW.iald dX0_poorest_34 (g514e et) (vp_in_iff.mpr (by decide)) (j := 0) (by decide) rfl k_) ?_
    refine AX.map (fun _ k_ => AW.icmp_ge (tgt := 80) dX0_poorest_35 (by decide) rfl (fun c_ => by first | exact absurd c_ (loop_in hk (by have := Vw.n7 hn; omega) (Vw.nN hn)) | exact absurd (loop_in hk (by have := Vw.n7 hn; omega) (Vw.nN hn)) c_ | exact Bool.noConfusion (c_.symm.trans (loop_in hk (by have := Vw.n7 hn; omega) (Vw.nN hn)))) (fun _ => k_)) ?_
    refine AX.map (fun _ k_ => AW.aload_n dX0_poorest_38 rfl rfl k_) ?_
    refine AX.map (fun _ k_ => AW.iload_n dX0_poorest_39 rfl rfl k_) ?_
    refine AX.map (fun _ k_ => AW.callV (Y := mX0_isThere) (n := 1) (q_isThere et _) (by decide) (by decide) rfl gX q980 q982 qs33 q138 q983 dX0_poorest_40 (by decide +kernel) rfl rfl (Nat.le_of_ble_eq_true rfl) rfl k_) ?_
    refine AX.brF (fun _ kt_ kf_ => AW.if_eqB (tgt := 74) dX0_poorest_43 (by decide) rfl kt_ kf_) (fun c43 => ?_) (fun c43 => ?_)
    · refine AX.map (fun _ k_ => AW.iinc (v := 1) dX0_poorest_74 rfl (by decide) rfl rfl rfl k_) ?_
      refine AX.map (fun _ k_ => AW.goto (tgt := 25) dX0_poorest_77 (by decide) k_) ?_
      have es : poor2 (vwS (s.A 514) (s.A 515)) (vwS (s.A 514) (aheadS s L (cI n))) (k + 1) = if (vwS (s.A 514) (s.A 515)).her (nI k) && (decide (poor2 (vwS (s.A 514) (s.A 515)) (vwS (s.A 514) (aheadS s L (cI n))) k = -1) || decide ((vwS (s.A 514) (aheadS s L (cI n))).pu (nI k) < (vwS (s.A 514) (aheadS s L (cI n))).pu (poor2 (vwS (s.A 514) (s.A 515)) (vwS (s.A 514) (aheadS s L (cI n))) k))) then nI k else poor2 (vwS (s.A 514) (s.A 515)) (vwS (s.A 514) (aheadS s L (cI n))) k := rfl
      rw [c43] at es
      rw [if_neg (by simp)] at es
      exact AX.lsE (by rw [nI_succ k, es]; rfl) ihk
    · refine AX.map (fun _ k_ => AW.iload_n dX0_poorest_46 rfl rfl k_) ?_
      refine AX.map (fun _ k_ => AW.iconst (v := (-1)) dX0_poorest_47 (by decide) rfl k_) ?_
      refine AX.brN (fun _ kt_ kf_ => AW.icmp_eq (tgt := 72) dX0_poorest_48 (by decide) rfl kt_ kf_) (fun c48 => ?_) (fun c48 => ?_)
      · refine AX.map (fun _ k_ => AW.iload_n dX0_poorest_72 rfl rfl k_) ?_
        refine AX.map (fun _ k_ => AW.istore_n (i := 2) dX0_poorest_73 rfl rfl (Nat.le_of_ble_eq_true rfl) rfl rfl k_) ?_
        refine AX.map (fun _ k_ => AW.iinc (v := 1) dX0_poorest_74 rfl (by decide) rfl rfl rfl k_) ?_
        refine AX.map (fun _ k_ => AW.goto (tgt := 25) dX0_poorest_77 (by decide) k_) ?_
        have es : poor2 (vwS (s.A 514) (s.A 515)) (vwS (s.A 514) (aheadS s L (cI n))) (k + 1) = if (vwS (s.A 514) (s.A 515)).her (nI k) && (decide (poor2 (vwS (s.A 514) (s.A 515)) (vwS (s.A 514) (aheadS s L (cI n))) k = -1) || decide ((vwS (s.A 514) (aheadS s L (cI n))).pu (nI k) < (vwS (s.A 514) (aheadS s L (cI n))).pu (poor2 (vwS (s.A 514) (s.A 515)) (vwS (s.A 514) (aheadS s L (cI n))) k))) then nI k else poor2 (vwS (s.A 514) (s.A 515)) (vwS (s.A 514) (aheadS s L (cI n))) k := rfl
        rw [if_pos (by rw [show _ = true from c43, decide_eq_true (by exact c48)]; rfl)] at es
        exact AX.lsE (by rw [nI_succ k, es]; rfl) ihk
      · refine AX.map (fun _ k_ => AW.aload_n dX0_poorest_51 rfl rfl k_) ?_
        refine AX.map (fun _ k_ => AW.get ci0 7 (by decide) q236 dX0_poorest_52 gX rfl rfl k_) ?_
        refine AX.map (fun _ k_ => AW.bipush (v := 10) dX0_poorest_55 (by decide) rfl k_) ?_
        refine AX.map (fun _ k_ => AW.iload_n dX0_poorest_57 rfl rfl k_) ?_
        refine AX.map (fun _ k_ => AW.iadd dX0_poorest_58 rfl k_) ?_
        refine AX.map (fun _ k_ => AW.iald dX0_poorest_59 (g621e rt) (in_row (v := (vwS (s.A 514) (aheadS s L (cI n)))) (ok_n hn) (hou_n (Vw.hou_k (v := (vwS (s.A 514) (s.A 515))) hn hk)) (by decide) (by decide)) rfl rfl k_) ?_
        refine AX.map (fun _ k_ => AW.aload_n dX0_poorest_60 rfl rfl k_) ?_
        refine AX.map (fun _ k_ => AW.get ci0 7 (by decide) q236 dX0_poorest_61 gX rfl rfl k_) ?_
        refine AX.map (fun _ k_ => AW.bipush (v := 10) dX0_poorest_64 (by decide) rfl k_) ?_
        refine AX.map (fun _ k_ => AW.iload_n dX0_poorest_66 rfl rfl k_) ?_
        refine AX.map (fun _ k_ => AW.iadd dX0_poorest_67 rfl k_) ?_
        refine AX.map (fun _ k_ => AW.iald dX0_poorest_68 (g621e rt) (in_row (v := (vwS (s.A 514) (aheadS s L (cI n)))) (ok_n hn) (hou_n ((poor2_hou (w := (vwS (s.A 514) (aheadS s L (cI n)))) hn k (Nat.le_of_lt hk)).resolve_left c48)) (by decide) (by decide)) rfl rfl k_) ?_
        refine AX.brN (fun _ kt_ kf_ => AW.icmp_ge (tgt := 74) dX0_poorest_69 (by decide) rfl kt_ kf_) (fun c69 => ?_) (fun c69 => ?_)
        · refine AX.map (fun _ k_ => AW.iinc (v := 1) dX0_poorest_74 rfl (by decide) rfl rfl rfl k_) ?_
          refine AX.map (fun _ k_ => AW.goto (tgt := 25) dX0_poorest_77 (by decide) k_) ?_
          have es : poor2 (vwS (s.A 514) (s.A 515)) (vwS (s.A 514) (aheadS s L (cI n))) (k + 1) = if (vwS (s.A 514) (s.A 515)).her (nI k) && (decide (poor2 (vwS (s.A 514) (s.A 515)) (vwS (s.A 514) (aheadS s L (cI n))) k = -1) || decide ((vwS (s.A 514) (aheadS s L (cI n))).pu (nI k) < (vwS (s.A 514) (aheadS s L (cI n))).pu (poor2 (vwS (s.A 514) (s.A 515)) (vwS (s.A 514) (aheadS s L (cI n))) k))) then nI k else poor2 (vwS (s.A 514) (s.A 515)) (vwS (s.A 514) (aheadS s L (cI n))) k := rfl
          have q1 := vwS_pu (n := s.A 514) (r := aheadS s L (cI n)) (hou_n (Vw.hou_k (v := (vwS (s.A 514) (s.A 515))) hn hk) : (vwS (s.A 514) (aheadS s L (cI n))).hou (nI k) = true)
          have q2 := vwS_pu (n := s.A 514) (r := aheadS s L (cI n)) (hou_n ((poor2_hou (w := (vwS (s.A 514) (aheadS s L (cI n)))) hn k (Nat.le_of_lt hk)).resolve_left c48) : (vwS (s.A 514) (aheadS s L (cI n))).hou (poor2 (vwS (s.A 514) (s.A 515)) (vwS (s.A 514) (aheadS s L (cI n))) k) = true)
          rw [← q1, ← q2] at c69
          rw [if_neg (by rw [decide_eq_false c48, decide_eq_false (Int32.not_lt.mpr c69)]; simp)] at es
          exact AX.lsE (by rw [nI_succ k, es]; rfl) ihk
        · refine AX.map (fun _ k_ => AW.iload_n dX0_poorest_72 rfl rfl k_) ?_
          refine AX.map (fun _ k_ => AW.istore_n (i := 2) dX0_poorest_73 rfl rfl (Nat.le_of_ble_eq_true rfl) rfl rfl k_) ?_
          refine AX.map (fun _ k_ => AW.iinc (v := 1) dX0_poorest_74 rfl (by decide) rfl rfl rfl k_) ?_
          refine AX.map (fun _ k_ => AW.goto (tgt := 25) dX0_poorest_77 (by decide) k_) ?_
          have es : poor2 (vwS (s.A 514) (s.A 515)) (vwS (s.A 514) (aheadS s L (cI n))) (k + 1) = if (vwS (s.A 514) (s.A 515)).her (nI k) && (decide (poor2 (vwS (s.A 514) (s.A 515)) (vwS (s.A 514) (aheadS s L (cI n))) k = -1) || decide ((vwS (s.A 514) (aheadS s L (cI n))).pu (nI k) < (vwS (s.A 514) (aheadS s L (cI n))).pu (poor2 (vwS (s.A 514) (s.A 515)) (vwS (s.A 514) (aheadS s L (cI n))) k))) then nI k else poor2 (vwS (s.A 514) (s.A 515)) (vwS (s.A 514) (aheadS s L (cI n))) k := rfl
          have q1 := vwS_pu (n := s.A 514) (r := aheadS s L (cI n)) (hou_n (Vw.hou_k (v := (vwS (s.A 514) (s.A 515))) hn hk) : (vwS (s.A 514) (aheadS s L (cI n))).hou (nI k) = true)
          have q2 := vwS_pu (n := s.A 514) (r := aheadS s L (cI n)) (hou_n ((poor2_hou (w := (vwS (s.A 514) (aheadS s L (cI n)))) hn k (Nat.le_of_lt hk)).resolve_left c48) : (vwS (s.A 514) (aheadS s L (cI n))).hou (poor2 (vwS (s.A 514) (s.A 515)) (vwS (s.A 514) (aheadS s L (cI n))) k) = true)
          rw [← q1, ← q2] at c69
          rw [if_pos (by rw [c43, decide_eq_true (Int32.not_le.mp c69)]; simp)] at es
          exact AX.lsE (by rw [nI_succ k, es]; rfl) ihk
theorem r_X0_pursesBy {s : Sg} (hn : (vwS (s.A 514) (s.A 515)).ok) {a : Nat} {L : Lw} (hL : LawT s.b a L) (hX : extL L) (n : Int32) (h0 : 0 ≤ n.toInt) : RX (QX s 0 0) 65 mX0_pursesBy [.ref 512, .ref a, .int n] (hp s) (some (.int (sumPu2 (vwS (s.A 514) (s.A 515)) (vwS (s.A 514) (aheadS s L (cI n))) (vwS (s.A 514) (s.A 515)).n))) := by
  refine RX.of rfl (Nat.le_of_ble_eq_true rfl) rfl ?_
  refine AX.map (fun _ k_ => AW.aload_n dX0_pursesBy_0 rfl rfl k_) ?_
  refine AX.map (fun _ k_ => AW.aload_n dX0_pursesBy_1 rfl rfl k_) ?_
  refine AX.map (fun _ k_ => AW.iload_n dX0_pursesBy_2 rfl rfl k_) ?_
  obtain ⟨_, ⟨t, et, bt, rt, rfl⟩, hr⟩ := q_goes hn hL hX n h0
  refine AX.map (fun _ k_ => AW.callV (Y := mX0_goes) (n := 2) (hr) (by decide) (by decide) rfl gX q1141 q1143 qs45 q138 q1144 dX0_pursesBy_3 (by decide +kernel) rfl rfl (Nat.le_of_ble_eq_true rfl) rfl k_) ?_
  refine AX.map (fun _ k_ => AW.iconst (v := 0) dX0_pursesBy_6 (by decide) rfl k_) ?_
  refine AX.map (fun _ k_ => AW.istore_n (i := 3) dX0_pursesBy_7 rfl rfl (Nat.le_of_ble_eq_true rfl) rfl rfl k_) ?_
  refine AX.map (fun _ k_ => AW.iconst (v := 0) dX0_pursesBy_8 (by decide) rfl k_) ?_
  refine AX.map (fun _ k_ => AW.istore dX0_pursesBy_9 rfl (Nat.le_of_ble_eq_true rfl) rfl rfl k_) ?_
  refine loopUp (P := fun k => AX (QX s 0 0) 65 mX0_pursesBy (hp t) 11 [some (.ref 512), some (.ref a), some (.int (n)), some (.int (sumPu2 (vwS (s.A 514) (s.A 515)) (vwS (s.A 514) (aheadS s L (cI n))) k)), some (.int (nI k))] [] (.inl (some (.int (sumPu2 (vwS (s.A 514) (s.A 515)) (vwS (s.A 514) (aheadS s L (cI n))) (vwS (s.A 514) (s.A 515)).n))))) (vwS (s.A 514) (s.A 515)).n ?_ ?_ 0 (by first | exact Nat.zero_le _ | omega)
  · refine AX.map (fun _ k_ => AW.iload dX0_pursesBy_11 rfl rfl k_) ?_
    refine AX.map (fun _ k_ => AW.aload_n dX0_pursesBy_13 rfl rfl k_) ?_
    refine AX.map (fun _ k_ => AW.get ci0 0 (by decide) q229 dX0_pursesBy_14 gX rfl rfl k_) ?_
    refine AX.map (fun _ k_ => AW.getN ci1 0 (by decide) q191 dX0_pursesBy_17 gN rfl rfl k_) ?_
    refine AX.map (fun _ k_ => AW.iconst (v := 0) dX0_pursesBy_20 (by decide) rfl k_) ?_
    refine AX.map (fun _ k_ => AW.iald dX0_pursesBy_21 (g514e et) (vp_in_iff.mpr (by decide)) (j := 0) (by decide) rfl k_) ?_
    refine AX.map (fun _ k_ => AW.icmp_ge (tgt := 57) dX0_pursesBy_22 (by decide) rfl (fun _ => k_) (fun c_ => by first | exact absurd c_ (loop_end (by have := Vw.n7 hn; omega) (Vw.nN hn)) | exact absurd (loop_end (by have := Vw.n7 hn; omega) (Vw.nN hn)) c_ | exact absurd c_ (not_not_intro (loop_end (by have := Vw.n7 hn; omega) (Vw.nN hn))) | exact Bool.noConfusion (c_.symm.trans (loop_end (by have := Vw.n7 hn; omega) (Vw.nN hn))))) ?_
    refine AX.map (fun _ k_ => AW.iload_n dX0_pursesBy_57 rfl rfl k_) ?_
    exact ⟨_, ⟨t, et, by rw [bt]; exact Ext.refl _, rfl⟩, AW.iretE dX0_pursesBy_58 rfl rfl rfl rfl⟩
  · intro k hk ihk
    refine AX.map (fun _ k_ => AW.iload dX0_pursesBy_11 rfl rfl k_) ?_
    refine AX.map (fun _ k_ => AW.aload_n dX0_pursesBy_13 rfl rfl k_) ?_
    refine AX.map (fun _ k_ => AW.get ci0 0 (by decide) q229 dX0_pursesBy_14 gX rfl rfl k_) ?_
    refine AX.map (fun _ k_ => AW.getN ci1 0 (by decide) q191 dX0_pursesBy_17 gN rfl rfl k_) ?_
    refine AX.map (fun _ k_ => AW.iconst (v := 0) dX0_pursesBy_20 (by decide) rfl k_) ?_
    refine AX.map (fun _ k_ => AW.iald dX0_pursesBy_21 (g514e et) (vp_in_iff.mpr (by decide)) (j := 0) (by decide) rfl k_) ?_
    refine AX.map (fun _ k_ => AW.icmp_ge (tgt := 57) dX0_pursesBy_22 (by decide) rfl (fun c_ => by first | exact absurd c_ (loop_in hk (by have := Vw.n7 hn; omega) (Vw.nN hn)) | exact absurd (loop_in hk (by have := Vw.n7 hn; omega) (Vw.nN hn)) c_ | exact Bool.noConfusion (c_.symm.trans (loop_in hk (by have := Vw.n7 hn; omega) (Vw.nN hn)))) (fun _ => k_)) ?_
    refine AX.map (fun _ k_ => AW.iload_n dX0_pursesBy_25 rfl rfl k_) ?_
    refine AX.map (fun _ k_ => AW.aload_n dX0_pursesBy_26 rfl rfl k_) ?_
    refine AX.map (fun _ k_ => AW.iload dX0_pursesBy_27 rfl rfl k_) ?_
    refine AX.map (fun _ k_ => AW.callV (Y := mX0_isThere) (n := 1) (q_isThere et _) (by decide) (by decide) rfl gX q980 q982 qs33 q138 q983 dX0_pursesBy_29 (by decide +kernel) rfl rfl (Nat.le_of_ble_eq_true rfl) rfl k_) ?_
    refine AX.brF (fun _ kt_ kf_ => AW.if_eqB (tgt := 48) dX0_pursesBy_32 (by decide) rfl kt_ kf_) (fun c32 => ?_) (fun c32 => ?_)
    · refine AX.map (fun _ k_ => AW.iconst (v := 0) dX0_pursesBy_48 (by decide) rfl k_) ?_
      refine AX.map (fun _ k_ => AW.iadd dX0_pursesBy_49 rfl k_) ?_
      refine AX.map (fun _ k_ => AW.istore_n (i := 3) dX0_pursesBy_50 rfl rfl (Nat.le_of_ble_eq_true rfl) rfl rfl k_) ?_
      refine AX.map (fun _ k_ => AW.iinc (v := 1) dX0_pursesBy_51 rfl (by decide) rfl rfl rfl k_) ?_
      refine AX.map (fun _ k_ => AW.goto (tgt := 11) dX0_pursesBy_54 (by decide) k_) ?_
      have es : sumPu2 (vwS (s.A 514) (s.A 515)) (vwS (s.A 514) (aheadS s L (cI n))) (k + 1) = sumPu2 (vwS (s.A 514) (s.A 515)) (vwS (s.A 514) (aheadS s L (cI n))) k + (if (vwS (s.A 514) (s.A 515)).her (nI k) then (vwS (s.A 514) (aheadS s L (cI n))).pu (nI k) else 0) := rfl
      rw [if_neg (by rw [show _ = false from c32]; decide)] at es
      exact AX.lsE (by rw [nI_succ k, es]; rfl) ihk
    · refine AX.map (fun _ k_ => AW.aload_n dX0_pursesBy_35 rfl rfl k_) ?_
      refine AX.map (fun _ k_ => AW.get ci0 7 (by decide) q236 dX0_pursesBy_36 gX rfl rfl k_) ?_
      refine AX.map (fun _ k_ => AW.bipush (v := 10) dX0_pursesBy_39 (by decide) rfl k_) ?_
      refine AX.map (fun _ k_ => AW.iload dX0_pursesBy_41 rfl rfl k_) ?_
      refine AX.map (fun _ k_ => AW.iadd dX0_pursesBy_43 rfl k_) ?_
      refine AX.map (fun _ k_ => AW.iald dX0_pursesBy_44 (g621e rt) (in_row (v := (vwS (s.A 514) (aheadS s L (cI n)))) (ok_n hn) (hou_n (Vw.hou_k (v := (vwS (s.A 514) (s.A 515))) hn hk)) (by decide) (by decide)) rfl rfl k_) ?_
      refine AX.map (fun _ k_ => AW.goto (tgt := 49) dX0_pursesBy_45 (by decide) k_) ?_
      refine AX.map (fun _ k_ => AW.iadd dX0_pursesBy_49 rfl k_) ?_
      refine AX.map (fun _ k_ => AW.istore_n (i := 3) dX0_pursesBy_50 rfl rfl (Nat.le_of_ble_eq_true rfl) rfl rfl k_) ?_
      refine AX.map (fun _ k_ => AW.iinc (v := 1) dX0_pursesBy_51 rfl (by decide) rfl rfl rfl k_) ?_
      refine AX.map (fun _ k_ => AW.goto (tgt := 11) dX0_pursesBy_54 (by decide) k_) ?_
      have es : sumPu2 (vwS (s.A 514) (s.A 515)) (vwS (s.A 514) (aheadS s L (cI n))) (k + 1) = sumPu2 (vwS (s.A 514) (s.A 515)) (vwS (s.A 514) (aheadS s L (cI n))) k + (if (vwS (s.A 514) (s.A 515)).her (nI k) then (vwS (s.A 514) (aheadS s L (cI n))).pu (nI k) else 0) := rfl
      rw [if_pos (show _ = true from c32)] at es
      rw [vwS_pu (n := s.A 514) (r := aheadS s L (cI n)) (hou_n (Vw.hou_k (v := (vwS (s.A 514) (s.A 515))) hn hk) : (vwS (s.A 514) (aheadS s L (cI n))).hou (nI k) = true)] at es
      exact AX.lsE (by rw [nI_succ k, es]; rfl) ihk
/-- the texts there are, with their laws -/
def TxAt (s : Sg) (Ls : Nat → Lw) (nt : Nat) : Prop := ∀ t, t < nt → ∃ a, s.T (2 * t) = .ref a ∧ LawT s.b a (Ls t) ∧ extL (Ls t)
def sumsS (s : Sg) (Ls : Nat → Lw) (n : Int32) (r : Nat → Int32) (k : Nat) : Int32 := sumPu2 (vwS (s.A 514) (s.A 515)) (vwS (s.A 514) (goesS (Ls k) (s.A 514) (mv0 r (s.A 515) 145) (cI n))) (vwS (s.A 514) (s.A 515)).n
theorem r_X0_whose_f {s : Sg} (n : Int32) (hc : inI n 1 60 = false) : Run 2 mX0_whose [.ref 512, .int n] (hp s) (.inl (some (.int (-1)))) (hp s) := by
  refine Run.of rfl (Nat.le_of_ble_eq_true rfl) rfl ?_
  refine AW.iload_n dX0_whose_0 rfl rfl ?_
  refine AW.iconst (v := 1) dX0_whose_1 (by decide) rfl ?_
  refine AW.bipush (v := 60) dX0_whose_2 (by decide) rfl ?_
  refine AW.callS (Y := mX0_in) (n := 3) (r_X0_in _ _ _) (by decide) (by decide) q271 q272 q138 q273 dX0_whose_4 (by decide +kernel) rfl rfl (Nat.le_of_ble_eq_true rfl) rfl ?_
  refine AW.if_neB (tgt := 12) dX0_whose_7 (by decide) rfl (fun c_ => by first | exact absurd c_ hc | exact absurd hc c_ | exact Bool.noConfusion (c_.symm.trans hc)) (fun _ => ?_)
  refine AW.iconst (v := (-1)) dX0_whose_10 (by decide) rfl ?_
  exact AW.iretE dX0_whose_11 rfl rfl rfl rfl
theorem q_purses {s t : Sg} (e : EqX s t) (hn : (vwS (s.A 514) (s.A 515)).ok) {a : Nat} {L : Lw} (hL : LawT t.b a L) (hX : extL L) (n : Int32) (h0 : 0 ≤ n.toInt) : RX (QX t 0 0) 65 mX0_pursesBy [.ref 512, .ref a, .int n] (hp t) (some (.int (sumPu2 (vwS (s.A 514) (s.A 515)) (vwS (s.A 514) (goesS L (s.A 514) (mv0 (t.A 621) (s.A 515) 145) (cI n))) (vwS (s.A 514) (s.A 515)).n))) := by
  have q := r_X0_pursesBy (s := t) (ok_e e hn) hL hX n h0
  unfold aheadS at q
  rwa [e.A (k := 514) (by decide) (by decide), e.A (k := 515) (by decide) (by decide)] at q
theorem g565e {s t : Sg} (e : EqX s t) : (hp t).g 565 = some (.inl (5, 4, fun j => s.T (2 * j))) := e.T ▸ g565
theorem r_X0_whose_t {s : Sg} (hn : (vwS (s.A 514) (s.A 515)).ok) (Ls : Nat → Lw) (nt : Nat) (h1 : s.A 514 1 = nI nt) (h4 : nt ≤ 4) (hT : TxAt s Ls nt) (n : Int32) (h0 : 0 ≤ n.toInt) (F : Nat → Int32) (hF : ∀ k r, k < nt → sumsS s Ls n r k = F k) (hc : inI n 1 60 = true) : RX (QX s 0 0) 66 mX0_whose [.ref 512, .int n] (hp s) (some (.int ((mostOf F nt).1))) := by
  refine RX.of rfl (Nat.le_of_ble_eq_true rfl) rfl ?_
  refine AX.map (fun _ k_ => AW.iload_n dX0_whose_0 rfl rfl k_) ?_
  refine AX.map (fun _ k_ => AW.iconst (v := 1) dX0_whose_1 (by decide) rfl k_) ?_
  refine AX.map (fun _ k_ => AW.bipush (v := 60) dX0_whose_2 (by decide) rfl k_) ?_
  refine AX.map (fun _ k_ => AW.callS (Y := mX0_in) (n := 3) (r_X0_in _ _ _) (by decide) (by decide) q271 q272 q138 q273 dX0_whose_4 (by decide +kernel) rfl rfl (Nat.le_of_ble_eq_true rfl) rfl k_) ?_
  refine AX.map (fun _ k_ => AW.if_neB (tgt := 12) dX0_whose_7 (by decide) rfl (fun _ => k_) (fun c_ => by first | exact absurd c_ hc | exact absurd hc c_ | exact absurd c_ (not_not_intro hc) | exact Bool.noConfusion (c_.symm.trans hc))) ?_
  refine AX.map (fun _ k_ => AW.iconst (v := (-1)) dX0_whose_12 (by decide) rfl k_) ?_
  refine AX.map (fun _ k_ => AW.istore_n (i := 2) dX0_whose_13 rfl rfl (Nat.le_of_ble_eq_true rfl) rfl rfl k_) ?_
  refine AX.map (fun _ k_ => AW.iconst (v := (-1)) dX0_whose_14 (by decide) rfl k_) ?_
  refine AX.map (fun _ k_ => AW.istore_n (i := 3) dX0_whose_15 rfl rfl (Nat.le_of_ble_eq_true rfl) rfl rfl k_) ?_
  refine AX.map (fun _ k_ => AW.iconst (v := 0) dX0_whose_16 (by decide) rfl k_) ?_
  refine AX.map (fun _ k_ => AW.istore dX0_whose_17 rfl (Nat.le_of_ble_eq_true rfl) rfl rfl k_) ?_
  refine loopUp (P := fun k => ∀ t : Sg, EqX s t → Ext 0 0 s.b t.b → AX (QX s 0 0) 66 mX0_whose (hp t) 19 [some (.ref 512), some (.int (n)), some (.int ((mostOf F k).1)), some (.int ((mostOf F k).2)), some (.int (nI k)), none] [] (.inl (some (.int ((mostOf F nt).1))))) nt ?_ ?_ 0 (by first | exact Nat.zero_le _ | omega) s (EqX.refl _) (Ext.refl _)
  · intro t et xt
    refine AX.map (fun _ k_ => AW.iload dX0_whose_19 rfl rfl k_) ?_
    refine AX.map (fun _ k_ => AW.aload_n dX0_whose_21 rfl rfl k_) ?_
    refine AX.map (fun _ k_ => AW.get ci0 0 (by decide) q229 dX0_whose_22 gX rfl rfl k_) ?_
    refine AX.map (fun _ k_ => AW.getN ci1 0 (by decide) q191 dX0_whose_25 gN rfl rfl k_) ?_
    refine AX.map (fun _ k_ => AW.iconst (v := 1) dX0_whose_28 (by decide) rfl k_) ?_
    refine AX.map (fun _ k_ => AW.iald dX0_whose_29 (g514e et) (vp_in_iff.mpr (by decide)) (j := 1) (by decide) rfl k_) ?_
    refine AX.map (fun _ k_ => AW.icmp_ge (tgt := 71) dX0_whose_30 (by decide) rfl (fun _ => k_) (fun c_ => by first | exact absurd c_ (by rw [h1]; exact Int32.le_refl _) | exact absurd (by rw [h1]; exact Int32.le_refl _) c_ | exact absurd c_ (not_not_intro (by rw [h1]; exact Int32.le_refl _)) | exact Bool.noConfusion (c_.symm.trans (by rw [h1]; exact Int32.le_refl _)))) ?_
    refine AX.map (fun _ k_ => AW.iload_n dX0_whose_71 rfl rfl k_) ?_
    exact ⟨_, ⟨t, et, xt, rfl⟩, AW.iretE dX0_whose_72 rfl rfl rfl rfl⟩
  · intro k hk ihk
    intro t et xt
    obtain ⟨a, hTa, hLa, hXa⟩ := hT k hk
    refine AX.map (fun _ k_ => AW.iload dX0_whose_19 rfl rfl k_) ?_
    refine AX.map (fun _ k_ => AW.aload_n dX0_whose_21 rfl rfl k_) ?_
    refine AX.map (fun _ k_ => AW.get ci0 0 (by decide) q229 dX0_whose_22 gX rfl rfl k_) ?_
    refine AX.map (fun _ k_ => AW.getN ci1 0 (by decide) q191 dX0_whose_25 gN rfl rfl k_) ?_
    refine AX.map (fun _ k_ => AW.iconst (v := 1) dX0_whose_28 (by decide) rfl k_) ?_
    refine AX.map (fun _ k_ => AW.iald dX0_whose_29 (g514e et) (vp_in_iff.mpr (by decide)) (j := 1) (by decide) rfl k_) ?_
    refine AX.map (fun _ k_ => AW.icmp_ge (tgt := 71) dX0_whose_30 (by decide) rfl (fun c_ => by first | exact absurd c_ (by rw [h1]; exact loop_in hk (by omega) rfl) | exact absurd (by rw [h1]; exact loop_in hk (by omega) rfl) c_ | exact Bool.noConfusion (c_.symm.trans (by rw [h1]; exact loop_in hk (by omega) rfl))) (fun _ => k_)) ?_
    refine AX.map (fun _ k_ => AW.aload_n dX0_whose_33 rfl rfl k_) ?_
    refine AX.map (fun _ k_ => AW.aload_n dX0_whose_34 rfl rfl k_) ?_
    refine AX.map (fun _ k_ => AW.get ci0 0 (by decide) q229 dX0_whose_35 gX rfl rfl k_) ?_
    refine AX.map (fun _ k_ => AW.getN ci1 5 (by decide) q201 dX0_whose_38 gN rfl rfl k_) ?_
    refine AX.map (fun _ k_ => AW.iload dX0_whose_41 rfl rfl k_) ?_
    refine AX.map (fun _ k_ => AW.aald dX0_whose_43 (g565e et) rfl rfl (vp_in_nI (by omega) (by omega)) (j := k) (nI_cl (by omega)) rfl k_) ?_
    refine AX.stE (st1 := [.ref a, .ref 512]) (by show [s.T (2 * k), _] = _; rw [hTa]) ?_
    refine AX.map (fun _ k_ => AW.iload_n dX0_whose_44 rfl rfl k_) ?_
    obtain ⟨_, ⟨t2, et2, xt2, rfl⟩, hr⟩ := q_purses et hn (hLa.ext xt) hXa n h0
    rw [show sumPu2 _ _ _ = F k from hF k _ hk] at hr
    refine AX.map (fun _ k_ => AW.callV (Y := mX0_pursesBy) (n := 2) (hr) (by decide) (by decide) rfl gX q1309 q1311 qs59 q138 q1312 dX0_whose_45 (by decide +kernel) rfl rfl (Nat.le_of_ble_eq_true rfl) rfl k_) ?_
    refine AX.map (fun _ k_ => AW.istore dX0_whose_48 rfl (Nat.le_of_ble_eq_true rfl) rfl rfl k_) ?_
    refine AX.map (fun _ k_ => AW.iload dX0_whose_50 rfl rfl k_) ?_
    refine AX.map (fun _ k_ => AW.iload_n dX0_whose_52 rfl rfl k_) ?_
    refine AX.brN (fun _ kt_ kf_ => AW.icmp_gt (tgt := 59) dX0_whose_53 (by decide) rfl kt_ kf_) (fun c53 => ?_) (fun c53 => ?_)
    · refine AX.map (fun _ k_ => AW.iload dX0_whose_59 rfl rfl k_) ?_
      refine AX.map (fun _ k_ => AW.istore_n (i := 2) dX0_whose_61 rfl rfl (Nat.le_of_ble_eq_true rfl) rfl rfl k_) ?_
      refine AX.map (fun _ k_ => AW.iload dX0_whose_62 rfl rfl k_) ?_
      refine AX.map (fun _ k_ => AW.istore_n (i := 3) dX0_whose_64 rfl rfl (Nat.le_of_ble_eq_true rfl) rfl rfl k_) ?_
      refine AX.map (fun _ k_ => AW.iinc (v := 1) dX0_whose_65 rfl (by decide) rfl rfl rfl k_) ?_
      refine AX.map (fun _ k_ => AW.goto (tgt := 19) dX0_whose_68 (by decide) k_) ?_
      have es : mostOf F (k + 1) = if F k ≤ (mostOf F k).2 then mostOf F k else (nI k, F k) := rfl
      rw [if_neg (Int32.not_le.mpr c53)] at es
      refine AX.fgE 5 rfl ?_
      exact AX.lsE (by rw [nI_succ k, es]; rfl) (ihk t2 (et.trans et2) (xt.trans xt2))
    · refine AX.map (fun _ k_ => AW.goto (tgt := 65) dX0_whose_56 (by decide) k_) ?_
      refine AX.map (fun _ k_ => AW.iinc (v := 1) dX0_whose_65 rfl (by decide) rfl rfl rfl k_) ?_
      refine AX.map (fun _ k_ => AW.goto (tgt := 19) dX0_whose_68 (by decide) k_) ?_
      have es : mostOf F (k + 1) = if F k ≤ (mostOf F k).2 then mostOf F k else (nI k, F k) := rfl
      rw [if_pos (Int32.not_lt.mp c53)] at es
      refine AX.fgE 5 rfl ?_
      exact AX.lsE (by rw [nI_succ k, es]; rfl) (ihk t2 (et.trans et2) (xt.trans xt2))
def earnedX (L : Lw) (v : Vw) (day date : Int32) : Int32 := sumUp (fun k => if v.opn (nI k) date then earnX L v (nI k) (day + (date - day % 20 + 20) % 20) else 0) v.n
theorem q_isOpen {s t : Sg} (e : EqX s t) (hn : (vwS (s.A 514) (s.A 515)).ok) (h dt : Int32) : Run 3 mX0_isOpen [.ref 512, .ref 515, .int h, .int dt] (hp t) (.inl (some (.int (b2i ((vwS (s.A 514) (s.A 515)).opn h dt))))) (hp t) := by
  have q := r_X0_isOpen (s := t) (ok_e e hn) h dt
  rwa [e.A (by decide) (by decide), e.A (by decide) (by decide)] at q
theorem q_earnsE {s t : Sg} (e : EqX s t) (hn : (vwS (s.A 514) (s.A 515)).ok) {a : Nat} {L : Lw} (hL : LawT t.b a L) (hX : extL L) (h day : Int32) (hh : (vwS (s.A 514) (s.A 515)).hou h = true) : RX (QX t 0 0) 62 mX0_earnsBy [.ref 512, .ref a, .ref 515, .int h, .int day] (hp t) (some (.int (earnX L (vwS (s.A 514) (s.A 515)) h day))) := by
  have q := q_earnsBy (s := t) (ok_e e hn) hL hX h day (by rw [e.A (by decide) (by decide), e.A (by decide) (by decide)]; exact hh)
  rwa [e.A (k := 514) (by decide) (by decide), e.A (k := 515) (by decide) (by decide)] at q
theorem r_X0_earnedOn {s : Sg} (hn : (vwS (s.A 514) (s.A 515)).ok) {a : Nat} {L : Lw} (hR : Rl s a L) (date : Int32) : RX (QX s 0 0) 63 mX0_earnedOn [.ref 512, .int date] (hp s) (some (.int (earnedX L (vwS (s.A 514) (s.A 515)) (s.A 515 0) date))) := by
  refine RX.of rfl (Nat.le_of_ble_eq_true rfl) rfl ?_
  refine AX.map (fun _ k_ => AW.aload_n dX0_earnedOn_0 rfl rfl k_) ?_
  refine AX.map (fun _ k_ => AW.get ci0 0 (by decide) q229 dX0_earnedOn_1 gX rfl rfl k_) ?_
  refine AX.map (fun _ k_ => AW.getN ci1 1 (by decide) q193 dX0_earnedOn_4 gN rfl rfl k_) ?_
  refine AX.map (fun _ k_ => AW.iconst (v := 0) dX0_earnedOn_7 (by decide) rfl k_) ?_
  refine AX.map (fun _ k_ => AW.iald dX0_earnedOn_8 g515 (vp_in_iff.mpr (by decide)) (j := 0) (by decide) rfl k_) ?_
  refine AX.map (fun _ k_ => AW.iload_n dX0_earnedOn_9 rfl rfl k_) ?_
  refine AX.map (fun _ k_ => AW.aload_n dX0_earnedOn_10 rfl rfl k_) ?_
  refine AX.map (fun _ k_ => AW.get ci0 0 (by decide) q229 dX0_earnedOn_11 gX rfl rfl k_) ?_
  refine AX.map (fun _ k_ => AW.getN ci1 1 (by decide) q193 dX0_earnedOn_14 gN rfl rfl k_) ?_
  refine AX.map (fun _ k_ => AW.callS (Y := mX0_date) (n := 1) (r_X0_date) (by decide) (by decide) q870 q871 q138 q872 dX0_earnedOn_17 (by decide +kernel) rfl rfl (Nat.le_of_ble_eq_true rfl) rfl k_) ?_
  refine AX.map (fun _ k_ => AW.isub dX0_earnedOn_20 rfl k_) ?_
  refine AX.map (fun _ k_ => AW.bipush (v := 20) dX0_earnedOn_21 (by decide) rfl k_) ?_
  refine AX.map (fun _ k_ => AW.iadd dX0_earnedOn_23 rfl k_) ?_
  refine AX.map (fun _ k_ => AW.bipush (v := 20) dX0_earnedOn_24 (by decide) rfl k_) ?_
  refine AX.map (fun _ k_ => AW.irem dX0_earnedOn_26 (by decide) rfl k_) ?_
  refine AX.map (fun _ k_ => AW.iadd dX0_earnedOn_27 rfl k_) ?_
  refine AX.map (fun _ k_ => AW.istore_n (i := 2) dX0_earnedOn_28 rfl rfl (Nat.le_of_ble_eq_true rfl) rfl rfl k_) ?_
  refine AX.map (fun _ k_ => AW.iconst (v := 0) dX0_earnedOn_29 (by decide) rfl k_) ?_
  refine AX.map (fun _ k_ => AW.istore_n (i := 3) dX0_earnedOn_30 rfl rfl (Nat.le_of_ble_eq_true rfl) rfl rfl k_) ?_
  refine AX.map (fun _ k_ => AW.iconst (v := 0) dX0_earnedOn_31 (by decide) rfl k_) ?_
  refine AX.map (fun _ k_ => AW.istore dX0_earnedOn_32 rfl (Nat.le_of_ble_eq_true rfl) rfl rfl k_) ?_
  refine loopUp (P := fun k => ∀ t : Sg, EqX s t → Ext 0 0 s.b t.b → AX (QX s 0 0) 63 mX0_earnedOn (hp t) 34 [some (.ref 512), some (.int (date)), some (.int ((s.A 515 0 + (date - s.A 515 0 % 20 + 20) % 20))), some (.int (sumUp (fun k => if (vwS (s.A 514) (s.A 515)).opn (nI k) date then earnX L (vwS (s.A 514) (s.A 515)) (nI k) (s.A 515 0 + (date - s.A 515 0 % 20 + 20) % 20) else 0) k)), some (.int (nI k))] [] (.inl (some (.int (earnedX L (vwS (s.A 514) (s.A 515)) (s.A 515 0) date))))) (vwS (s.A 514) (s.A 515)).n ?_ ?_ 0 (by first | exact Nat.zero_le _ | omega) s (EqX.refl _) (Ext.refl _)
  · intro t et xt
    refine AX.map (fun _ k_ => AW.iload dX0_earnedOn_34 rfl rfl k_) ?_
    refine AX.map (fun _ k_ => AW.aload_n dX0_earnedOn_36 rfl rfl k_) ?_
    refine AX.map (fun _ k_ => AW.get ci0 0 (by decide) q229 dX0_earnedOn_37 gX rfl rfl k_) ?_
    refine AX.map (fun _ k_ => AW.getN ci1 0 (by decide) q191 dX0_earnedOn_40 gN rfl rfl k_) ?_
    refine AX.map (fun _ k_ => AW.iconst (v := 0) dX0_earnedOn_43 (by decide) rfl k_) ?_
    refine AX.map (fun _ k_ => AW.iald dX0_earnedOn_44 (g514e et) (vp_in_iff.mpr (by decide)) (j := 0) (by decide) rfl k_) ?_
    refine AX.map (fun _ k_ => AW.icmp_ge (tgt := 96) dX0_earnedOn_45 (by decide) rfl (fun _ => k_) (fun c_ => by first | exact absurd c_ (loop_end (by have := Vw.n7 hn; omega) (Vw.nN hn)) | exact absurd (loop_end (by have := Vw.n7 hn; omega) (Vw.nN hn)) c_ | exact absurd c_ (not_not_intro (loop_end (by have := Vw.n7 hn; omega) (Vw.nN hn))) | exact Bool.noConfusion (c_.symm.trans (loop_end (by have := Vw.n7 hn; omega) (Vw.nN hn))))) ?_
    refine AX.map (fun _ k_ => AW.iload_n dX0_earnedOn_96 rfl rfl k_) ?_
    exact ⟨_, ⟨t, et, xt, rfl⟩, AW.iretE dX0_earnedOn_97 rfl rfl rfl rfl⟩
  · intro k hk ihk
    intro t et xt
    refine AX.map (fun _ k_ => AW.iload dX0_earnedOn_34 rfl rfl k_) ?_
    refine AX.map (fun _ k_ => AW.aload_n dX0_earnedOn_36 rfl rfl k_) ?_
    refine AX.map (fun _ k_ => AW.get ci0 0 (by decide) q229 dX0_earnedOn_37 gX rfl rfl k_) ?_
    refine AX.map (fun _ k_ => AW.getN ci1 0 (by decide) q191 dX0_earnedOn_40 gN rfl rfl k_) ?_
    refine AX.map (fun _ k_ => AW.iconst (v := 0) dX0_earnedOn_43 (by decide) rfl k_) ?_
    refine AX.map (fun _ k_ => AW.iald dX0_earnedOn_44 (g514e et) (vp_in_iff.mpr (by decide)) (j := 0) (by decide) rfl k_) ?_
    refine AX.map (fun _ k_ => AW.icmp_ge (tgt := 96) dX0_earnedOn_45 (by decide) rfl (fun c_ => by first | exact absurd c_ (loop_in hk (by have := Vw.n7 hn; omega) (Vw.nN hn)) | exact absurd (loop_in hk (by have := Vw.n7 hn; omega) (Vw.nN hn)) c_ | exact Bool.noConfusion (c_.symm.trans (loop_in hk (by have := Vw.n7 hn; omega) (Vw.nN hn)))) (fun _ => k_)) ?_
    refine AX.map (fun _ k_ => AW.iload_n dX0_earnedOn_48 rfl rfl k_) ?_
    refine AX.map (fun _ k_ => AW.aload_n dX0_earnedOn_49 rfl rfl k_) ?_
    refine AX.map (fun _ k_ => AW.aload_n dX0_earnedOn_50 rfl rfl k_) ?_
    refine AX.map (fun _ k_ => AW.get ci0 0 (by decide) q229 dX0_earnedOn_51 gX rfl rfl k_) ?_
    refine AX.map (fun _ k_ => AW.getN ci1 1 (by decide) q193 dX0_earnedOn_54 gN rfl rfl k_) ?_
    refine AX.map (fun _ k_ => AW.iload dX0_earnedOn_57 rfl rfl k_) ?_
    refine AX.map (fun _ k_ => AW.iload_n dX0_earnedOn_59 rfl rfl k_) ?_
    refine AX.map (fun _ k_ => AW.callV (Y := mX0_isOpen) (n := 3) (q_isOpen et hn _ _) (by decide) (by decide) rfl gX q891 q893 qs29 q138 q894 dX0_earnedOn_60 (by decide +kernel) rfl rfl (Nat.le_of_ble_eq_true rfl) rfl k_) ?_
    refine AX.brF (fun _ kt_ kf_ => AW.if_eqB (tgt := 87) dX0_earnedOn_63 (by decide) rfl kt_ kf_) (fun c63 => ?_) (fun c63 => ?_)
    · refine AX.map (fun _ k_ => AW.iconst (v := 0) dX0_earnedOn_87 (by decide) rfl k_) ?_
      refine AX.map (fun _ k_ => AW.iadd dX0_earnedOn_88 rfl k_) ?_
      refine AX.map (fun _ k_ => AW.istore_n (i := 3) dX0_earnedOn_89 rfl rfl (Nat.le_of_ble_eq_true rfl) rfl rfl k_) ?_
      refine AX.map (fun _ k_ => AW.iinc (v := 1) dX0_earnedOn_90 rfl (by decide) rfl rfl rfl k_) ?_
      refine AX.map (fun _ k_ => AW.goto (tgt := 34) dX0_earnedOn_93 (by decide) k_) ?_
      have es : sumUp (fun k => if (vwS (s.A 514) (s.A 515)).opn (nI k) date then earnX L (vwS (s.A 514) (s.A 515)) (nI k) (s.A 515 0 + (date - s.A 515 0 % 20 + 20) % 20) else 0) (k + 1) = sumUp (fun k => if (vwS (s.A 514) (s.A 515)).opn (nI k) date then earnX L (vwS (s.A 514) (s.A 515)) (nI k) (s.A 515 0 + (date - s.A 515 0 % 20 + 20) % 20) else 0) k + (if (vwS (s.A 514) (s.A 515)).opn (nI k) date then earnX L (vwS (s.A 514) (s.A 515)) (nI k) (s.A 515 0 + (date - s.A 515 0 % 20 + 20) % 20) else 0) := rfl
      rw [if_neg (by rw [show _ = false from c63]; decide)] at es
      exact AX.lsE (by rw [nI_succ k, es]; rfl) (ihk t et xt)
    · refine AX.map (fun _ k_ => AW.aload_n dX0_earnedOn_66 rfl rfl k_) ?_
      refine AX.map (fun _ k_ => AW.aload_n dX0_earnedOn_67 rfl rfl k_) ?_
      refine AX.map (fun _ k_ => AW.callV (Y := mX0_rules) (n := 0) (r_X0_rules (hR.1.eqx et)) (by decide) (by decide) rfl gX q854 q856 qs24 q138 q857 dX0_earnedOn_68 (by decide +kernel) rfl rfl (Nat.le_of_ble_eq_true rfl) rfl k_) ?_
      refine AX.map (fun _ k_ => AW.aload_n dX0_earnedOn_71 rfl rfl k_) ?_
      refine AX.map (fun _ k_ => AW.get ci0 0 (by decide) q229 dX0_earnedOn_72 gX rfl rfl k_) ?_
      refine AX.map (fun _ k_ => AW.getN ci1 1 (by decide) q193 dX0_earnedOn_75 gN rfl rfl k_) ?_
      refine AX.map (fun _ k_ => AW.iload dX0_earnedOn_78 rfl rfl k_) ?_
      refine AX.map (fun _ k_ => AW.iload_n dX0_earnedOn_80 rfl rfl k_) ?_
      obtain ⟨_, ⟨t2, et2, xt2, rfl⟩, w⟩ := q_earnsE et hn (hR.2.1.ext xt) hR.2.2 (nI k) (s.A 515 0 + (date - s.A 515 0 % 20 + 20) % 20) (Vw.hou_k hn hk)
      refine AX.map (fun _ k_ => AW.callV (Y := mX0_earnsBy) (n := 4) (w) (by decide) (by decide) rfl gX q971 q973 qs32 q138 q974 dX0_earnedOn_81 (by decide +kernel) rfl rfl (Nat.le_of_ble_eq_true rfl) rfl k_) ?_
      refine AX.map (fun _ k_ => AW.goto (tgt := 88) dX0_earnedOn_84 (by decide) k_) ?_
      refine AX.map (fun _ k_ => AW.iadd dX0_earnedOn_88 rfl k_) ?_
      refine AX.map (fun _ k_ => AW.istore_n (i := 3) dX0_earnedOn_89 rfl rfl (Nat.le_of_ble_eq_true rfl) rfl rfl k_) ?_
      refine AX.map (fun _ k_ => AW.iinc (v := 1) dX0_earnedOn_90 rfl (by decide) rfl rfl rfl k_) ?_
      refine AX.map (fun _ k_ => AW.goto (tgt := 34) dX0_earnedOn_93 (by decide) k_) ?_
      have es : sumUp (fun k => if (vwS (s.A 514) (s.A 515)).opn (nI k) date then earnX L (vwS (s.A 514) (s.A 515)) (nI k) (s.A 515 0 + (date - s.A 515 0 % 20 + 20) % 20) else 0) (k + 1) = sumUp (fun k => if (vwS (s.A 514) (s.A 515)).opn (nI k) date then earnX L (vwS (s.A 514) (s.A 515)) (nI k) (s.A 515 0 + (date - s.A 515 0 % 20 + 20) % 20) else 0) k + (if (vwS (s.A 514) (s.A 515)).opn (nI k) date then earnX L (vwS (s.A 514) (s.A 515)) (nI k) (s.A 515 0 + (date - s.A 515 0 % 20 + 20) % 20) else 0) := rfl
      rw [if_pos (show _ = true from c63)] at es
      exact AX.lsE (by rw [nI_succ k, es]; rfl) (ihk t2 (et.trans et2) (xt.trans xt2))
theorem q_earnedOn {s t : Sg} (e : EqX s t) (hn : (vwS (s.A 514) (s.A 515)).ok) {a : Nat} {L : Lw} (hR : Rl t a L) (date : Int32) : RX (QX t 0 0) 63 mX0_earnedOn [.ref 512, .int date] (hp t) (some (.int (earnedX L (vwS (s.A 514) (s.A 515)) (s.A 515 0) date))) := by
  have q := r_X0_earnedOn (s := t) (ok_e e hn) hR date
  rwa [e.A (k := 514) (by decide) (by decide), e.A (k := 515) (by decide) (by decide)] at q
theorem r_X0_richest {s : Sg} (hn : (vwS (s.A 514) (s.A 515)).ok) {a : Nat} {L : Lw} (hR : Rl s a L) (p : Bool) : RX (QX s 0 0) 64 mX0_richest [.ref 512, .int (b2i p)] (hp s) (some (.int (if p then (earnedX L (vwS (s.A 514) (s.A 515)) (s.A 515 0)) (bestUp (earnedX L (vwS (s.A 514) (s.A 515)) (s.A 515 0)) 19) else bestUp (earnedX L (vwS (s.A 514) (s.A 515)) (s.A 515 0)) 19))) := by
  refine RX.of rfl (Nat.le_of_ble_eq_true rfl) rfl ?_
  refine AX.map (fun _ k_ => AW.iconst (v := 0) dX0_richest_0 (by decide) rfl k_) ?_
  refine AX.map (fun _ k_ => AW.istore_n (i := 2) dX0_richest_1 rfl rfl (Nat.le_of_ble_eq_true rfl) rfl rfl k_) ?_
  refine AX.map (fun _ k_ => AW.iconst (v := 1) dX0_richest_2 (by decide) rfl k_) ?_
  refine AX.map (fun _ k_ => AW.istore_n (i := 3) dX0_richest_3 rfl rfl (Nat.le_of_ble_eq_true rfl) rfl rfl k_) ?_
  refine loopUp (P := fun k => ∀ t : Sg, EqX s t → Ext 0 0 s.b t.b → AX (QX s 0 0) 64 mX0_richest (hp t) 4 [some (.ref 512), some (.int (b2i p)), some (.int (bestUp (earnedX L (vwS (s.A 514) (s.A 515)) (s.A 515 0)) k)), some (.int (nI (k + 1)))] [] (.inl (some (.int (if p then (earnedX L (vwS (s.A 514) (s.A 515)) (s.A 515 0)) (bestUp (earnedX L (vwS (s.A 514) (s.A 515)) (s.A 515 0)) 19) else bestUp (earnedX L (vwS (s.A 514) (s.A 515)) (s.A 515 0)) 19))))) 19 ?_ ?_ 0 (by first | exact Nat.zero_le _ | omega) s (EqX.refl _) (Ext.refl _)
  · intro t et xt
    refine AX.map (fun _ k_ => AW.iload_n dX0_richest_4 rfl rfl k_) ?_
    refine AX.map (fun _ k_ => AW.bipush (v := 20) dX0_richest_5 (by decide) rfl k_) ?_
    refine AX.map (fun _ k_ => AW.icmp_ge (tgt := 31) dX0_richest_7 (by decide) rfl (fun _ => k_) (fun c_ => by first | exact absurd c_ (by decide) | exact absurd (by decide) c_ | exact absurd c_ (not_not_intro (by decide)) | exact Bool.noConfusion (c_.symm.trans (by decide)))) ?_
    refine AX.map (fun _ k_ => AW.iload_n dX0_richest_31 rfl rfl k_) ?_
    refine AX.brF (fun _ kt_ kf_ => AW.if_eqB (tgt := 43) dX0_richest_32 (by decide) rfl kt_ kf_) (fun c32 => ?_) (fun c32 => ?_)
    · refine AX.map (fun _ k_ => AW.iload_n dX0_richest_43 rfl rfl k_) ?_
      exact ⟨_, ⟨t, et, xt, rfl⟩, AW.iretE dX0_richest_44 rfl rfl (by first | (rw [if_pos c32]; done) | (rw [if_neg (by rw [c32]; decide)]; done)) rfl⟩
    · refine AX.map (fun _ k_ => AW.aload_n dX0_richest_35 rfl rfl k_) ?_
      refine AX.map (fun _ k_ => AW.iload_n dX0_richest_36 rfl rfl k_) ?_
      obtain ⟨_, ⟨t2, et2, xt2, rfl⟩, w⟩ := q_earnedOn et hn (hR.eqx et xt) (bestUp (earnedX L (vwS (s.A 514) (s.A 515)) (s.A 515 0)) 19)
      refine AX.map (fun _ k_ => AW.callV (Y := mX0_earnedOn) (n := 1) (w) (by decide) (by decide) rfl gX q1301 q1303 qs58 q138 q1304 dX0_richest_37 (by decide +kernel) rfl rfl (Nat.le_of_ble_eq_true rfl) rfl k_) ?_
      refine AX.map (fun _ k_ => AW.goto (tgt := 44) dX0_richest_40 (by decide) k_) ?_
      exact ⟨_, ⟨t2, et.trans et2, xt.trans xt2, rfl⟩, AW.iretE dX0_richest_44 rfl rfl (by first | (rw [if_pos c32]; done) | (rw [if_neg (by rw [c32]; decide)]; done)) rfl⟩
  · intro k hk ihk
    intro t et xt
    refine AX.map (fun _ k_ => AW.iload_n dX0_richest_4 rfl rfl k_) ?_
    refine AX.map (fun _ k_ => AW.bipush (v := 20) dX0_richest_5 (by decide) rfl k_) ?_
    refine AX.map (fun _ k_ => AW.icmp_ge (tgt := 31) dX0_richest_7 (by decide) rfl (fun c_ => by first | exact absurd c_ (nI_nle20 hk) | exact absurd (nI_nle20 hk) c_ | exact Bool.noConfusion (c_.symm.trans (nI_nle20 hk))) (fun _ => k_)) ?_
    refine AX.map (fun _ k_ => AW.aload_n dX0_richest_10 rfl rfl k_) ?_
    refine AX.map (fun _ k_ => AW.iload_n dX0_richest_11 rfl rfl k_) ?_
    obtain ⟨_, ⟨t2, et2, xt2, rfl⟩, w⟩ := q_earnedOn et hn (hR.eqx et xt) (nI (k + 1))
    refine AX.map (fun _ k_ => AW.callV (Y := mX0_earnedOn) (n := 1) (w) (by decide) (by decide) rfl gX q1301 q1303 qs58 q138 q1304 dX0_richest_12 (by decide +kernel) rfl rfl (Nat.le_of_ble_eq_true rfl) rfl k_) ?_
    refine AX.map (fun _ k_ => AW.aload_n dX0_richest_15 rfl rfl k_) ?_
    refine AX.map (fun _ k_ => AW.iload_n dX0_richest_16 rfl rfl k_) ?_
    obtain ⟨_, ⟨t3, et3, xt3, rfl⟩, w_⟩ := q_earnedOn (et.trans et2) hn (hR.eqx (et.trans et2) (xt.trans xt2)) (bestUp (earnedX L (vwS (s.A 514) (s.A 515)) (s.A 515 0)) k)
    refine AX.map (fun _ k_ => AW.callV (Y := mX0_earnedOn) (n := 1) (w_) (by decide) (by decide) rfl gX q1301 q1303 qs58 q138 q1304 dX0_richest_17 (by decide +kernel) rfl rfl (Nat.le_of_ble_eq_true rfl) rfl k_) ?_
    refine AX.brN (fun _ kt_ kf_ => AW.icmp_le (tgt := 25) dX0_richest_20 (by decide) rfl kt_ kf_) (fun c20 => ?_) (fun c20 => ?_)
    · refine AX.map (fun _ k_ => AW.iinc (v := 1) dX0_richest_25 rfl (by decide) rfl rfl rfl k_) ?_
      refine AX.map (fun _ k_ => AW.goto (tgt := 4) dX0_richest_28 (by decide) k_) ?_
      have es : bestUp (earnedX L (vwS (s.A 514) (s.A 515)) (s.A 515 0)) (k + 1) = if (earnedX L (vwS (s.A 514) (s.A 515)) (s.A 515 0)) (bestUp (earnedX L (vwS (s.A 514) (s.A 515)) (s.A 515 0)) k) < (earnedX L (vwS (s.A 514) (s.A 515)) (s.A 515 0)) (nI (k + 1)) then nI (k + 1) else bestUp (earnedX L (vwS (s.A 514) (s.A 515)) (s.A 515 0)) k := rfl
      rw [if_neg (Int32.not_lt.mpr c20)] at es
      exact AX.lsE (by rw [nI_succ (k + 1), es]; rfl) (ihk t3 ((et.trans et2).trans et3) ((xt.trans xt2).trans xt3))
    · refine AX.map (fun _ k_ => AW.iload_n dX0_richest_23 rfl rfl k_) ?_
      refine AX.map (fun _ k_ => AW.istore_n (i := 2) dX0_richest_24 rfl rfl (Nat.le_of_ble_eq_true rfl) rfl rfl k_) ?_
      refine AX.map (fun _ k_ => AW.iinc (v := 1) dX0_richest_25 rfl (by decide) rfl rfl rfl k_) ?_
      refine AX.map (fun _ k_ => AW.goto (tgt := 4) dX0_richest_28 (by decide) k_) ?_
      have es : bestUp (earnedX L (vwS (s.A 514) (s.A 515)) (s.A 515 0)) (k + 1) = if (earnedX L (vwS (s.A 514) (s.A 515)) (s.A 515 0)) (bestUp (earnedX L (vwS (s.A 514) (s.A 515)) (s.A 515 0)) k) < (earnedX L (vwS (s.A 514) (s.A 515)) (s.A 515 0)) (nI (k + 1)) then nI (k + 1) else bestUp (earnedX L (vwS (s.A 514) (s.A 515)) (s.A 515 0)) k := rfl
      rw [if_pos (Int32.not_le.mp c20)] at es
      exact AX.lsE (by rw [nI_succ (k + 1), es]; rfl) (ihk t3 ((et.trans et2).trans et3) ((xt.trans xt2).trans xt3))
def shutI (x k : Int32) : Int32 := x >>> (k &&& 31) &&& 1
theorem r_X0_of_f {s : Sg} (h w : Int32) (hh : (vwS (s.A 514) (s.A 515)).hou h = false) : Run 3 mX0_of [.ref 512, .int h, .int w] (hp s) (.inl (some (.int (-1)))) (hp s) := by
  refine Run.of rfl (Nat.le_of_ble_eq_true rfl) rfl ?_
  refine AW.aload_n dX0_of_0 rfl rfl ?_
  refine AW.iload_n dX0_of_1 rfl rfl ?_
  refine AW.callV (Y := mX0_isHouse) (n := 1) (r_X0_isHouse (r := s.A 515) _) (by decide) (by decide) rfl gX q895 q897 qs30 q138 q898 dX0_of_2 (by decide +kernel) rfl rfl (Nat.le_of_ble_eq_true rfl) rfl ?_
  refine AW.if_neB (tgt := 10) dX0_of_5 (by decide) rfl (fun c_ => by first | exact absurd c_ hh | exact absurd hh c_ | exact Bool.noConfusion (c_.symm.trans hh)) (fun _ => ?_)
  refine AW.iconst (v := (-1)) dX0_of_8 (by decide) rfl ?_
  exact AW.iretE dX0_of_9 rfl rfl rfl rfl
theorem r_X0_of_0 {s : Sg} (hn : (vwS (s.A 514) (s.A 515)).ok) (h : Int32) (hh : (vwS (s.A 514) (s.A 515)).hou h = true) : Run 3 mX0_of [.ref 512, .int h, .int 0] (hp s) (.inl (some (.int ((vwS (s.A 514) (s.A 515)).sh h)))) (hp s) := by
  refine Run.of rfl (Nat.le_of_ble_eq_true rfl) rfl ?_
  refine AW.aload_n dX0_of_0 rfl rfl ?_
  refine AW.iload_n dX0_of_1 rfl rfl ?_
  refine AW.callV (Y := mX0_isHouse) (n := 1) (r_X0_isHouse (r := s.A 515) _) (by decide) (by decide) rfl gX q895 q897 qs30 q138 q898 dX0_of_2 (by decide +kernel) rfl rfl (Nat.le_of_ble_eq_true rfl) rfl ?_
  refine AW.if_neB (tgt := 10) dX0_of_5 (by decide) rfl (fun _ => ?_) (fun c_ => by first | exact absurd c_ hh | exact absurd hh c_ | exact absurd c_ (not_not_intro hh) | exact Bool.noConfusion (c_.symm.trans hh))
  refine AW.aload_n dX0_of_10 rfl rfl ?_
  refine AW.get ci0 0 (by decide) q229 dX0_of_11 gX rfl rfl ?_
  refine AW.getN ci1 1 (by decide) q193 dX0_of_14 gN rfl rfl ?_
  refine AW.astore_n (i := 3) dX0_of_17 rfl rfl (Nat.le_of_ble_eq_true rfl) rfl rfl ?_
  refine AW.iload_n dX0_of_18 rfl rfl ?_
  refine AW.tableIn (off := 49) (tgt := 68) dX0_of_19 (by decide) (by decide) rfl (by decide) ?_
  refine AW.aload_n dX0_of_68 rfl rfl ?_
  refine AW.iconst (v := 3) dX0_of_69 (by decide) rfl ?_
  refine AW.iload_n dX0_of_70 rfl rfl ?_
  refine AW.iadd dX0_of_71 rfl ?_
  refine AW.iald dX0_of_72 g515 (in_row hn hh (by decide) (by decide)) rfl rfl ?_
  exact AW.iretE dX0_of_73 rfl rfl (vwS_sh hh).symm rfl
theorem r_X0_of_1 {s : Sg} (hn : (vwS (s.A 514) (s.A 515)).ok) (h : Int32) (hh : (vwS (s.A 514) (s.A 515)).hou h = true) : Run 3 mX0_of [.ref 512, .int h, .int 1] (hp s) (.inl (some (.int ((vwS (s.A 514) (s.A 515)).pu h)))) (hp s) := by
  refine Run.of rfl (Nat.le_of_ble_eq_true rfl) rfl ?_
  refine AW.aload_n dX0_of_0 rfl rfl ?_
  refine AW.iload_n dX0_of_1 rfl rfl ?_
  refine AW.callV (Y := mX0_isHouse) (n := 1) (r_X0_isHouse (r := s.A 515) _) (by decide) (by decide) rfl gX q895 q897 qs30 q138 q898 dX0_of_2 (by decide +kernel) rfl rfl (Nat.le_of_ble_eq_true rfl) rfl ?_
  refine AW.if_neB (tgt := 10) dX0_of_5 (by decide) rfl (fun _ => ?_) (fun c_ => by first | exact absurd c_ hh | exact absurd hh c_ | exact absurd c_ (not_not_intro hh) | exact Bool.noConfusion (c_.symm.trans hh))
  refine AW.aload_n dX0_of_10 rfl rfl ?_
  refine AW.get ci0 0 (by decide) q229 dX0_of_11 gX rfl rfl ?_
  refine AW.getN ci1 1 (by decide) q193 dX0_of_14 gN rfl rfl ?_
  refine AW.astore_n (i := 3) dX0_of_17 rfl rfl (Nat.le_of_ble_eq_true rfl) rfl rfl ?_
  refine AW.iload_n dX0_of_18 rfl rfl ?_
  refine AW.tableIn (off := 55) (tgt := 74) dX0_of_19 (by decide) (by decide) rfl (by decide) ?_
  refine AW.aload_n dX0_of_74 rfl rfl ?_
  refine AW.bipush (v := 10) dX0_of_75 (by decide) rfl ?_
  refine AW.iload_n dX0_of_77 rfl rfl ?_
  refine AW.iadd dX0_of_78 rfl ?_
  refine AW.iald dX0_of_79 g515 (in_row hn hh (by decide) (by decide)) rfl rfl ?_
  exact AW.iretE dX0_of_80 rfl rfl (vwS_pu hh).symm rfl
theorem r_X0_of_2 {s : Sg} (hn : (vwS (s.A 514) (s.A 515)).ok) (h : Int32) (hh : (vwS (s.A 514) (s.A 515)).hou h = true) : Run 3 mX0_of [.ref 512, .int h, .int 2] (hp s) (.inl (some (.int ((vwS (s.A 514) (s.A 515)).fr h)))) (hp s) := by
  refine Run.of rfl (Nat.le_of_ble_eq_true rfl) rfl ?_
  refine AW.aload_n dX0_of_0 rfl rfl ?_
  refine AW.iload_n dX0_of_1 rfl rfl ?_
  refine AW.callV (Y := mX0_isHouse) (n := 1) (r_X0_isHouse (r := s.A 515) _) (by decide) (by decide) rfl gX q895 q897 qs30 q138 q898 dX0_of_2 (by decide +kernel) rfl rfl (Nat.le_of_ble_eq_true rfl) rfl ?_
  refine AW.if_neB (tgt := 10) dX0_of_5 (by decide) rfl (fun _ => ?_) (fun c_ => by first | exact absurd c_ hh | exact absurd hh c_ | exact absurd c_ (not_not_intro hh) | exact Bool.noConfusion (c_.symm.trans hh))
  refine AW.aload_n dX0_of_10 rfl rfl ?_
  refine AW.get ci0 0 (by decide) q229 dX0_of_11 gX rfl rfl ?_
  refine AW.getN ci1 1 (by decide) q193 dX0_of_14 gN rfl rfl ?_
  refine AW.astore_n (i := 3) dX0_of_17 rfl rfl (Nat.le_of_ble_eq_true rfl) rfl rfl ?_
  refine AW.iload_n dX0_of_18 rfl rfl ?_
  refine AW.tableIn (off := 62) (tgt := 81) dX0_of_19 (by decide) (by decide) rfl (by decide) ?_
  refine AW.aload_n dX0_of_81 rfl rfl ?_
  refine AW.bipush (v := 17) dX0_of_82 (by decide) rfl ?_
  refine AW.iload_n dX0_of_84 rfl rfl ?_
  refine AW.iadd dX0_of_85 rfl ?_
  refine AW.iald dX0_of_86 g515 (in_row hn hh (by decide) (by decide)) rfl rfl ?_
  exact AW.iretE dX0_of_87 rfl rfl (vwS_fr hh).symm rfl
theorem r_X0_of_3 {s : Sg} (hn : (vwS (s.A 514) (s.A 515)).ok) (h : Int32) (hh : (vwS (s.A 514) (s.A 515)).hou h = true) : Run 3 mX0_of [.ref 512, .int h, .int 3] (hp s) (.inl (some (.int (if (vwS (s.A 514) (s.A 515)).go h then 1 else 0)))) (hp s) := by
  refine Run.of rfl (Nat.le_of_ble_eq_true rfl) rfl ?_
  refine AW.aload_n dX0_of_0 rfl rfl ?_
  refine AW.iload_n dX0_of_1 rfl rfl ?_
  refine AW.callV (Y := mX0_isHouse) (n := 1) (r_X0_isHouse (r := s.A 515) _) (by decide) (by decide) rfl gX q895 q897 qs30 q138 q898 dX0_of_2 (by decide +kernel) rfl rfl (Nat.le_of_ble_eq_true rfl) rfl ?_
  refine AW.if_neB (tgt := 10) dX0_of_5 (by decide) rfl (fun _ => ?_) (fun c_ => by first | exact absurd c_ hh | exact absurd hh c_ | exact absurd c_ (not_not_intro hh) | exact Bool.noConfusion (c_.symm.trans hh))
  refine AW.aload_n dX0_of_10 rfl rfl ?_
  refine AW.get ci0 0 (by decide) q229 dX0_of_11 gX rfl rfl ?_
  refine AW.getN ci1 1 (by decide) q193 dX0_of_14 gN rfl rfl ?_
  refine AW.astore_n (i := 3) dX0_of_17 rfl rfl (Nat.le_of_ble_eq_true rfl) rfl rfl ?_
  refine AW.iload_n dX0_of_18 rfl rfl ?_
  refine AW.tableIn (off := 69) (tgt := 88) dX0_of_19 (by decide) (by decide) rfl (by decide) ?_
  refine AW.aload_n dX0_of_88 rfl rfl ?_
  refine AW.iload_n dX0_of_89 rfl rfl ?_
  refine AW.callS (Y := mX0_isGone) (n := 2) (r_X0_isGone _) (by decide) (by decide) q864 q865 q138 q866 dX0_of_90 (by decide +kernel) rfl rfl (Nat.le_of_ble_eq_true rfl) rfl ?_
  refine AW.if_eqB (tgt := 100) dX0_of_93 (by decide) rfl (fun c93 => ?_) (fun c93 => ?_)
  · refine AW.iconst (v := 0) dX0_of_100 (by decide) rfl ?_
    exact AW.iretE dX0_of_101 rfl rfl (by rw [vwS_go hh, c93]; rfl) rfl
  · refine AW.iconst (v := 1) dX0_of_96 (by decide) rfl ?_
    refine AW.goto (tgt := 101) dX0_of_97 (by decide) ?_
    exact AW.iretE dX0_of_101 rfl rfl (by rw [vwS_go hh, c93]; rfl) rfl
theorem r_X0_of_4 {s : Sg} (hn : (vwS (s.A 514) (s.A 515)).ok) (h : Int32) (hh : (vwS (s.A 514) (s.A 515)).hou h = true) : Run 3 mX0_of [.ref 512, .int h, .int 4] (hp s) (.inl (some (.int (shutI ((vwS (s.A 514) (s.A 515)).sh h) (s.A 515 0 % 20))))) (hp s) := by
  refine Run.of rfl (Nat.le_of_ble_eq_true rfl) rfl ?_
  refine AW.aload_n dX0_of_0 rfl rfl ?_
  refine AW.iload_n dX0_of_1 rfl rfl ?_
  refine AW.callV (Y := mX0_isHouse) (n := 1) (r_X0_isHouse (r := s.A 515) _) (by decide) (by decide) rfl gX q895 q897 qs30 q138 q898 dX0_of_2 (by decide +kernel) rfl rfl (Nat.le_of_ble_eq_true rfl) rfl ?_
  refine AW.if_neB (tgt := 10) dX0_of_5 (by decide) rfl (fun _ => ?_) (fun c_ => by first | exact absurd c_ hh | exact absurd hh c_ | exact absurd c_ (not_not_intro hh) | exact Bool.noConfusion (c_.symm.trans hh))
  refine AW.aload_n dX0_of_10 rfl rfl ?_
  refine AW.get ci0 0 (by decide) q229 dX0_of_11 gX rfl rfl ?_
  refine AW.getN ci1 1 (by decide) q193 dX0_of_14 gN rfl rfl ?_
  refine AW.astore_n (i := 3) dX0_of_17 rfl rfl (Nat.le_of_ble_eq_true rfl) rfl rfl ?_
  refine AW.iload_n dX0_of_18 rfl rfl ?_
  refine AW.tableIn (off := 83) (tgt := 102) dX0_of_19 (by decide) (by decide) rfl (by decide) ?_
  refine AW.aload_n dX0_of_102 rfl rfl ?_
  refine AW.iconst (v := 3) dX0_of_103 (by decide) rfl ?_
  refine AW.iload_n dX0_of_104 rfl rfl ?_
  refine AW.iadd dX0_of_105 rfl ?_
  refine AW.iald dX0_of_106 g515 (in_row hn hh (by decide) (by decide)) rfl rfl ?_
  refine AW.aload_n dX0_of_107 rfl rfl ?_
  refine AW.callS (Y := mX0_date) (n := 1) (r_X0_date) (by decide) (by decide) q870 q871 q138 q872 dX0_of_108 (by decide +kernel) rfl rfl (Nat.le_of_ble_eq_true rfl) rfl ?_
  refine AW.ishr dX0_of_111 rfl ?_
  refine AW.iconst (v := 1) dX0_of_112 (by decide) rfl ?_
  refine AW.iand dX0_of_113 rfl ?_
  exact AW.iretE dX0_of_114 rfl rfl (by rw [vwS_sh hh]; rfl) rfl
theorem r_X0_of_5 {s : Sg} (hn : (vwS (s.A 514) (s.A 515)).ok) {a : Nat} {L : Lw} (hR : Rl s a L) (h : Int32) (hh : (vwS (s.A 514) (s.A 515)).hou h = true) : RX (QX s 0 0) 63 mX0_of [.ref 512, .int h, .int 5] (hp s) (some (.int (earnX L (vwS (s.A 514) (s.A 515)) h (s.A 515 0)))) := by
  refine RX.of rfl (Nat.le_of_ble_eq_true rfl) rfl ?_
  refine AX.map (fun _ k_ => AW.aload_n dX0_of_0 rfl rfl k_) ?_
  refine AX.map (fun _ k_ => AW.iload_n dX0_of_1 rfl rfl k_) ?_
  refine AX.map (fun _ k_ => AW.callV (Y := mX0_isHouse) (n := 1) (r_X0_isHouse (r := s.A 515) _) (by decide) (by decide) rfl gX q895 q897 qs30 q138 q898 dX0_of_2 (by decide +kernel) rfl rfl (Nat.le_of_ble_eq_true rfl) rfl k_) ?_
  refine AX.map (fun _ k_ => AW.if_neB (tgt := 10) dX0_of_5 (by decide) rfl (fun _ => k_) (fun c_ => by first | exact absurd c_ hh | exact absurd hh c_ | exact absurd c_ (not_not_intro hh) | exact Bool.noConfusion (c_.symm.trans hh))) ?_
  refine AX.map (fun _ k_ => AW.aload_n dX0_of_10 rfl rfl k_) ?_
  refine AX.map (fun _ k_ => AW.get ci0 0 (by decide) q229 dX0_of_11 gX rfl rfl k_) ?_
  refine AX.map (fun _ k_ => AW.getN ci1 1 (by decide) q193 dX0_of_14 gN rfl rfl k_) ?_
  refine AX.map (fun _ k_ => AW.astore_n (i := 3) dX0_of_17 rfl rfl (Nat.le_of_ble_eq_true rfl) rfl rfl k_) ?_
  refine AX.map (fun _ k_ => AW.iload_n dX0_of_18 rfl rfl k_) ?_
  refine AX.map (fun _ k_ => AW.tableIn (off := 96) (tgt := 115) dX0_of_19 (by decide) (by decide) rfl (by decide) k_) ?_
  refine AX.map (fun _ k_ => AW.aload_n dX0_of_115 rfl rfl k_) ?_
  refine AX.map (fun _ k_ => AW.aload_n dX0_of_116 rfl rfl k_) ?_
  refine AX.map (fun _ k_ => AW.callV (Y := mX0_rules) (n := 0) (r_X0_rules hR.1) (by decide) (by decide) rfl gX q854 q856 qs24 q138 q857 dX0_of_117 (by decide +kernel) rfl rfl (Nat.le_of_ble_eq_true rfl) rfl k_) ?_
  refine AX.map (fun _ k_ => AW.aload_n dX0_of_120 rfl rfl k_) ?_
  refine AX.map (fun _ k_ => AW.iload_n dX0_of_121 rfl rfl k_) ?_
  refine AX.map (fun _ k_ => AW.aload_n dX0_of_122 rfl rfl k_) ?_
  refine AX.map (fun _ k_ => AW.iconst (v := 0) dX0_of_123 (by decide) rfl k_) ?_
  refine AX.map (fun _ k_ => AW.iald dX0_of_124 g515 (vp_in_iff.mpr (by decide)) (j := 0) (by decide) rfl k_) ?_
  obtain ⟨_, ⟨t, et, xt, rfl⟩, w⟩ := q_earnsBy hn hR.2.1 hR.2.2 h (s.A 515 0) hh
  refine AX.map (fun _ k_ => AW.callV (Y := mX0_earnsBy) (n := 4) (w) (by decide) (by decide) rfl gX q971 q973 qs32 q138 q974 dX0_of_125 (by decide +kernel) rfl rfl (Nat.le_of_ble_eq_true rfl) rfl k_) ?_
  exact ⟨_, ⟨t, et, xt, rfl⟩, AW.iretE dX0_of_128 rfl rfl rfl rfl⟩
theorem r_X0_of_6 {s : Sg} (hn : (vwS (s.A 514) (s.A 515)).ok) {a : Nat} {L : Lw} (hR : Rl s a L) (h : Int32) (hh : (vwS (s.A 514) (s.A 515)).hou h = true) : RX (QX s 0 0) 63 mX0_of [.ref 512, .int h, .int 6] (hp s) (some (.int (loseX L (vwS (s.A 514) (s.A 515)) h (s.A 515 0)))) := by
  refine RX.of rfl (Nat.le_of_ble_eq_true rfl) rfl ?_
  refine AX.map (fun _ k_ => AW.aload_n dX0_of_0 rfl rfl k_) ?_
  refine AX.map (fun _ k_ => AW.iload_n dX0_of_1 rfl rfl k_) ?_
  refine AX.map (fun _ k_ => AW.callV (Y := mX0_isHouse) (n := 1) (r_X0_isHouse (r := s.A 515) _) (by decide) (by decide) rfl gX q895 q897 qs30 q138 q898 dX0_of_2 (by decide +kernel) rfl rfl (Nat.le_of_ble_eq_true rfl) rfl k_) ?_
  refine AX.map (fun _ k_ => AW.if_neB (tgt := 10) dX0_of_5 (by decide) rfl (fun _ => k_) (fun c_ => by first | exact absurd c_ hh | exact absurd hh c_ | exact absurd c_ (not_not_intro hh) | exact Bool.noConfusion (c_.symm.trans hh))) ?_
  refine AX.map (fun _ k_ => AW.aload_n dX0_of_10 rfl rfl k_) ?_
  refine AX.map (fun _ k_ => AW.get ci0 0 (by decide) q229 dX0_of_11 gX rfl rfl k_) ?_
  refine AX.map (fun _ k_ => AW.getN ci1 1 (by decide) q193 dX0_of_14 gN rfl rfl k_) ?_
  refine AX.map (fun _ k_ => AW.astore_n (i := 3) dX0_of_17 rfl rfl (Nat.le_of_ble_eq_true rfl) rfl rfl k_) ?_
  refine AX.map (fun _ k_ => AW.iload_n dX0_of_18 rfl rfl k_) ?_
  refine AX.map (fun _ k_ => AW.tableIn (off := 110) (tgt := 129) dX0_of_19 (by decide) (by decide) rfl (by decide) k_) ?_
  refine AX.map (fun _ k_ => AW.aload_n dX0_of_129 rfl rfl k_) ?_
  refine AX.map (fun _ k_ => AW.aload_n dX0_of_130 rfl rfl k_) ?_
  refine AX.map (fun _ k_ => AW.callV (Y := mX0_rules) (n := 0) (r_X0_rules hR.1) (by decide) (by decide) rfl gX q854 q856 qs24 q138 q857 dX0_of_131 (by decide +kernel) rfl rfl (Nat.le_of_ble_eq_true rfl) rfl k_) ?_
  refine AX.map (fun _ k_ => AW.aload_n dX0_of_134 rfl rfl k_) ?_
  refine AX.map (fun _ k_ => AW.iload_n dX0_of_135 rfl rfl k_) ?_
  refine AX.map (fun _ k_ => AW.aload_n dX0_of_136 rfl rfl k_) ?_
  refine AX.map (fun _ k_ => AW.iconst (v := 0) dX0_of_137 (by decide) rfl k_) ?_
  refine AX.map (fun _ k_ => AW.iald dX0_of_138 g515 (vp_in_iff.mpr (by decide)) (j := 0) (by decide) rfl k_) ?_
  obtain ⟨_, ⟨t, et, xt, rfl⟩, w⟩ := q_losesBy hn hR.2.1 hR.2.2 h (s.A 515 0) hh
  refine AX.map (fun _ k_ => AW.callV (Y := mX0_losesBy) (n := 4) (w) (by decide) (by decide) rfl gX q873 q875 qs26 q138 q876 dX0_of_139 (by decide +kernel) rfl rfl (Nat.le_of_ble_eq_true rfl) rfl k_) ?_
  exact ⟨_, ⟨t, et, xt, rfl⟩, AW.iretE dX0_of_142 rfl rfl rfl rfl⟩
theorem r_X0_of_7 {s : Sg} (hn : (vwS (s.A 514) (s.A 515)).ok) {a : Nat} {L : Lw} (hR : Rl s a L) (h : Int32) (hh : (vwS (s.A 514) (s.A 515)).hou h = true) : RX (QX s 0 0) 63 mX0_of [.ref 512, .int h, .int 7] (hp s) (some (.int (b2i (letX L (vwS (s.A 514) (s.A 515)) h (s.A 515 0))))) := by
  refine RX.of rfl (Nat.le_of_ble_eq_true rfl) rfl ?_
  refine AX.map (fun _ k_ => AW.aload_n dX0_of_0 rfl rfl k_) ?_
  refine AX.map (fun _ k_ => AW.iload_n dX0_of_1 rfl rfl k_) ?_
  refine AX.map (fun _ k_ => AW.callV (Y := mX0_isHouse) (n := 1) (r_X0_isHouse (r := s.A 515) _) (by decide) (by decide) rfl gX q895 q897 qs30 q138 q898 dX0_of_2 (by decide +kernel) rfl rfl (Nat.le_of_ble_eq_true rfl) rfl k_) ?_
  refine AX.map (fun _ k_ => AW.if_neB (tgt := 10) dX0_of_5 (by decide) rfl (fun _ => k_) (fun c_ => by first | exact absurd c_ hh | exact absurd hh c_ | exact absurd c_ (not_not_intro hh) | exact Bool.noConfusion (c_.symm.trans hh))) ?_
  refine AX.map (fun _ k_ => AW.aload_n dX0_of_10 rfl rfl k_) ?_
  refine AX.map (fun _ k_ => AW.get ci0 0 (by decide) q229 dX0_of_11 gX rfl rfl k_) ?_
  refine AX.map (fun _ k_ => AW.getN ci1 1 (by decide) q193 dX0_of_14 gN rfl rfl k_) ?_
  refine AX.map (fun _ k_ => AW.astore_n (i := 3) dX0_of_17 rfl rfl (Nat.le_of_ble_eq_true rfl) rfl rfl k_) ?_
  refine AX.map (fun _ k_ => AW.iload_n dX0_of_18 rfl rfl k_) ?_
  refine AX.map (fun _ k_ => AW.tableIn (off := 124) (tgt := 143) dX0_of_19 (by decide) (by decide) rfl (by decide) k_) ?_
  refine AX.map (fun _ k_ => AW.aload_n dX0_of_143 rfl rfl k_) ?_
  refine AX.map (fun _ k_ => AW.aload_n dX0_of_144 rfl rfl k_) ?_
  refine AX.map (fun _ k_ => AW.callV (Y := mX0_rules) (n := 0) (r_X0_rules hR.1) (by decide) (by decide) rfl gX q854 q856 qs24 q138 q857 dX0_of_145 (by decide +kernel) rfl rfl (Nat.le_of_ble_eq_true rfl) rfl k_) ?_
  refine AX.map (fun _ k_ => AW.aload_n dX0_of_148 rfl rfl k_) ?_
  refine AX.map (fun _ k_ => AW.iload_n dX0_of_149 rfl rfl k_) ?_
  obtain ⟨_, ⟨t, et, xt, rfl⟩, w⟩ := q_letsBy hn hR.2.1 hR.2.2 h hh
  refine AX.map (fun _ k_ => AW.callV (Y := mX0_letsBy) (n := 3) (w) (by decide) (by decide) rfl gX q988 q990 qs35 q138 q991 dX0_of_150 (by decide +kernel) rfl rfl (Nat.le_of_ble_eq_true rfl) rfl k_) ?_
  refine AX.brF (fun _ kt_ kf_ => AW.if_eqB (tgt := 160) dX0_of_153 (by decide) rfl kt_ kf_) (fun c153 => ?_) (fun c153 => ?_)
  · refine AX.map (fun _ k_ => AW.iconst (v := 0) dX0_of_160 (by decide) rfl k_) ?_
    exact ⟨_, ⟨t, et, xt, rfl⟩, AW.iretE dX0_of_161 rfl rfl (by rw [c153]; rfl) rfl⟩
  · refine AX.map (fun _ k_ => AW.iconst (v := 1) dX0_of_156 (by decide) rfl k_) ?_
    refine AX.map (fun _ k_ => AW.goto (tgt := 161) dX0_of_157 (by decide) k_) ?_
    exact ⟨_, ⟨t, et, xt, rfl⟩, AW.iretE dX0_of_161 rfl rfl (by rw [c153]; rfl) rfl⟩
theorem r_X0_of_8 {s : Sg} (hn : (vwS (s.A 514) (s.A 515)).ok) (h : Int32) (hh : (vwS (s.A 514) (s.A 515)).hou h = true) : Run 5 mX0_of [.ref 512, .int h, .int 8] (hp s) (.inl (some (.int ((vwS (s.A 514) (s.A 515)).beside h (s.A 515 0 % 20))))) (hp s) := by
  refine Run.of rfl (Nat.le_of_ble_eq_true rfl) rfl ?_
  refine AW.aload_n dX0_of_0 rfl rfl ?_
  refine AW.iload_n dX0_of_1 rfl rfl ?_
  refine AW.callV (Y := mX0_isHouse) (n := 1) (r_X0_isHouse (r := s.A 515) _) (by decide) (by decide) rfl gX q895 q897 qs30 q138 q898 dX0_of_2 (by decide +kernel) rfl rfl (Nat.le_of_ble_eq_true rfl) rfl ?_
  refine AW.if_neB (tgt := 10) dX0_of_5 (by decide) rfl (fun _ => ?_) (fun c_ => by first | exact absurd c_ hh | exact absurd hh c_ | exact absurd c_ (not_not_intro hh) | exact Bool.noConfusion (c_.symm.trans hh))
  refine AW.aload_n dX0_of_10 rfl rfl ?_
  refine AW.get ci0 0 (by decide) q229 dX0_of_11 gX rfl rfl ?_
  refine AW.getN ci1 1 (by decide) q193 dX0_of_14 gN rfl rfl ?_
  refine AW.astore_n (i := 3) dX0_of_17 rfl rfl (Nat.le_of_ble_eq_true rfl) rfl rfl ?_
  refine AW.iload_n dX0_of_18 rfl rfl ?_
  refine AW.tableIn (off := 143) (tgt := 162) dX0_of_19 (by decide) (by decide) rfl (by decide) ?_
  refine AW.aload_n dX0_of_162 rfl rfl ?_
  refine AW.aload_n dX0_of_163 rfl rfl ?_
  refine AW.iload_n dX0_of_164 rfl rfl ?_
  refine AW.aload_n dX0_of_165 rfl rfl ?_
  refine AW.callS (Y := mX0_date) (n := 1) (r_X0_date) (by decide) (by decide) q870 q871 q138 q872 dX0_of_166 (by decide +kernel) rfl rfl (Nat.le_of_ble_eq_true rfl) rfl ?_
  refine AW.callV (Y := mX0_besideOf) (n := 3) (r_X0_besideOf hn _ _) (by decide) (by decide) rfl gX q899 q901 qs31 q138 q902 dX0_of_169 (by decide +kernel) rfl rfl (Nat.le_of_ble_eq_true rfl) rfl ?_
  exact AW.iretE dX0_of_172 rfl rfl rfl rfl
theorem r_X0_of_o {s : Sg} (hn : (vwS (s.A 514) (s.A 515)).ok) (h : Int32) (hh : (vwS (s.A 514) (s.A 515)).hou h = true) (w : Int32) (ho : ¬ (0 ≤ w.toInt ∧ w.toInt ≤ 8)) : Run 3 mX0_of [.ref 512, .int h, .int w] (hp s) (.inl (some (.int (-1)))) (hp s) := by
  refine Run.of rfl (Nat.le_of_ble_eq_true rfl) rfl ?_
  refine AW.aload_n dX0_of_0 rfl rfl ?_
  refine AW.iload_n dX0_of_1 rfl rfl ?_
  refine AW.callV (Y := mX0_isHouse) (n := 1) (r_X0_isHouse (r := s.A 515) _) (by decide) (by decide) rfl gX q895 q897 qs30 q138 q898 dX0_of_2 (by decide +kernel) rfl rfl (Nat.le_of_ble_eq_true rfl) rfl ?_
  refine AW.if_neB (tgt := 10) dX0_of_5 (by decide) rfl (fun _ => ?_) (fun c_ => by first | exact absurd c_ hh | exact absurd hh c_ | exact absurd c_ (not_not_intro hh) | exact Bool.noConfusion (c_.symm.trans hh))
  refine AW.aload_n dX0_of_10 rfl rfl ?_
  refine AW.get ci0 0 (by decide) q229 dX0_of_11 gX rfl rfl ?_
  refine AW.getN ci1 1 (by decide) q193 dX0_of_14 gN rfl rfl ?_
  refine AW.astore_n (i := 3) dX0_of_17 rfl rfl (Nat.le_of_ble_eq_true rfl) rfl rfl ?_
  refine AW.iload_n dX0_of_18 rfl rfl ?_
  refine AW.tableOut (tgt := 173) dX0_of_19 (by omega) (by decide) ?_
  refine AW.iconst (v := (-1)) dX0_of_173 (by decide) rfl ?_
  exact AW.iretE dX0_of_174 rfl rfl rfl rfl
