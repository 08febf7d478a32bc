/-! FRAME: what a doing of the system leaves alone; its row follows the model's (by hand) -/
set_option maxRecDepth 100000
theorem hou_V {N : Nat} {a : Nat → Int32} (h : a 0 = nI N) (h7 : N ≤ 7) {x : Int32} (hx : (vwM a).hou x = true) : ∃ k, k < N ∧ x = nI k := by
  have q := Vw.hou_b (v := vwM a) (okN h h7) hx
  have e : (vwM a).N.toInt = (N : Int) := by show (a 0).toInt = _; rw [h, nI_t (by omega)]
  refine ⟨cI x, ?_, (nI_cI q.1).symm⟩
  have := cI_of q.1
  omega
def Fr (c u : Nat) (s t : Sg) : Prop := (∀ k, k ≠ 514 → k ≠ 515 → (k < 535 ∨ 565 ≤ k) → k ≠ 620 → k ≠ 621 → t.A k = s.A k) ∧ t.S = s.S ∧ t.V = s.V ∧ t.w = s.w ∧ t.T = s.T ∧ Ext c u s.b t.b
theorem Fr.refl (s : Sg) : Fr 0 0 s s := ⟨fun _ _ _ _ _ _ => rfl, rfl, rfl, rfl, rfl, Ext.refl _⟩
theorem Fr.trans {c u c2 u2 : Nat} {s t v : Sg} (h : Fr c u s t) (k : Fr c2 u2 t v) : Fr (c + c2) (u + u2) s v := by
  obtain ⟨h1, h2, h3, h4, h5, h6⟩ := h
  obtain ⟨k1, k2, k3, k4, k5, k6⟩ := k
  exact ⟨fun j a b d e f => (k1 j a b d e f).trans (h1 j a b d e f), k2.trans h2, k3.trans h3, k4.trans h4, k5.trans h5, h6.trans k6⟩
theorem Fr.tr0 {c u : Nat} {s t v : Sg} (h : Fr 0 0 s t) (k : Fr c u t v) : Fr c u s v := by
  have := h.trans k
  rwa [Nat.zero_add, Nat.zero_add] at this
theorem Fr.mono {c u c2 u2 : Nat} {s t : Sg} (h : Fr c u s t) (hc : c ≤ c2) (hu : u ≤ u2) : Fr c2 u2 s t := ⟨h.1, h.2.1, h.2.2.1, h.2.2.2.1, h.2.2.2.2.1, h.2.2.2.2.2.mono hc hu⟩
theorem Fr.x {c u : Nat} {s t : Sg} (h : Fr c u s t) : Ext c u s.b t.b := h.2.2.2.2.2
theorem Fr.eqx {c u : Nat} {s t : Sg} (e : EqX s t) (x : Ext c u s.b t.b) : Fr c u s t := ⟨fun k _ _ _ a b => e.A a b, e.2.1, e.2.2.1, e.2.2.2.1, e.2.2.2.2, x⟩
theorem Fr.set {s : Sg} {f : Nat → Int32} : Fr 0 0 s (s.setA 515 f) := ⟨fun k _ h _ _ _ => setA_ne h, rfl, rfl, rfl, rfl, Ext.refl _⟩
theorem keepS_o {s : Sg} {c : Nat} (hc : c ≤ 30) {k : Nat} (h1 : k ≠ 514) (h2 : k < 535 ∨ 565 ≤ k) : (keepS s c).A k = s.A k := by
  unfold keepS layS
  split
  · rw [sA_ne h1, sA_ne (by omega), sA_ne h1, shf_out (by omega)]
  · rw [sA_ne h1, sA_ne (by omega)]
theorem keepS_S {s : Sg} {c : Nat} : (keepS s c).S = s.S ∧ (keepS s c).V = s.V ∧ (keepS s c).w = s.w := by
  unfold keepS
  split <;> exact ⟨rfl, rfl, rfl⟩
theorem Fr.keep {s : Sg} {c : Nat} (hc : c ≤ 30) : Fr 0 0 s (keepS s c) := ⟨fun k h1 _ h2 _ _ => keepS_o hc h1 h2, keepS_S.1, keepS_S.2.1, keepS_S.2.2, keepS_T, by rw [keepS_b]; exact Ext.refl _⟩
theorem RelX.to {N nt c e g : Nat} {a : Nat → Int32} {A A2 : Nat → Nat → Int32} (h : RelX N nt c e g a A) (k : ∀ j, 514 ≤ j → j < 565 → A2 j = A j) : RelX N nt c e g a A2 := h.cg (fun _ _ => rfl) (fun j _ => by rw [k 514 (by decide) (by decide)]) (fun j _ => by rw [k 515 (by decide) (by decide)]) (fun i j _ _ => by rw [k (517 + i) (by omega) (by omega)]) (fun i j _ _ => by rw [k (526 + i) (by omega) (by omega)]) (fun i j _ _ => by rw [k (535 + i) (by omega) (by omega)])
theorem RelX.eqx {N nt c e g : Nat} {a : Nat → Int32} {s t : Sg} (h : RelX N nt c e g a s.A) (k : EqX s t) : RelX N nt c e g a t.A := h.to (fun j _ _ => k.A (by omega) (by omega))
theorem RelX.rel {N nt c e g : Nat} {a : Nat → Int32} {A : Nat → Nat → Int32} (h : RelX N nt c e g a A) : Rel a A := ⟨N, nt, c, e, g, h⟩
def QF (s : Sg) (b : Nat → Int32) (c u : Nat) (h : AH) : Prop := ∃ t, Fr c u s t ∧ Rel b t.A ∧ h = hp t
theorem Rel.a2 {a : Nat → Int32} {A : Nat → Nat → Int32} (h : Rel a A) : A 514 2 = a 2 := by
  obtain ⟨N, nt, c, e, g, ⟨-, -, ⟨q, -⟩, -⟩, -⟩ := h
  exact q
theorem Rl.fr {s t : Sg} {a c u : Nat} {L : Lw} (h : Rl s a L) (f : Fr c u s t) (e : t.A 514 2 = s.A 514 2) : Rl t a L := by
  refine ⟨?_, h.2.1.ext f.x, h.2.2⟩
  unfold RulesAt
  rw [e, f.2.2.2.2.1]
  exact h.1
/-- the law stays where the chosen text stays -/
theorem Rl.rel {s t : Sg} {x c u : Nat} {L : Lw} {a b : Nat → Int32} (h : Rl s x L) (ha : Rel a s.A) (f : Fr c u s t) (hb : Rel b t.A) (e : b 2 = a 2) : Rl t x L := h.fr f (by rw [hb.a2, ha.a2, e])
section ROWS
variable {N nt c e g x : Nat} {a : Nat → Int32} {s : Sg} {L : Lw}
theorem RelX.n3 (h : RelX N nt c e g a s.A) : s.A 514 3 = nI c ∧ c ≤ 30 ∧ a 3 = nI c := ⟨h.1.2.2.2.1.2.1, h.1.2.2.2.1.2.2, h.1.2.2.2.1.1⟩
theorem RelX.n0 (h : RelX N nt c e g a s.A) : a 0 = nI N ∧ s.A 514 0 = nI N ∧ N ≤ 7 := h.1.1
theorem RelX.w (h : RelX N nt c e g a s.A) : ∃ w, a 10 = nI w ∧ s.A 515 24 = nI w ∧ w ≤ 40 := by
  obtain ⟨-, -, ⟨w, h10, -, -, ⟨h24, h40, -⟩, -⟩, -⟩ := h
  exact ⟨w, h10, h24, h40⟩
theorem RelX.cr (h : RelX N nt c e g a s.A) : CurR N a (s.A 515) := h.2.2.1
theorem RelX.kI (h : RelX N nt c e g a s.A) : keepI a = keepM a c := by
  have := h.n3
  unfold keepI
  rw [this.2.2, cI_nI (by omega)]
/-- the row changed to one that fits -/
theorem RelX.row {b : Nat → Int32} {R : Nat → Int32} (h : RelX N nt c e g a s.A) (hb : Cu a b) (hc : CurR N b R) : RelX N nt c e g b (s.setA 515 R).A := h.cur hb (fun k h1 _ _ => setA_ne h1) (by rw [setA_at]; exact hc)
theorem q_knocking (hb : 128 ≤ s.b.n) (h : RelX N nt c e g a s.A) (hR : Rl s x L) {k : Nat} (hk : k < N) : RX (QF s (knockM a L (nI k)) 1 3) 64 mX0_knocking [.ref 512, .int (nI k)] (hp s) (some (.int (b2i (hasI (gtM a (nI k) 0) (a 8 % 20))))) := by
  obtain ⟨w, w1, w2, w3⟩ := h.w
  obtain ⟨n1, n2, n7⟩ := h.n0
  obtain ⟨k1, k2, k3⟩ := knock_eq (n := s.A 514) hR.2.2 h.cr n1 n2 n7 hk w1 w3
  have hh : (vwS (s.A 514) (s.A 515)).hou (nI k) = true := by rw [← h.vw]; exact N_hou n1 n7 hk
  obtain ⟨_, ⟨t, et, xt, rfl⟩, run⟩ := r_X0_knocking hb h.ok hR hh (by omega) w2 w3
  rw [k3] at run
  exact ⟨_, ⟨t, Fr.set.tr0 (Fr.eqx et xt), ((h.row k2 k1).eqx et).rel, rfl⟩, run⟩
/-- a day: kept, passed -/
theorem day_step (h : RelX N nt c e g a s.A) (hR : Rl s x L) {d : Nat} (hd : a 8 = nI d) (h99 : d < 9999) : (vwS ((keepS s c).A 514) ((keepS s c).A 515)).ok ∧ Rl (keepS s c) x L ∧ passM (keepI a) L 8 = nI (d + 1) ∧ passM (keepI a) L 2 = a 2 ∧ ∀ t, EqX ((keepS s c).setA 515 (passS L ((keepS s c).A 514) ((keepS s c).A 515))) t → Ext 0 0 (keepS s c).b t.b → Fr 0 0 s t ∧ Rel (passM (keepI a) L) t.A := by
  obtain ⟨c2, hk⟩ := keep_rel h
  obtain ⟨n1, n2, n7⟩ := hk.n0
  have ek := h.kI
  have e8 : keepM a c 8 = nI d := (kM_lo h (by decide) (by omega)).trans hd
  have e2 : keepM a c 2 = a 2 := kM_lo h (by decide) (by omega)
  obtain ⟨p1, p2, p3⟩ := pass_eq (n := (keepS s c).A 514) hR.2.2 n1 n2 n7 hk.cr e8 h99
  rw [ek]
  exact ⟨hk.ok, hR.keep h.n3.2.1, p3, (p2 2 (by omega)).trans e2, fun t et xt => ⟨((Fr.keep h.n3.2.1).tr0 Fr.set).tr0 (Fr.eqx et xt), ((hk.row p2 p1).eqx et).rel⟩⟩
end ROWS
