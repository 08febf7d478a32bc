/-! INVARIANT: the two sides between two calls (by hand) -/
set_option maxRecDepth 100000
/-- the image's cells, seen as a state's -/
def imA (A : Nat → Nat → Int32) : Nat → Nat → Int32 := fun k => A (k + 53)
/-- now, image, texts -/
def InvR (s : Sg) : Prop := ∃ N nt c e g N2 nt2 c2 e2 g2, RelX N nt c e g (s.A 626) s.A ∧ RelX N2 nt2 c2 e2 g2 (s.A 627) (imA s.A) ∧ nt2 ≤ nt ∧ (∀ t, t < nt2 → s.T (2 * t + 1) = s.T (2 * t)) ∧ ∀ t, t < nt → ∃ x ix cls L, TxI s.b (s.A 628) t (s.T (2 * t)) x ix cls L
def InvT (s : Sg) : Prop := ∃ p, p ≤ 300 ∧ s.S 4 = nI p ∧ s.S 100 = nI p ∧ TpR s (s.A 629) p
def TxB (b : AH) (v : Value) : Prop := TxV b v ∧ ∀ a : Nat, v = .ref a → a < 512 + b.n
def InvO (s : Sg) : Prop := (∀ j, j < 8 → TxB s.b (s.T j)) ∧ (s.S 101 = s.S 5 ∧ s.S 102 = s.S 6) ∧ (∃ k, s.S 16 = nI k) ∧ (∃ w, s.S 18 = b2i w) ∧ (∃ B : Nat → Bool, s.A 633 = fun j => b2i (B j)) ∧ BH s.b ∧ ∃ c d, s.b.g 0 = some (.inr (4, [.null, .null, .null, c, d]))
def Inv (s : Sg) : Prop := InvR s ∧ InvT s ∧ InvO s
/-- from a call to the next: the invariant again, some room used, the old cells as they were -/
def Nxt (s t : Sg) : Prop := Inv t ∧ Ext 5000 40000 s.b t.b
theorem TxB.ext {b b2 : AH} {v : Value} {c u : Nat} (h : TxB b v) (e : Ext c u b b2) : TxB b2 v := by
  obtain ⟨h, hb⟩ := h
  refine ⟨?_, fun a z => by have := hb a z; have := e.1; omega⟩
  rcases h with h | ⟨a, fs, h1, h2, h3⟩
  · exact Or.inl h
  · exact Or.inr ⟨a, fs, h1, h2, (e.2.2.2.2 a (hb a h2)).trans h3⟩
/-- what the system's doing leaves -/
def XF (s t : Sg) : Prop := (∀ k, 565 ≤ k → k < 640 → (k < 620 ∨ 625 ≤ k) → t.A k = s.A k) ∧ (∀ k, k ≠ 103 → t.S k = s.S k) ∧ t.T = s.T ∧ Ext 5000 40000 s.b t.b
/-- what the model's doing leaves -/
def MF (s t : Sg) : Prop := (∀ k, k < 630 → k ≠ 626 → t.A k = s.A k) ∧ (t.S 4 = s.S 4 ∧ t.S 5 = s.S 5 ∧ t.S 6 = s.S 6 ∧ t.S 16 = s.S 16 ∧ t.S 18 = s.S 18 ∧ t.S 100 = s.S 100 ∧ t.S 101 = s.S 101 ∧ t.S 102 = s.S 102) ∧ t.T = s.T ∧ t.b = s.b ∧ ∃ B : Nat → Bool, t.A 633 = fun j => b2i (B j)
theorem XF.refl (s : Sg) : XF s s := ⟨fun _ _ _ _ => rfl, fun _ _ => rfl, rfl, (Ext.refl _).mono (by decide) (by decide)⟩
theorem Inv.B {s : Sg} (h : Inv s) : ∃ B : Nat → Bool, s.A 633 = fun j => b2i (B j) := h.2.2.2.2.2.2.1
theorem Inv.BH {s : Sg} (h : Inv s) : BH s.b := h.2.2.2.2.2.2.2.1
theorem Inv.b {s : Sg} (h : Inv s) : 128 ≤ s.b.n := h.BH.1
theorem Inv.step {s t v : Sg} (h : Inv s) (x : XF s t) (m : MF t v) (r : Rel (v.A 626) v.A) (e1 : v.A 626 1 = s.A 626 1) : Nxt s v := by
  obtain ⟨⟨N, nt, c, e, g, N2, nt2, c2, e2, g2, hx, hi, hle, hT, htx⟩, ⟨p, p1, p2, p3, p4⟩, o1, ⟨o2, o3⟩, ⟨k4, o4⟩, ⟨w5, o5⟩, o6, o7, c8, d8, o8⟩ := h
  obtain ⟨x1, x2, x3, x4⟩ := x
  obtain ⟨m1, ⟨m4, m5, m6, m16, m18, m100, m101, m102⟩, m3, mb, mB⟩ := m
  obtain ⟨N', nt', c', e', g', hr⟩ := r
  have hnt : nt' = nt := by
    have q1 := hr.1.2.1.1
    have q2 := hx.1.2.1.1
    rw [e1, q2] at q1
    have := hr.1.2.1.2.2
    have := hx.1.2.1.2.2
    exact ((nI_eq (by omega) (by omega)).mp q1).symm
  subst hnt
  have eA : ∀ k, 565 ≤ k → k < 630 → (k < 620 ∨ 625 ≤ k) → k ≠ 626 → v.A k = s.A k := fun k a b d f => (m1 k b f).trans (x1 k a (by omega) d)
  have eb : Ext 5000 40000 s.b v.b := by rw [mb]; exact x4
  have eT : v.T = s.T := m3.trans x3
  refine ⟨⟨⟨N', nt', c', e', g', N2, nt2, c2, e2, g2, hr, ?_, hle, fun t ht => by rw [eT]; exact hT t ht, fun t ht => ?_⟩, ⟨p, p1, (m4.trans (x2 4 (by decide))).trans p2, (m100.trans (x2 100 (by decide))).trans p3, fun k hk => ?_⟩, fun j hj => by rw [eT]; exact (o1 j hj).ext eb, ⟨?_, ?_⟩, ⟨k4, (m16.trans (x2 16 (by decide))).trans o4⟩, ⟨w5, (m18.trans (x2 18 (by decide))).trans o5⟩, mB, o7.of eb.1 (fun k hk => eb.2.2.2.2 k (by omega)), c8, d8, (eb.2.2.2.2 0 (by omega)).trans o8⟩, eb⟩
  · rw [eA 627 (by decide) (by decide) (by decide) (by decide)]
    exact hi.to (fun j a b => eA (j + 53) (by omega) (by omega) (by omega) (by omega))
  · obtain ⟨x, ix, cls, L, q⟩ := htx t ht
    rw [eT, eA 628 (by decide) (by decide) (by decide) (by decide)]
    exact ⟨x, ix, cls, L, q.ext eb⟩
  · have q := p4 k hk
    rw [eA 629 (by decide) (by decide) (by decide) (by decide), eA 619 (by decide) (by decide) (by decide) (by decide)]
    exact q
  · rw [m101, m5, x2 101 (by decide), x2 5 (by decide)]; exact o2
  · rw [m102, m6, x2 102 (by decide), x2 6 (by decide)]; exact o3
/-- a question: both leave all but scratch -/
theorem Inv.ask {s t v : Sg} (h : Inv s) (x : XF s t) (m : MF t v) (xe : ∀ k, 514 ≤ k → k < 565 → t.A k = s.A k) (me : v.A 626 = t.A 626) : Nxt s v := by
  have e6 : v.A 626 = s.A 626 := me.trans (x.1 626 (by decide) (by decide) (by decide))
  refine h.step x m ?_ (by rw [e6])
  obtain ⟨⟨N, nt, c, e, g, N2, nt2, c2, e2, g2, hx, -⟩, -⟩ := h
  rw [e6]
  exact (hx.to (fun j a b => (m.1 j (by omega) (by omega)).trans (xe j a b))).rel
/-- a call of both: the same answer, the invariant again -/
def Both (s : Sg) (X M : Mt) (av : List Value) : Prop := ∃ (dx dm : Nat) (r : Int32) (t v : Sg), (dx ≤ 133 ∧ dm ≤ 133) ∧ Run dx X (.ref 512 :: av) (hp s) (.inl (some (.int r))) (hp t) ∧ Run dm M (.ref 625 :: av) (hp t) (.inl (some (.int r))) (hp v) ∧ Nxt s v ∧ t.b.g 500 = s.b.g 500
theorem MF.refl {s t : Sg} (h : Inv s) (x : XF s t) : MF t t := ⟨fun _ _ _ => rfl, ⟨rfl, rfl, rfl, rfl, rfl, rfl, rfl, rfl⟩, rfl, rfl, by rw [x.1 633 (by decide) (by decide) (by decide)]; exact h.B⟩
theorem Inv.same {s : Sg} (h : Inv s) : Nxt s s := h.ask (XF.refl s) (MF.refl h (XF.refl s)) (fun _ _ _ => rfl) rfl
theorem both_same {s : Sg} (h : Inv s) {X M : Mt} {av : List Value} {dx dm : Nat} {r r2 : Int32} (x : Run dx X (.ref 512 :: av) (hp s) (.inl (some (.int r))) (hp s)) (m : Run dm M (.ref 625 :: av) (hp s) (.inl (some (.int r2))) (hp s)) (e : r2 = r) (hd : dx ≤ 133 ∧ dm ≤ 133 := by decide) : Both s X M av := ⟨dx, dm, r, s, s, hd, x, e ▸ m, h.same, rfl⟩
/-- the system asks with scratch; the model too -/
theorem XF.eqx {s t : Sg} {c u : Nat} (e : EqX s t) (x : Ext c u s.b t.b) (hc : c ≤ 5000) (hu : u ≤ 40000) : XF s t := ⟨fun k _ _ h => e.A (by omega) (by omega), fun k _ => by rw [e.2.1], e.T, x.mono hc hu⟩
theorem XF.fr {s t : Sg} {c u : Nat} (f : Fr c u s t) (hc : c ≤ 5000) (hu : u ≤ 40000) : XF s t := ⟨fun k h1 h2 h => f.1 k (by omega) (by omega) (by omega) (by omega) (by omega), fun k _ => by rw [f.2.1], f.2.2.2.2.1, f.x.mono hc hu⟩
theorem sn_B {s : Sg} {N : Nat → Int32} {V : Nat → Int64} {B : Nat → Bool} : (sn s N V B).A 633 = fun j => b2i (B j) := by
  show (((s.setA 631 N).setV V).setA 633 (fun j => b2i (B j))).A 633 = _
  exact setA_at
theorem MF.sn0 {s : Sg} {N : Nat → Int32} {V : Nat → Int64} {B : Nat → Bool} : MF s (sn s N V B) := ⟨fun k h _ => sn_A (by omega) (by omega), ⟨rfl, rfl, rfl, rfl, rfl, rfl, rfl, rfl⟩, rfl, rfl, B, sn_B⟩
theorem MF.sn4 {s : Sg} {F N : Nat → Int32} {V : Nat → Int64} {B : Nat → Bool} : MF s (sn (s.setA 634 F) N V B) := ⟨fun k h _ => (sn_A (by omega) (by omega)).trans (setA_ne (by omega)), ⟨rfl, rfl, rfl, rfl, rfl, rfl, rfl, rfl⟩, rfl, rfl, B, sn_B⟩
theorem MF.sn6 {s : Sg} {b N : Nat → Int32} {V : Nat → Int64} {B : Nat → Bool} : MF s (sn (s.setA 626 b) N V B) := ⟨fun k h h2 => (sn_A (by omega) (by omega)).trans (setA_ne h2), ⟨rfl, rfl, rfl, rfl, rfl, rfl, rfl, rfl⟩, rfl, rfl, B, sn_B⟩
theorem sn_me {s : Sg} {B : Nat → Bool} (h : s.A 633 = fun j => b2i (B j)) : s = sn s (s.A 631) s.V B := by
  have e : up (up s.A 631 (s.A 631)) 633 (fun j => b2i (B j)) = s.A := by
    funext k
    by_cases z : k = 633
    · subst z; rw [up_eq, h]
    · rw [up_ne z]
      by_cases y : k = 631
      · subst y; rw [up_eq]
      · rw [up_ne y]
  show s = (up (up s.A 631 (s.A 631)) 633 (fun j => b2i (B j)), s.S, s.V, s.2.2.2)
  rw [e]
  rfl
/-- the law in force, for both -/
theorem Inv.law {s : Sg} (h : Inv s) : ∃ x L, Rl s x L ∧ LawM (s.A 626) (s.A 628) L := by
  obtain ⟨⟨N, nt, c, e, g, N2, nt2, c2, e2, g2, hx, hi, hle, hT, htx⟩, -, o1, -, -, -, -, o7, c8, d8, o8⟩ := h
  obtain ⟨-, ⟨-, -, n4⟩, ⟨q1, q2⟩, -⟩ := hx.1
  have x0 : ∀ {β : Type}, extF (none : Option ((Nat → Int32) → β)) := fun F h => by cases h
  rcases q2 with q2 | ⟨t, ht, q2⟩
  · have hneg : s.A 626 2 < 0 := by rw [q2]; decide
    exact ⟨0, (none, none, none), ⟨Or.inl ⟨q1.trans q2, rfl⟩, ⟨Or.inl rfl, by omega, .null, .null, .null, c8, d8, o8, rfl, rfl, rfl⟩, x0, x0, x0⟩, Or.inl ⟨hneg, rfl⟩, Or.inl ⟨hneg, rfl⟩, Or.inl ⟨hneg, rfl⟩, x0, x0, x0⟩
  · obtain ⟨x, ix, cls, L, q⟩ := htx t ht
    obtain ⟨l1, l2, l3⟩ := q.law (by omega) q2
    exact ⟨x, L, ⟨Or.inr ⟨t, by omega, q1.trans q2, q.1⟩, l2, l3⟩, l1⟩
