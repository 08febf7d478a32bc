/-! SYSTEM 21: chains under way (printed by tools/x21.py) -/
set_option maxRecDepth 100000
/-- what holds while a text is read -/
def TC (s : Sg) (T n : Nat) (t : Nat → Int32) : Prop := 640 ≤ T ∧ T < 512 + s.b.n ∧ TpR s t n ∧ n ≤ 300 ∧ BH s.b
def Tk (s : Sg) (T n : Nat) (t : Nat → Int32) (L : Lq) (nu op kd : Int32) : Sg := tkS s T n L.1 L.2.1 (sortS (byteF t n) L) nu op kd
/-- more cells; below lo nothing else than the reader changed -/
def ExT (T lo c u : Nat) (b b2 : AH) : Prop := b.n ≤ b2.n ∧ b2.n ≤ b.n + c ∧ b.u ≤ b2.u ∧ b2.u ≤ b.u + u ∧ ∀ k, k < lo → k ≠ T → b2.g k = b.g k
theorem ExT.refl (T lo : Nat) (b : AH) : ExT T lo 0 0 b b := ⟨Nat.le_refl _, Nat.le_refl _, Nat.le_refl _, Nat.le_refl _, fun _ _ _ => rfl⟩
theorem ExT.trans {T lo lo2 c u c2 u2 : Nat} {b b1 b2 : AH} (h : ExT T lo c u b b1) (k : ExT T lo2 c2 u2 b1 b2) (hl : lo ≤ lo2) : ExT T lo (c + c2) (u + u2) b b2 := by
  obtain ⟨h1, h2, h3, h4, h5⟩ := h
  obtain ⟨k1, k2, k3, k4, k5⟩ := k
  exact ⟨by omega, by omega, by omega, by omega, fun q hq hT => (k5 q (by omega) hT).trans (h5 q hq hT)⟩
theorem ExT.mono {T lo lo2 c u c2 u2 : Nat} {b b1 : AH} (h : ExT T lo c u b b1) (hl : lo2 ≤ lo) (hc : c ≤ c2) (hu : u ≤ u2) : ExT T lo2 c2 u2 b b1 := by
  obtain ⟨h1, h2, h3, h4, h5⟩ := h
  exact ⟨h1, by omega, h3, by omega, fun q hq hT => h5 q (by omega) hT⟩
theorem ExT.push {T lo : Nat} {b : AH} {c : AC} {w : Nat} (hl : lo ≤ 512 + b.n) : ExT T lo 1 w b (b.push c w) := ⟨Nat.le_succ _, Nat.le_refl _, Nat.le_add_right _ _, Nat.le_refl _, fun k hk _ => push_go (by omega)⟩
theorem TC.ext {s : Sg} {T n : Nat} {t : Nat → Int32} {lo c u : Nat} {b2 : AH} (h : TC s T n t) (x : ExT T lo c u s.b b2) (hl : 512 ≤ lo) : TC (s.setb b2) T n t := by
  have h1 := h.1
  have h2 := h.2.1
  have x1 := x.1
  exact ⟨h.1, by show T < 512 + b2.n; omega, h.2.2.1, h.2.2.2.1, h.2.2.2.2.of x.1 (fun k hk => x.2.2.2.2 k (by omega) (by omega))⟩
theorem tk_next {s : Sg} {T n : Nat} {t : Nat → Int32} (h : TC s T n t) (L0 : Lq) (i : Nat) {nu op kd : Int32} : ∃ nu2, NuOk (tkL t n L0 (i + 1)) nu2 ∧ Run 9 mX3_next [.ref T] (hp (Tk s T n t (tkL t n L0 i) nu op kd)) (.inl none) (hp (Tk s T n t (tkL t n L0 (i + 1)) nu2 op kd)) := by
  obtain ⟨e1, e2⟩ := tk_L (t := t) (n := n) (L0 := L0) h.2.2.2.1 i
  have q := r_X3_next h.1 h.2.2.1 h.2.2.2.1 h.2.2.2.2 (tk := (tkL t n L0 i).2.1) (so := sortS (byteF t n) (tkL t n L0 i)) (nu := nu) (op := op) (kd := kd) (tkL t n L0 i) (cI (tkL t n L0 i).1) e2
  rw [← e1] at q
  exact ⟨_, nu_lex, q⟩
theorem set_id {b : AH} {k : Nat} {c : AC} (h : b.g k = some c) : b.set k c = b := by
  refine congrArg (fun z => (b.n, b.u, z)) (funext fun j => ?_)
  show (if j = k then some c else b.g j) = b.g j
  by_cases e : j = k
  · rw [if_pos e, e, h]
  · rw [if_neg e]
/-- a heap that has the reader's cell as it is -/
theorem Tk_in {s : Sg} {T n : Nat} {t : Nat → Int32} {L : Lq} {nu op kd : Int32} {b : AH} (h : b.g T = (Tk s T n t L nu op kd).b.g T) : hp ((Tk s T n t L nu op kd).setb b) = hp (Tk (s.setb b) T n t L nu op kd) :=
  (hsb (s := s) (set_id (h.trans set_g))).symm
theorem Tk_n {s : Sg} {T n : Nat} {t : Nat → Int32} {L : Lq} {nu op kd : Int32} : (Tk s T n t L nu op kd).b.n = s.b.n ∧ (Tk s T n t L nu op kd).b.u = s.b.u := ⟨rfl, rfl⟩
theorem Tk_g {s : Sg} {T n : Nat} {t : Nat → Int32} {L : Lq} {nu op kd : Int32} {k : Nat} (h : k ≠ T) : (Tk s T n t L nu op kd).b.g k = s.b.g k := set_go h
theorem TC.bh {s : Sg} {T n : Nat} {t : Nat → Int32} {L : Lq} {nu op kd : Int32} (h : TC s T n t) : BH (Tk s T n t L nu op kd).b := h.2.2.2.2.of (Nat.le_refl _) (fun k hk => Tk_g (by have := h.1; omega))
/-- an end of either kind -/
def AXO (Q : OR × AH → Prop) (d : Nat) (M : Mt) (h : AH) (pc : Nat) (ls : List (Option Value)) (st : List Value) : Prop := ∃ oh : OR × AH, Q oh ∧ AW d M h pc ls st oh.1 oh.2
def RXO (Q : OR × AH → Prop) (d : Nat) (M : Mt) (av : List Value) (h : AH) : Prop := ∃ oh : OR × AH, Q oh ∧ Run d M av h oh.1 oh.2
section AXOS
variable {Q : OR × AH → Prop} {d : Nat} {M : Mt} {h h1 h2 : AH} {pc pc1 pc2 : Nat} {ls ls1 ls2 : List (Option Value)} {st st1 st2 : List Value}
theorem AXO.map (f : ∀ oh : OR × AH, AW d M h1 pc1 ls1 st1 oh.1 oh.2 → AW d M h pc ls st oh.1 oh.2) (k : AXO Q d M h1 pc1 ls1 st1) : AXO Q d M h pc ls st := by
  obtain ⟨oh, q, w⟩ := k
  exact ⟨oh, q, f oh w⟩
theorem AXO.br {C D : Prop} (f : ∀ oh : OR × AH, (C → AW d M h1 pc1 ls1 st1 oh.1 oh.2) → (D → AW d M h2 pc2 ls2 st2 oh.1 oh.2) → AW d M h pc ls st oh.1 oh.2) (hCD : C ∨ D) (hx : C → D → False) (kt : C → AXO Q d M h1 pc1 ls1 st1) (kf : D → AXO Q d M h2 pc2 ls2 st2) : AXO Q d M h pc ls st := by
  rcases hCD with c | c
  · obtain ⟨oh, q, w⟩ := kt c
    exact ⟨oh, q, f oh (fun _ => w) (fun c2 => (hx c c2).elim)⟩
  · obtain ⟨oh, q, w⟩ := kf c
    exact ⟨oh, q, f oh (fun c1 => (hx c1 c).elim) (fun _ => w)⟩
theorem AXO.brN {C : Prop} (f : ∀ oh : OR × AH, (C → AW d M h1 pc1 ls1 st1 oh.1 oh.2) → (¬ C → AW d M h2 pc2 ls2 st2 oh.1 oh.2) → AW d M h pc ls st oh.1 oh.2) (kt : C → AXO Q d M h1 pc1 ls1 st1) (kf : ¬ C → AXO Q d M h2 pc2 ls2 st2) : AXO Q d M h pc ls st := AXO.br f (Classical.em C) (fun a b => b a) kt kf
theorem AXO.brP {C : Prop} (f : ∀ oh : OR × AH, (¬ C → AW d M h1 pc1 ls1 st1 oh.1 oh.2) → (C → AW d M h2 pc2 ls2 st2 oh.1 oh.2) → AW d M h pc ls st oh.1 oh.2) (kt : ¬ C → AXO Q d M h1 pc1 ls1 st1) (kf : C → AXO Q d M h2 pc2 ls2 st2) : AXO Q d M h pc ls st := AXO.br f (Classical.em C).symm (fun a b => a b) kt kf
theorem AXO.brF {x : Bool} (f : ∀ oh : OR × AH, (x = false → AW d M h1 pc1 ls1 st1 oh.1 oh.2) → (x = true → AW d M h2 pc2 ls2 st2 oh.1 oh.2) → AW d M h pc ls st oh.1 oh.2) (kt : x = false → AXO Q d M h1 pc1 ls1 st1) (kf : x = true → AXO Q d M h2 pc2 ls2 st2) : AXO Q d M h pc ls st := AXO.br f (by cases x; exact Or.inl rfl; exact Or.inr rfl) (fun a b => Bool.noConfusion (a.symm.trans b)) kt kf
theorem AXO.brT {x : Bool} (f : ∀ oh : OR × AH, (x = true → AW d M h1 pc1 ls1 st1 oh.1 oh.2) → (x = false → AW d M h2 pc2 ls2 st2 oh.1 oh.2) → AW d M h pc ls st oh.1 oh.2) (kt : x = true → AXO Q d M h1 pc1 ls1 st1) (kf : x = false → AXO Q d M h2 pc2 ls2 st2) : AXO Q d M h pc ls st := AXO.br f (by cases x; exact Or.inr rfl; exact Or.inl rfl) (fun a b => Bool.noConfusion (a.symm.trans b)) kt kf
theorem AXO.lsE (e : ls = ls1) (k : AXO Q d M h pc ls1 st) : AXO Q d M h pc ls st := e ▸ k
theorem AXO.stE (e : st = st1) (k : AXO Q d M h pc ls st1) : AXO Q d M h pc ls st := e ▸ k
theorem AXO.hpE (e : h = h1) (k : AXO Q d M h1 pc ls st) : AXO Q d M h pc ls st := e ▸ k
theorem AXO.fgE (k : Nat) (e : ls.set k none = ls2) (w : AXO Q d M h pc ls2 st) : AXO Q d M h pc ls st := AXO.map (fun _ q => AW.fg k e q) w
theorem AXO.mono {Q2 : OR × AH → Prop} (f : ∀ oh, Q oh → Q2 oh) (k : AXO Q d M h pc ls st) : AXO Q2 d M h pc ls st := by
  obtain ⟨oh, q, w⟩ := k
  exact ⟨oh, f oh q, w⟩
theorem RXO.of {av : List Value} (hy : plainName M.1.cls = true) (hlen : (entL av).length ≤ M.2.2.1) (hls : entL av ++ List.replicate (M.2.2.1 - (entL av).length) none = ls) (k : AXO Q d M h 0 ls []) : RXO Q d M av h := by
  obtain ⟨⟨o, h'⟩, q, w⟩ := k
  cases o with
  | inl r => exact ⟨_, q, Run.of hy hlen hls w⟩
  | inr r => exact ⟨_, q, Run.ofX hy hlen hls w⟩
end AXOS
theorem FnO.widen {x : MethodName} {lo hi lo2 hi2 : Nat} {b : AH} {d d2 a : Nat} {G : (Nat → Int32) → Value} (h : FnO x lo hi b d a G) (h1 : 640 ≤ lo2) (h2 : lo2 ≤ lo) (h3 : hi ≤ hi2) (h4 : hi2 ≤ 512 + b.n) (hd : d ≤ d2) : FnO x lo2 hi2 b d2 a G := by
  obtain ⟨x1, ⟨x2, x3, x4, x5⟩, ci, fs, rC, Y, y1, y2, y3, y4, y5, y6, y7, y8, yc, y9⟩ := h
  exact ⟨x1, ⟨h1, by omega, by omega, h4⟩, ci, fs, rC, Y, y1, y2, y3, y4, y5, y6, y7, y8, yc, fun dd s hdd hs => y9 dd s (by omega) (fun k hk => hs k (by omega))⟩
theorem FnO.obj {x : MethodName} {lo hi : Nat} {b : AH} {d a : Nat} {G : (Nat → Int32) → Value} (h : FnO x lo hi b d a G) : ObjR b (.ref a) := by
  obtain ⟨x1, ⟨x2, x3, x4, x5⟩, ci, fs, rC, Y, y1, y2, y3, y4, y5, y6, y7, y8, yc, y9⟩ := h
  exact ⟨a, ci, fs, rC, rfl, nfx x1, by omega, y2, y1, yc.2⟩
theorem FnO.at_ {x : MethodName} {lo hi : Nat} {b : AH} {d a : Nat} {G : (Nat → Int32) → Value} (h : FnO x lo hi b d a G) : 640 ≤ lo ∧ lo ≤ a ∧ a < hi ∧ hi ≤ 512 + b.n := h.2.1
theorem AL.cg {b : AH} {D E n i : Nat} {f g : Nat → Value} (h : AL b D E n i f) (e : ∀ j, j < n → g j = f j) : AL b D E n i g := by
  obtain ⟨h1, h2, h3, h4, h5, h6, h7, h8⟩ := h
  refine ⟨h1, h2, h3, h4, h5, h6, fun j hj => by rw [e j hj]; exact h7 j hj, h8.imp id (fun ⟨a1, a2, a3, a4, gg, a5, a6⟩ => ⟨a1, a2, a3, a4, gg, a5, fun j hj => (a6 j hj).trans (e j hj).symm⟩)⟩
/-- a list in a heap that has its cells and its elements as they were -/
theorem AL.by_ {b b2 : AH} {D E n i : Nat} {f : Nat → Value} (h : AL b D E n i f) (hn : b.n ≤ b2.n) (eD : b2.g D = b.g D) (eE : E = 2 ∨ b2.g E = b.g E) (ho : ∀ j, j < n → ObjR b2 (f j)) : AL b2 D E n i f := by
  obtain ⟨h1, h2, ⟨m, h3⟩, h4, h5, h6, h7, h8⟩ := h
  refine ⟨h1, by omega, ⟨m, eD.trans h3⟩, h4, h5, h6, ho, ?_⟩
  rcases h8 with h8 | ⟨a1, a2, a3, a4, gg, a5, a6⟩
  · exact Or.inl h8
  · rcases eE with e | e
    · omega
    · exact Or.inr ⟨a1, a2, by omega, a4, gg, e.trans a5, a6⟩
/-- a chain under way: its object, m elements behind the first; what it says -/
def ChC (b : AH) (lo top D c m i1 i2 : Nat) (F : SumF) : Prop := ∃ (x1 lo1 hi1 Mo E So E2 : Nat) (F1 : SumF) (av los his iv : Nat → Nat) (Fs : Nat → SumF) (sg : Nat → Int32),
  (640 ≤ lo ∧ lo ≤ c ∧ c < 512 + b.n ∧ b.g c = some (.inr (6, [.ref x1, .ref Mo, .ref So]))) ∧
  (c < top ∧ Mo < top ∧ So < top ∧ E < top ∧ E2 < top ∧ top ≤ 512 + b.n) ∧
  AL b Mo E m i1 (fun k => .ref (av k)) ∧ AL b So E2 m i2 (fun k => .ref (iv k)) ∧
  (lo ≤ Mo ∧ lo ≤ So ∧ (E = 2 ∨ lo ≤ E) ∧ (E2 = 2 ∨ lo ≤ E2)) ∧
  (c ≠ Mo ∧ c ≠ So ∧ Mo ≠ So ∧ c ≠ E ∧ c ≠ E2 ∧ Mo ≠ E2 ∧ So ≠ E ∧ (E = 2 ∨ E ≠ E2)) ∧
  (SumO lo1 hi1 b D x1 F1 ∧ lo ≤ lo1 ∧ ∀ z, (z = c ∨ z = Mo ∨ z = So ∨ z = E ∨ z = E2) → z < lo1 ∨ hi1 ≤ z) ∧
  (∀ k, k < m → SumO (los k) (his k) b D (av k) (Fs k) ∧ lo ≤ los k ∧ ∀ z, (z = c ∨ z = Mo ∨ z = So ∨ z = E ∨ z = E2) → z < los k ∨ his k ≤ z) ∧
  (∀ k, k < m → iv k < 512 ∧ b.g (iv k) = some (.inr (17, [.int (sg k)]))) ∧
  F = chX F1 Fs sg m
theorem AL.D_ {b : AH} {D E n i : Nat} {f : Nat → Value} (h : AL b D E n i f) : 640 ≤ D ∧ D < 512 + b.n ∧ (E = 2 ∨ (640 ≤ E ∧ E < 512 + b.n)) ∧ capN i ≤ 10 * n := by
  obtain ⟨h1, h2, h3, h4, h5, h6, h7, h8⟩ := h
  refine ⟨h1, h2, ?_, h6⟩
  rcases h8 with h8 | h8
  · exact Or.inl h8.2
  · exact Or.inr ⟨h8.2.1, h8.2.2.1⟩
/-- a chain in a heap that is the same from lo on, and among what was there before -/
theorem ChC.by_ {b b2 : AH} {lo top D c m i1 i2 : Nat} {F : SumF} (h : ChC b lo top D c m i1 i2 F) (hn : b.n ≤ b2.n) (e : ∀ k, k < 512 + b.n → (k < 512 ∨ lo ≤ k) → b2.g k = b.g k) : ChC b2 lo top D c m i1 i2 F := by
  obtain ⟨x1, lo1, hi1, Mo, E, So, E2, F1, av, los, his, iv, Fs, sg, ⟨h1, h2, h3, h4⟩, ht, h5, h6, h7, h8, ⟨h9, h10, h11⟩, h12, h13, h14⟩ := h
  have d5 := h5.D_
  have d6 := h6.D_
  have a9 := FnO.at_ h9
  have su : ∀ {lo1 hi1 x1 : Nat} {F1 : SumF}, SumO lo1 hi1 b D x1 F1 → lo ≤ lo1 → SumO lo1 hi1 b2 D x1 F1 := fun k hk => FnO.ext k hn (fun j hj => e j (by have := FnO.at_ k; omega) (by omega))
  have su2 : ∀ k, k < m → SumO (los k) (his k) b2 D (av k) (Fs k) := fun k hk => su (h12 k hk).1 (h12 k hk).2.1
  have e13 : ∀ k, k < m → b2.g (iv k) = b.g (iv k) := fun k hk => e _ (by have := (h13 k hk).1; omega) (Or.inl (h13 k hk).1)
  refine ⟨x1, lo1, hi1, Mo, E, So, E2, F1, av, los, his, iv, Fs, sg, ⟨h1, h2, by omega, (e c h3 (Or.inr h2)).trans h4⟩, ⟨ht.1, ht.2.1, ht.2.2.1, ht.2.2.2.1, ht.2.2.2.2.1, by have := ht.2.2.2.2.2; omega⟩, h5.by_ hn (e Mo d5.2.1 (Or.inr h7.1)) ?_ (fun j hj => FnO.obj (su2 j hj)), h6.by_ hn (e So d6.2.1 (Or.inr h7.2.1)) ?_ (fun j hj => ?_), h7, h8, ⟨su h9 h10, h10, h11⟩, fun k hk => ⟨su2 k hk, (h12 k hk).2⟩, fun k hk => ⟨(h13 k hk).1, (e13 k hk).trans (h13 k hk).2⟩, h14⟩
  · rcases d5.2.2.1 with q | q
    · exact Or.inl q
    · exact Or.inr (e E q.2 (by omega))
  · rcases d6.2.2.1 with q | q
    · exact Or.inl q
    · exact Or.inr (e E2 q.2 (by omega))
  · have := h13 j hj
    exact ⟨iv j, 17, _, _, rfl, by unfold isFx; rw [decide_eq_false (by omega : ¬ 512 ≤ iv j), Bool.false_and], by omega, (e13 j hj).trans this.2, rfl, q2040⟩
theorem ch_new {s : Sg} {c f : Nat} (hb : 128 ≤ s.b.n) (hc : 640 ≤ c) (hcl : c < 512 + s.b.n) (gc : s.b.g c = some (.inr (6, [.null, .null, .null]))) : Run 6 mX6_init [.ref c, .ref f] (hp s) (.inl none) (hp (s.setb (((s.b.push (.inr (16, [.int 0, .ref 2, .int 0])) 3).push (.inr (16, [.int 0, .ref 2, .int 0])) 3).set c (.inr (6, [.ref f, .ref (512 + s.b.n), .ref (512 + (s.b.n + 1))]))))) := by
  have ga : (hp (s.setb (s.b.push (.inr (16, [.int 0, .ref 2, .int 0])) 3))).g c = some (.inr (6, [.null, .null, .null])) := (hp_gb (nfx hc)).trans ((push_go (by omega)).trans gc)
  have gb : (hp (s.setb (((s.b.push (.inr (16, [.int 0, .ref 2, .int 0])) 3).push (.inr (16, [.int 0, .ref 2, .int 0])) 3).set c (.inr (6, [.null, .ref (512 + s.b.n), .null]))))).g c = some (.inr (6, [.null, .ref (512 + s.b.n), .null])) := (hp_gb (nfx hc)).trans set_g
  have gd : (hp (s.setb (((s.b.push (.inr (16, [.int 0, .ref 2, .int 0])) 3).push (.inr (16, [.int 0, .ref 2, .int 0])) 3).set c (.inr (6, [.null, .ref (512 + s.b.n), .ref (512 + (s.b.n + 1))]))))).g c = some (.inr (6, [.null, .ref (512 + s.b.n), .ref (512 + (s.b.n + 1))])) := (hp_gb (nfx hc)).trans set_g
  have i1 := r_J2_init (s := s.setb (s.b.push (.inr (16, [.int 0, .null, .int 0])) 3)) (D := (512 + s.b.n)) (v := .null) (m := 0) (by omega) push_g
  rw [show (s.setb (s.b.push (.inr (16, [.int 0, .null, .int 0])) 3)).setb ((s.setb (s.b.push (.inr (16, [.int 0, .null, .int 0])) 3)).b.set (512 + s.b.n) (.inr (16, [.int 0, .ref 2, .int 0]))) = s.setb (s.b.push (.inr (16, [.int 0, .ref 2, .int 0])) 3) from congrArg s.setb push_set] at i1
  have i2 := r_J2_init (s := s.setb (((s.b.push (.inr (16, [.int 0, .ref 2, .int 0])) 3).push (.inr (16, [.int 0, .null, .int 0])) 3).set c (.inr (6, [.null, .ref (512 + s.b.n), .null])))) (D := (512 + (s.b.n + 1))) (v := .null) (m := 0) (by omega) ((set_go (by omega)).trans push_g)
  rw [show (s.setb (((s.b.push (.inr (16, [.int 0, .ref 2, .int 0])) 3).push (.inr (16, [.int 0, .null, .int 0])) 3).set c (.inr (6, [.null, .ref (512 + s.b.n), .null])))).setb ((s.setb (((s.b.push (.inr (16, [.int 0, .ref 2, .int 0])) 3).push (.inr (16, [.int 0, .null, .int 0])) 3).set c (.inr (6, [.null, .ref (512 + s.b.n), .null])))).b.set (512 + (s.b.n + 1)) (.inr (16, [.int 0, .ref 2, .int 0]))) = s.setb (((s.b.push (.inr (16, [.int 0, .ref 2, .int 0])) 3).push (.inr (16, [.int 0, .ref 2, .int 0])) 3).set c (.inr (6, [.null, .ref (512 + s.b.n), .null]))) from congrArg s.setb ((sset_set (by omega)).trans (congrArg (fun z => AH.set z c (.inr (6, [.null, .ref (512 + s.b.n), .null]))) push_set))] at i2
  refine Run.of rfl (Nat.le_of_ble_eq_true rfl) rfl ?_
  refine AW.aload_n dX6_init_0 rfl rfl ?_
  refine AW.obj dX6_init_1 q610 q178 q179 (by decide) rfl (by decide) rfl ?_
  refine AW.aload_n dX6_init_4 rfl rfl ?_
  refine AW.new ci16 dX6_init_5 q611 q340 q146 dfJ2 (hp_push hb) rfl ?_
  refine AW.dup dX6_init_8 rfl rfl ?_
  refine AW.callI (Y := mJ2_init) (n := 0) (i1) (by decide) (by decide) rfl q612 q342 q146 q343 dX6_init_9 rfl (by decide +kernel) rfl rfl (Nat.le_of_ble_eq_true rfl) rfl ?_
  refine AW.putF ci6 1 (by decide) q614 dX6_init_12 (by omega) ga rfl rfl rfl (fun _ => rfl) (fun _ => rfl) (Nat.le_of_ble_eq_true rfl) ((hp_set6 hc) : _ = hp (s.setb ((s.b.push (.inr (16, [.int 0, .ref 2, .int 0])) 3).set c (.inr (6, [.null, .ref (512 + s.b.n), .null]))))) rfl ?_
  refine AW.aload_n dX6_init_15 rfl rfl ?_
  refine AW.new ci16 dX6_init_16 q611 q340 q146 dfJ2 ((hp_push (s := s.setb ((s.b.push (.inr (16, [.int 0, .ref 2, .int 0])) 3).set c (.inr (6, [.null, .ref (512 + s.b.n), .null])))) (show 128 ≤ s.b.n + 1 by omega)).trans (hsb (s := s) (sset_push (show c < 512 + (s.b.n + 1) by omega)))) rfl ?_
  refine AW.dup dX6_init_19 rfl rfl ?_
  refine AW.callI (Y := mJ2_init) (n := 0) (i2) (by decide) (by decide) rfl q612 q342 q146 q343 dX6_init_20 rfl (by decide +kernel) rfl rfl (Nat.le_of_ble_eq_true rfl) rfl ?_
  refine AW.putF ci6 2 (by decide) q615 dX6_init_23 (by omega) gb rfl rfl rfl (fun _ => rfl) (fun _ => rfl) (Nat.le_of_ble_eq_true rfl) ((hp_set6 (s := s.setb (((s.b.push (.inr (16, [.int 0, .ref 2, .int 0])) 3).push (.inr (16, [.int 0, .ref 2, .int 0])) 3).set c (.inr (6, [.null, .ref (512 + s.b.n), .null])))) hc).trans (hsb (s := s) (set_set (b := ((s.b.push (.inr (16, [.int 0, .ref 2, .int 0])) 3).push (.inr (16, [.int 0, .ref 2, .int 0])) 3)) (k := c))) : _ = hp (s.setb (((s.b.push (.inr (16, [.int 0, .ref 2, .int 0])) 3).push (.inr (16, [.int 0, .ref 2, .int 0])) 3).set c (.inr (6, [.null, .ref (512 + s.b.n), .ref (512 + (s.b.n + 1))]))))) rfl ?_
  refine AW.aload_n dX6_init_26 rfl rfl ?_
  refine AW.aload_n dX6_init_27 rfl rfl ?_
  refine AW.putF ci6 0 (by decide) q613 dX6_init_28 (by omega) gd rfl rfl rfl (fun _ => rfl) (fun _ => rfl) (Nat.le_of_ble_eq_true rfl) ((hp_set6 (s := s.setb (((s.b.push (.inr (16, [.int 0, .ref 2, .int 0])) 3).push (.inr (16, [.int 0, .ref 2, .int 0])) 3).set c (.inr (6, [.null, .ref (512 + s.b.n), .ref (512 + (s.b.n + 1))])))) hc).trans (hsb (s := s) (set_set (b := ((s.b.push (.inr (16, [.int 0, .ref 2, .int 0])) 3).push (.inr (16, [.int 0, .ref 2, .int 0])) 3)) (k := c))) : _ = hp (s.setb (((s.b.push (.inr (16, [.int 0, .ref 2, .int 0])) 3).push (.inr (16, [.int 0, .ref 2, .int 0])) 3).set c (.inr (6, [.ref f, .ref (512 + s.b.n), .ref (512 + (s.b.n + 1))]))))) rfl ?_
  exact AW.vretE dX6_init_31 rfl rfl rfl
/-- a chain begun -/
theorem ch_first {s : Sg} {c f : Nat} {lo D : Nat} {F : SumF} (hlo : 640 ≤ lo) (hc : lo ≤ c) (hcl : c < 512 + s.b.n) {lo1 hi1 : Nat} (hf : SumO lo1 hi1 s.b D f F) (h1 : c < lo1) : ChC (((s.b.push (.inr (16, [.int 0, .ref 2, .int 0])) 3).push (.inr (16, [.int 0, .ref 2, .int 0])) 3).set c (.inr (6, [.ref f, .ref (512 + s.b.n), .ref (512 + (s.b.n + 1))]))) lo (512 + (s.b.n + 1 + 1)) D c 0 0 0 F := by
  have a := FnO.at_ hf
  refine ⟨f, lo1, hi1, (512 + s.b.n), 2, (512 + (s.b.n + 1)), 2, F, fun _ => 0, fun _ => 0, fun _ => 0, fun _ => 0, fun _ => F, fun _ => 0, ⟨hlo, hc, by show c < 512 + (s.b.n + 1 + 1); omega, set_g⟩, ⟨by omega, by omega, by omega, by omega, by omega, Nat.le_refl _⟩, ⟨by omega, by show _ < 512 + (s.b.n + 1 + 1); omega, ⟨0, (set_go (by omega)).trans ((push_go (by show 512 + s.b.n ≠ 512 + (s.b.n + 1); omega)).trans push_g)⟩, Nat.le_refl _, by decide, Nat.le_refl _, fun j hj => absurd hj (Nat.not_lt_zero j), Or.inl ⟨rfl, rfl⟩⟩, ⟨by omega, by show _ < 512 + (s.b.n + 1 + 1); omega, ⟨0, (set_go (by omega)).trans push_g⟩, Nat.le_refl _, by decide, Nat.le_refl _, fun j hj => absurd hj (Nat.not_lt_zero j), Or.inl ⟨rfl, rfl⟩⟩, ⟨by omega, by omega, Or.inl rfl, Or.inl rfl⟩, ⟨by omega, by omega, by omega, by omega, by omega, by omega, by omega, Or.inl rfl⟩, ⟨FnO.ext hf (by show s.b.n ≤ s.b.n + 1 + 1; omega) (fun k hk => (set_go (by omega)).trans ((push_go (by show k ≠ 512 + (s.b.n + 1); omega)).trans (push_go (by omega)))), by omega, fun z hz => by omega⟩, fun k hk => absurd hk (Nat.not_lt_zero k), fun k hk => absurd hk (Nat.not_lt_zero k), rfl⟩
