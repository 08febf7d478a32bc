/-! REL: the model's row of numbers and the system's rows say the same (by hand) -/
set_option maxRecDepth 100000
def shOk (x : Int32) : Prop := (∃ m, m < 1048576 ∧ x = nI m) ∧ pcN x ≤ 3
def puOk (x : Int32) : Prop := ∃ m, m ≤ 9999 ∧ x = nI m
def frOk (x : Int32) : Prop := ∃ m, m ≤ 99 ∧ x = nI m
def HouR (H r : Nat → Int32) (h : Nat) : Prop := (r (3 + h) = H 0 ∧ shOk (H 0)) ∧ (r (10 + h) = H 1 ∧ puOk (H 1)) ∧ (r (17 + h) = H 2 ∧ frOk (H 2)) ∧ H 3 = b2i (tb (r 2) h)
def PagR (e x y z : Int32) : Prop := ∃ d h s, d ≤ 9999 ∧ h ≤ 6 ∧ s ≤ 1 ∧ x = nI d ∧ y = nI h ∧ z = nI s ∧ e = nI (16 * d + 2 * h + s)
def RowR (N : Nat) (day draw : Int32) (w : Nat) (H : Nat → Nat → Int32) (bk r : Nat → Int32) : Prop :=
  (r 0 = day ∧ ∃ d, d ≤ 9999 ∧ day = nI d) ∧ (r 1 = draw ∧ ∃ q, q < 30431 ∧ draw = nI q) ∧ (r 24 = nI w ∧ w ≤ 40 ∧ ∀ i, i < w → PagR (bk i) (r (25 + 3 * i)) (r (26 + 3 * i)) (r (27 + 3 * i))) ∧ (∀ h, h < N → HouR (H h) r h) ∧ ∀ i, N ≤ i → tb (r 2) i = false
def CurH (a : Nat → Int32) (h k : Nat) : Int32 := a (12 + 8 * h + k)
def CurR (N : Nat) (a r : Nat → Int32) : Prop := ∃ w, a 10 = nI w ∧ RowR N (a 8) (a 9) w (CurH a) (fun i => a (2268 + i)) r
/-- a step's houses: those it had, and of those told later what was told -/
def StH (a : Nat → Int32) (x m h k : Nat) : Int32 := if h < m then a (x + 4 + 4 * h + k) else if k < 3 then a (12 + 8 * h + 4 + k) else 0
def StpR (N : Nat) (a : Nat → Int32) (x : Nat) (r : Nat → Int32) : Prop := ∃ m w, m ≤ N ∧ a x = nI m ∧ a (x + 3) = nI w ∧ RowR N (a (x + 1)) (a (x + 2)) w (StH a x m) (fun i => a (x + 32 + i)) r
def TolR (N : Nat) (a : Nat → Int32) : Prop := ∀ h, h < N → shOk (a (12 + 8 * h + 4)) ∧ puOk (a (12 + 8 * h + 5)) ∧ frOk (a (12 + 8 * h + 6))
def StsR (N c : Nat) (a : Nat → Int32) (A : Nat → Nat → Int32) : Prop := ∀ i, i < c → StpR N a (108 + 72 * i) (A (535 + i))
def SeeR (e : Nat) (a : Nat → Int32) (A : Nat → Nat → Int32) : Prop := ∀ i, i < e → A (517 + i) 0 = a (68 + 3 * i) ∧ A (517 + i) 1 = a (68 + 3 * i + 1) ∧ A (517 + i) 2 = a (68 + 3 * i + 2) ∧ (∃ d, d < 20 ∧ a (68 + 3 * i + 1) = nI d) ∧ ∃ z, z ≤ 1 ∧ a (68 + 3 * i + 2) = nI z
def GosR (N g : Nat) (a : Nat → Int32) (A : Nat → Nat → Int32) : Prop := ∀ i, i < g → A (526 + i) 0 = a (92 + 2 * i) ∧ A (526 + i) 1 = a (92 + 2 * i + 1) ∧ (∃ p, p < N ∧ a (92 + 2 * i) = nI p) ∧ ∃ p, p < N ∧ a (92 + 2 * i + 1) = nI p
def HdR (N nt c e g : Nat) (a n : Nat → Int32) : Prop := (a 0 = nI N ∧ n 0 = nI N ∧ N ≤ 7) ∧ (a 1 = nI nt ∧ n 1 = nI nt ∧ nt ≤ 4) ∧ (n 2 = a 2 ∧ (a 2 = -1 ∨ ∃ t, t < nt ∧ a 2 = nI t)) ∧ (a 3 = nI c ∧ n 3 = nI c ∧ c ≤ 30) ∧ (a 4 = nI e ∧ n 4 = nI e ∧ e ≤ 8) ∧ (a 5 = nI g ∧ n 5 = nI g ∧ g ≤ 8)
def RelX (N nt c e g : Nat) (a : Nat → Int32) (A : Nat → Nat → Int32) : Prop := HdR N nt c e g a (A 514) ∧ TolR N a ∧ CurR N a (A 515) ∧ StsR N c a A ∧ SeeR e a A ∧ GosR N g a A
def Rel (a : Nat → Int32) (A : Nat → Nat → Int32) : Prop := ∃ N nt c e g, RelX N nt c e g a A
section VIEWS
variable {N nt c e g : Nat} {a r : Nat → Int32} {A : Nat → Nat → Int32}
theorem c3_at {k : Nat} (h : k < 100) : cI ((3 : Int32) + nI k) = 3 + k := at1 3 k (by omega)
theorem c10_at {k : Nat} (h : k < 100) : cI ((10 : Int32) + nI k) = 10 + k := at1 10 k (by omega)
theorem c17_at {k : Nat} (h : k < 100) : cI ((17 : Int32) + nI k) = 17 + k := at1 17 k (by omega)
theorem g0_n {k : Nat} (h : k < 8) : gtM a (nI k) 0 = a (12 + 8 * k + 0) := gtM_n (k := 0) h (by decide)
theorem g1_n {k : Nat} (h : k < 8) : gtM a (nI k) 1 = a (12 + 8 * k + 1) := gtM_n (k := 1) h (by decide)
theorem g2_n {k : Nat} (h : k < 8) : gtM a (nI k) 2 = a (12 + 8 * k + 2) := gtM_n (k := 2) h (by decide)
theorem g3_n {k : Nat} (h : k < 8) : gtM a (nI k) 3 = a (12 + 8 * k + 3) := gtM_n (k := 3) h (by decide)
theorem okN (h : a 0 = nI N) (h7 : N ≤ 7) : (vwM a).ok := by
  show 0 ≤ (a 0).toInt ∧ (a 0).toInt ≤ 7
  rw [h, nI_t (by omega)]
  omega
theorem hou_N (h : a 0 = nI N) (h7 : N ≤ 7) {x : Int32} (hx : inI x 0 (a 0 - 1) = true) : ∃ k, k < N ∧ x = nI k := by
  have q := Vw.hou_b (v := vwM a) (okN h h7) hx
  have e : (vwM a).N.toInt = (N : Int) := by show (a 0).toInt = _; rw [h, nI_t (by omega)]
  refine ⟨cI x, ?_, (nI_cI q.1).symm⟩
  have := cI_of q.1
  omega
theorem N_hou (h : a 0 = nI N) (h7 : N ≤ 7) {k : Nat} (hk : k < N) : (vwM a).hou (nI k) = true := by
  refine Vw.hou_of (okN h h7) ?_ ?_
  · rw [nI_t (by omega)]; omega
  · show _ < (a 0).toInt
    rw [h, nI_t (by omega), nI_t (by omega)]
    omega
theorem vw_eq {n : Nat → Int32} (h0 : a 0 = nI N) (n0 : n 0 = nI N) (h7 : N ≤ 7) (hc : ∀ h, h < N → HouR (CurH a h) r h) : vwM a = vwS n r := by
  have en : n 0 = a 0 := n0.trans h0.symm
  unfold vwM vwS
  rw [en]
  refine Prod.ext rfl (Prod.ext (funext fun h => ?_) (Prod.ext (funext fun h => ?_) (Prod.ext (funext fun h => ?_) (funext fun h => ?_))))
  all_goals
    dsimp only
    by_cases hh : inI h 0 (a 0 - 1) = true
    · rw [if_pos hh, if_pos hh]
      obtain ⟨k, hk, rfl⟩ := hou_N h0 h7 hh
      obtain ⟨⟨q1, -⟩, ⟨q2, -⟩, ⟨q3, -⟩, q4⟩ := hc k hk
      first
        | (rw [g3_n (by omega), has_tb (by omega)]
           have q5 : a (12 + 8 * k + 3) = b2i (tb (r 2) k) := q4
           rw [q5]
           cases tb (r 2) k <;> rfl)
        | (rw [g0_n (by omega), c3_at (by omega)]; exact q1.symm)
        | (rw [g1_n (by omega), c10_at (by omega)]; exact q2.symm)
        | (rw [g2_n (by omega), c17_at (by omega)]; exact q3.symm)
    · rw [if_neg hh, if_neg hh]
theorem bk_eq {w : Nat} (h10 : a 10 = nI w) (h24 : r 24 = nI w) (h40 : w ≤ 40) (hc : ∀ i, i < w → PagR (a (2268 + i)) (r (25 + 3 * i)) (r (26 + 3 * i)) (r (27 + 3 * i))) : bkM a = bkS r := by
  unfold bkM bkS
  rw [h10, h24]
  have ew : cI (nI w) = w := cI_nI (by omega)
  rw [ew]
  refine Prod.ext rfl (Prod.ext (funext fun i => ?_) (Prod.ext (funext fun i => ?_) (funext fun i => ?_)))
  all_goals
    dsimp only
    by_cases hi : i < w
    · rw [if_pos hi, if_pos hi]
      obtain ⟨d, h, s, d1, h1, s1, ex, ey, ez, ee⟩ := hc i hi
      first
        | (rw [ee, ex, show (16 : Int32) = nI 16 from rfl, nI_div (by omega) (by omega), show (16 * d + 2 * h + s) / 16 = d by omega])
        | (rw [ee, ey, show (2 : Int32) = nI 2 from rfl, nI_div (by omega) (by omega), show (8 : Int32) = nI 8 from rfl, nI_rem (by omega) (by omega), show (16 * d + 2 * h + s) / 2 % 8 = h by omega])
        | (rw [ee, ez, show (2 : Int32) = nI 2 from rfl, nI_rem (by omega) (by omega), show (16 * d + 2 * h + s) % 2 = s by omega])
    · rw [if_neg hi, if_neg hi]
theorem RelX.vw (h : RelX N nt c e g a A) : vwM a = vwS (A 514) (A 515) := by
  obtain ⟨⟨⟨h1, h2, h3⟩, -⟩, -, ⟨w, -, -, -, -, hc, -⟩, -⟩ := h
  exact vw_eq h1 h2 h3 hc
theorem RelX.bk (h : RelX N nt c e g a A) : bkM a = bkS (A 515) := by
  obtain ⟨-, -, ⟨w, h10, -, -, ⟨h24, h40, hp⟩, -⟩, -⟩ := h
  exact bk_eq h10 h24 h40 hp
theorem RelX.gw (h : RelX N nt c e g a A) : gwM a = gwS A := by
  obtain ⟨⟨-, -, -, -, -, h5, n5, g8⟩, -, -, -, -, hg⟩ := h
  unfold gwM gwS
  rw [h5, n5]
  have ew : cI (nI g) = g := cI_nI (by omega)
  rw [ew]
  refine Prod.ext rfl (Prod.ext (funext fun i => ?_) (funext fun i => ?_))
  all_goals
    dsimp only
    by_cases hi : i < g
    · rw [if_pos hi, if_pos hi]
      obtain ⟨p, q, -⟩ := hg i hi
      first | exact p.symm | exact q.symm
    · rw [if_neg hi, if_neg hi]
theorem RelX.ew (h : RelX N nt c e g a A) : ewM a = ewS A := by
  obtain ⟨⟨-, -, -, -, ⟨h5, n5, g8⟩, -⟩, -, -, -, hg, -⟩ := h
  unfold ewM ewS
  rw [h5, n5]
  have ew : cI (nI e) = e := cI_nI (by omega)
  rw [ew]
  refine Prod.ext rfl (Prod.ext (funext fun i => ?_) (Prod.ext (funext fun i => ?_) (funext fun i => ?_)))
  all_goals
    dsimp only
    by_cases hi : i < e
    · rw [if_pos hi, if_pos hi]
      obtain ⟨p, q, z, -⟩ := hg i hi
      first | exact p.symm | exact q.symm | exact z.symm
    · rw [if_neg hi, if_neg hi]
theorem RelX.mi (h : RelX N nt c e g a A) : MI a := by
  obtain ⟨⟨⟨h1, h2, h3⟩, -, -, ⟨h4, -, h6⟩, -⟩, -, ⟨w, h10, -, -, ⟨h24, h40, -⟩, -⟩, -⟩ := h
  exact ⟨okN h1 h3, ⟨c, h6, h4⟩, w, h40, h10⟩
theorem RelX.ok (h : RelX N nt c e g a A) : (vwS (A 514) (A 515)).ok := h.vw ▸ h.mi.n
theorem RelX.bok (h : RelX N nt c e g a A) : (bkM a).ok := by
  obtain ⟨-, -, ⟨w, h10, -, -, ⟨-, h40, -⟩, -⟩, -⟩ := h
  show 0 ≤ (a 10).toInt ∧ (a 10).toInt ≤ 40
  rw [h10, nI_t (by omega)]
  omega
theorem RelX.bokS (h : RelX N nt c e g a A) : (bkS (A 515)).ok := h.bk ▸ h.bok
theorem RelX.gok (h : RelX N nt c e g a A) : (gwM a).ok := by
  obtain ⟨⟨-, -, -, -, -, h5, n5, g8⟩, -⟩ := h
  show 0 ≤ (a 5).toInt ∧ (a 5).toInt ≤ 8
  rw [h5, nI_t (by omega)]
  omega
theorem RelX.gokS (h : RelX N nt c e g a A) : (gwS A).ok := h.gw ▸ h.gok
theorem RelX.eok (h : RelX N nt c e g a A) : (ewM a).ok := by
  obtain ⟨⟨-, -, -, -, ⟨h5, n5, g8⟩, -⟩, -⟩ := h
  show 0 ≤ (a 4).toInt ∧ (a 4).toInt ≤ 8
  rw [h5, nI_t (by omega)]
  omega
theorem RelX.eokS (h : RelX N nt c e g a A) : (ewS A).ok := h.ew ▸ h.eok
end VIEWS
/-- congruence: only these places are looked at -/
theorem RowR.cg {N w : Nat} {day draw day2 draw2 : Int32} {H H2 : Nat → Nat → Int32} {bk bk2 r r2 : Nat → Int32} (h : RowR N day draw w H bk r) (e1 : day2 = day) (e2 : draw2 = draw) (e3 : ∀ h k, h < N → k < 4 → H2 h k = H h k) (e4 : ∀ i, i < w → bk2 i = bk i) (e5 : ∀ j, j < 145 → r2 j = r j) (h7 : N ≤ 7) : RowR N day2 draw2 w H2 bk2 r2 := by
  obtain ⟨⟨a1, a2⟩, ⟨b1, b2⟩, ⟨c1, c2, c3⟩, d, z⟩ := h
  subst e1 e2
  refine ⟨⟨(e5 0 (by decide)).trans a1, a2⟩, ⟨(e5 1 (by decide)).trans b1, b2⟩, ⟨(e5 24 (by decide)).trans c1, c2, fun i hi => ?_⟩, fun h hh => ?_, fun i hi => ?_⟩
  · rw [e4 i hi, e5 _ (by omega), e5 _ (by omega), e5 _ (by omega)]
    exact c3 i hi
  · obtain ⟨q1, q2, q3, q4⟩ := d h hh
    refine ⟨?_, ?_, ?_, ?_⟩
    · rw [e5 _ (by omega), e3 h 0 hh (by decide)]; exact q1
    · rw [e5 _ (by omega), e3 h 1 hh (by decide)]; exact q2
    · rw [e5 _ (by omega), e3 h 2 hh (by decide)]; exact q3
    · rw [e5 _ (by omega), e3 h 3 hh (by decide)]; exact q4
  · rw [e5 2 (by decide)]
    exact z i hi
theorem CurR.cg {N : Nat} {a b r r2 : Nat → Int32} (h : CurR N a r) (h7 : N ≤ 7) (e1 : ∀ j, 8 ≤ j → j < 68 → b j = a j) (e2 : ∀ j, 2268 ≤ j → j < 2308 → b j = a j) (e5 : ∀ j, j < 145 → r2 j = r j) : CurR N b r2 := by
  obtain ⟨w, h1, h2⟩ := h
  have h40 := h2.2.2.1.2.1
  exact ⟨w, (e1 10 (by decide) (by decide)).trans h1, h2.cg (e1 8 (by decide) (by decide)) (e1 9 (by decide) (by decide)) (fun h k hh hk => e1 _ (by omega) (by omega)) (fun i hi => e2 _ (by omega) (by omega)) e5 h7⟩
theorem StpR.cg {N x : Nat} {a b r r2 : Nat → Int32} (h : StpR N a x r) (h7 : N ≤ 7) (e1 : ∀ h k, h < 7 → k < 3 → b (12 + 8 * h + 4 + k) = a (12 + 8 * h + 4 + k)) (e2 : ∀ j, x ≤ j → j < x + 72 → b j = a j) (e5 : ∀ j, j < 145 → r2 j = r j) : StpR N b x r2 := by
  obtain ⟨m, w, hm, h1, h2, h3⟩ := h
  have h40 := h3.2.2.1.2.1
  refine ⟨m, w, hm, (e2 _ (by omega) (by omega)).trans h1, (e2 _ (by omega) (by omega)).trans h2, h3.cg (e2 _ (by omega) (by omega)) (e2 _ (by omega) (by omega)) (fun h k hh hk => ?_) (fun i hi => e2 _ (by omega) (by omega)) e5 h7⟩
  unfold StH
  by_cases q : h < m
  · rw [if_pos q, if_pos q]; exact e2 _ (by omega) (by omega)
  · rw [if_neg q, if_neg q]
    by_cases q3 : k < 3
    · rw [if_pos q3, if_pos q3]; exact e1 h k (by omega) q3
    · rw [if_neg q3, if_neg q3]
theorem RelX.cg {N nt c e g : Nat} {a b : Nat → Int32} {A A2 : Nat → Nat → Int32} (h : RelX N nt c e g a A) (e1 : ∀ j, j < 2308 → b j = a j) (e2 : ∀ j, j < 6 → A2 514 j = A 514 j) (e3 : ∀ j, j < 145 → A2 515 j = A 515 j) (e4 : ∀ i j, i < 8 → j < 3 → A2 (517 + i) j = A (517 + i) j) (e5 : ∀ i j, i < 8 → j < 2 → A2 (526 + i) j = A (526 + i) j) (e6 : ∀ i j, i < 30 → j < 145 → A2 (535 + i) j = A (535 + i) j) : RelX N nt c e g b A2 := by
  obtain ⟨⟨⟨h1, h2, h3⟩, ⟨h4, h5, h6⟩, ⟨h7, h8⟩, ⟨h9, h10, h11⟩, ⟨h12, h13, h14⟩, ⟨h15, h16, h17⟩⟩, k1, k2, k3, k4, k5⟩ := h
  refine ⟨⟨⟨(e1 0 (by decide)).trans h1, (e2 0 (by decide)).trans h2, h3⟩, ⟨(e1 1 (by decide)).trans h4, (e2 1 (by decide)).trans h5, h6⟩, ⟨by rw [e2 2 (by decide), e1 2 (by decide)]; exact h7, by rw [e1 2 (by decide)]; exact h8⟩, ⟨(e1 3 (by decide)).trans h9, (e2 3 (by decide)).trans h10, h11⟩, ⟨(e1 4 (by decide)).trans h12, (e2 4 (by decide)).trans h13, h14⟩, ⟨(e1 5 (by decide)).trans h15, (e2 5 (by decide)).trans h16, h17⟩⟩, fun h hh => ?_, k2.cg h3 (fun j _ _ => e1 j (by omega)) (fun j _ _ => e1 j (by omega)) e3, fun i hi => (k3 i hi).cg h3 (fun h k _ _ => e1 _ (by omega)) (fun j _ _ => e1 j (by omega)) (fun j hj => e6 i j (by omega) hj), fun i hi => ?_, fun i hi => ?_⟩
  · rw [e1 _ (by omega), e1 _ (by omega), e1 _ (by omega)]
    exact k1 h hh
  · rw [e1 _ (by omega), e1 _ (by omega), e1 _ (by omega), e4 i 0 (by omega) (by decide), e4 i 1 (by omega) (by decide), e4 i 2 (by omega) (by decide)]
    exact k4 i hi
  · rw [e1 _ (by omega), e1 _ (by omega), e5 i 0 (by omega) (by decide), e5 i 1 (by omega) (by decide)]
    exact k5 i hi
