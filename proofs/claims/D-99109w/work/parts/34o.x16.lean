/-! SYSTEM 16: lists that grow; what sums and questions say (printed by tools/x16.py) -/
set_option maxRecDepth 100000
def wdT : List (List Nat) := [[101, 97, 114, 110, 115], [108, 111, 115, 101, 115], [108, 101, 116, 115], [104, 111, 117, 115, 101], [107, 110, 111, 99, 107], [109, 97, 114, 114, 121], [104, 97, 116], [102, 111, 114, 103, 101, 116], [100, 97, 121], [112, 117, 114, 115, 101], [102, 114, 105, 101, 110, 100, 115], [116, 111], [111, 102], [111, 114], [97, 110, 100], [110, 111, 116], [100, 105, 118, 105, 100, 101, 115], [100, 105, 103, 105, 116], [100, 97, 116, 101], [100, 97, 121, 115], [111, 112, 101, 110], [98, 101, 115, 105, 100, 101], [60, 62, 61, 35, 43, 45, 42, 47, 40, 41, 59]]
/-- the words and the signs, letter by letter -/
def wdL (i : Nat) : List Nat := wdT.getD i []
/-- what was there before: the empty array, the small numbers, the words -/
def BH (b : AH) : Prop := 128 ≤ b.n ∧ b.g 2 = some (.inl (7, 0, fun _ => .null)) ∧ b.g 3 = some (.inl (9, 256, fun j => .ref (200 + j))) ∧ (∀ j, j < 256 → b.g (200 + j) = some (.inr (17, [.int (nI j - 128)]))) ∧ b.g 1 = some (.inl (8, 22, fun j => .ref (100 + j))) ∧ ∀ i, i < 23 → b.g (130 + i) = some (.inl (10 + i, (wdL i).length, fun j => .int (nI ((wdL i).getD j 0))))
theorem BH.of {b b2 : AH} (h : BH b) (hn : b.n ≤ b2.n) (e : ∀ k, k < 512 → b2.g k = b.g k) : BH b2 := by
  obtain ⟨h1, h2, h3, h4, h5, h6⟩ := h
  exact ⟨by omega, (e 2 (by decide)).trans h2, (e 3 (by decide)).trans h3, fun j hj => (e (200 + j) (by omega)).trans (h4 j hj), (e 1 (by decide)).trans h5, fun i hi => (e (130 + i) (by omega)).trans (h6 i hi)⟩
/-- a list: its object D, its array E, n elements f, the i-th size -/
def AL (b : AH) (D E n i : Nat) (f : Nat → Value) : Prop := 640 ≤ D ∧ D < 512 + b.n ∧ (∃ m, b.g D = some (.inr (16, [.int m, .ref E, .int (nI n)]))) ∧ n ≤ capN i ∧ i ≤ 9 ∧ capN i ≤ 10 * n ∧ (∀ j, j < n → ObjR b (f j)) ∧ ((i = 0 ∧ E = 2) ∨ (1 ≤ i ∧ 640 ≤ E ∧ E < 512 + b.n ∧ E ≠ D ∧ ∃ g, b.g E = some (.inl (6, capN i, g)) ∧ ∀ j, j < n → g j = f j))
theorem ObjR.mv {b b2 : AH} {D E : Nat} {v : Value} (h : ObjR b v) (hn : b.n ≤ b2.n) (hD : ∃ fs, b2.g D = some (.inr (16, fs))) (hE : ∀ c, b.g E = some (.inr c) → False) (fr : ∀ k, k < 512 + b.n → k ≠ D → k ≠ E → b2.g k = b.g k) : ObjR b2 v := by
  obtain ⟨a, ci, fs, rC, e, h1, h2, h3, h4, h5⟩ := h
  by_cases q : a = D
  · subst q
    obtain ⟨fs2, g2⟩ := hD
    exact ⟨a, 16, fs2, _, e, h1, by omega, g2, rfl, q2033⟩
  · by_cases q2 : a = E
    · subst q2
      exact (hE _ h3).elim
    · exact ⟨a, ci, fs, rC, e, h1, by omega, (fr a h2 q q2).trans h3, h4, h5⟩
/-- behind an addition to the list -/
def AddP (b b2 : AH) (D E n i : Nat) (f : Nat → Value) (v : Nat) : Prop := ∃ E2 i2, AL b2 D E2 (n + 1) i2 (up f n (.ref v)) ∧ (E2 = E ∨ E2 = 512 + b.n) ∧ (∀ k, k < 512 + b.n → k ≠ D → (k ≠ E ∨ k < 640) → b2.g k = b.g k) ∧ b.n ≤ b2.n ∧ b2.n ≤ b.n + 1 ∧ b.u ≤ b2.u ∧ b2.u + 4 * capN i ≤ b.u + 4 * capN i2
theorem AL.elem {b2 : AH} {D n v : Nat} {f : Nat → Value} (hf : ∀ j, j < n → ObjR b2 (f j)) (hv : ObjR b2 (.ref v)) : ∀ j, j < n + 1 → ObjR b2 (up f n (.ref v) j) := fun j hj => by
  by_cases q : j = n
  · subst q; rw [up_eq]; exact hv
  · rw [up_ne q]; exact hf j (by omega)
theorem AL.last {n v : Nat} {f g : Nat → Value} (h : ∀ j, j < n → g j = f j) : ∀ j, j < n + 1 → up g n (.ref v) j = up f n (.ref v) j := fun j hj => by
  by_cases q : j = n
  · subst q; rw [up_eq, up_eq]
  · rw [up_ne q, up_ne q]; exact h j (by omega)
theorem capN_10 {i n : Nat} (h1 : 1 ≤ i) (h8 : i ≤ 8) (hn : n = capN i) : capN (i + 1) ≤ 10 * (n + 1) := by
  subst hn
  exact capN_i (P := fun i => capN (i + 1) ≤ 10 * (capN i + 1)) h1 h8 (by decide) (by decide) (by decide) (by decide) (by decide) (by decide) (by decide) (by decide)
theorem AL.add {s : Sg} {D E n i v : Nat} {f : Nat → Value} (h : AL s.b D E n i f) (hB : BH s.b) (hn : n ≤ 240) (hv : ObjR s.b (.ref v)) (hvD : v ≠ D) (hvE : v ≠ E) : RX (fun h2 => ∃ b2, AddP s.b b2 D E n i f v ∧ h2 = hp (s.setb b2)) 7 mJ2_add [.ref D, .ref v] (hp s) (some (.int (b2i true))) := by
  obtain ⟨hD, hDl, ⟨m, gD⟩, hcn, hi9, hc10, hf, hE⟩ := h
  have hb := hB.1
  obtain ⟨v', ci, fs, rC, ev, hvf, hvl, gv, hci, hcast⟩ := hv
  cases ev
  have hv' : ObjR s.b (.ref v) := ⟨v, ci, fs, rC, rfl, hvf, hvl, gv, hci, hcast⟩
  have gD1 : (s.b.set D (.inr (16, [.int (m + 1), .ref E, .int (nI n)]))).g D = some (.inr (16, [.int (m + 1), .ref E, .int (nI n)])) := set_g
  have gv1 : (s.b.set D (.inr (16, [.int (m + 1), .ref E, .int (nI n)]))).g v = some (.inr (ci, fs)) := (set_go hvD).trans gv
  rcases hE with ⟨rfl, rfl⟩ | ⟨h1, h6, hEl, hED, g, gE, hg⟩
  · have hn0 : n = 0 := by have : capN 0 = 0 := rfl; omega
    subst hn0
    have g2 : (s.b.set D (.inr (16, [.int (m + 1), .ref 2, .int (nI 0)]))).g 2 = some (.inl (7, 0, fun _ => .null)) := (set_go (by omega)).trans hB.2.1
    have w := r_J2_add hb hD hDl gD (r_J2_add_2_b (s := s.setb (s.b.set D (.inr (16, [.int (m + 1), .ref 2, .int (nI 0)])))) hb hD hDl (n := 0) (cap := 0) (cap2 := 10) (tA := 7) gD1 ((hp_gb rfl).trans g2) rfl (by decide) (by decide) (r_J2_grow_0 (s := s.setb (s.b.set D (.inr (16, [.int (m + 1), .ref 2, .int (nI 0)])))) hb hD hDl gD1 g2) hvf hvl hvD gv1 hci hcast)
    refine ⟨_, ⟨(((((s.b.set D (.inr (16, [.int (m + 1), .ref 2, .int (nI 0)]))).push (.inl (6, 10, fun _ => .null)) 10).set D (.inr (16, [.int (m + 1), .ref (512 + s.b.n), .int (nI 0)]))).set (512 + s.b.n) (.inl (6, 10, up (fun _ => .null) 0 (.ref v)))).set D (.inr (16, [.int (m + 1), .ref (512 + s.b.n), .int (nI 0 + 1)]))), ⟨512 + s.b.n, 1, ⟨hD, Nat.lt_succ_of_lt hDl, ⟨m + 1, set_g⟩, by decide, by decide, by decide, AL.elem (D := D) (fun j hj => absurd hj (Nat.not_lt_zero j)) ?_, Or.inr ⟨by decide, by omega, Nat.lt_succ_self _, by omega, _, (set_go (by omega)).trans set_g, AL.last (fun j hj => absurd hj (Nat.not_lt_zero j))⟩⟩, Or.inr rfl, fun k hk hkD hkE => (set_go hkD).trans ((set_go (by omega)).trans ((set_go hkD).trans ((push_go (by show k ≠ 512 + s.b.n; omega)).trans (set_go hkD)))), Nat.le_succ _, Nat.le_refl _, Nat.le_add_right _ _, ?_⟩, rfl⟩, w⟩
    · exact ⟨v, ci, fs, rC, rfl, hvf, Nat.lt_succ_of_lt hvl, (set_go hvD).trans ((set_go (by omega)).trans ((set_go hvD).trans ((push_go (by show v ≠ 512 + s.b.n; omega)).trans gv1))), hci, hcast⟩
    · show s.b.u + 10 + 4 * 0 ≤ s.b.u + 4 * 10
      omega
  · have hEn : ∀ c, s.b.g E = some (.inr c) → False := fun c q => by rw [gE] at q; cases q
    have gE1 : (s.b.set D (.inr (16, [.int (m + 1), .ref E, .int (nI n)]))).g E = some (.inl (6, capN i, g)) := (set_go hED).trans gE
    by_cases hlt : n < capN i
    · have hcl := capN_le i
      have w := r_J2_add hb hD hDl gD (r_J2_add_2_a (s := s.setb (s.b.set D (.inr (16, [.int (m + 1), .ref E, .int (nI n)])))) hb hD hDl h6 hEl (Ne.symm hED) gD1 gE1 hlt (by omega) hvf hvl hvD gv1 hci hcast)
      have fr : ∀ k, k < 512 + s.b.n → k ≠ D → k ≠ E → (((s.b.set D (.inr (16, [.int (m + 1), .ref E, .int (nI n)]))).set E (.inl (6, capN i, up g n (.ref v)))).set D (.inr (16, [.int (m + 1), .ref E, .int (nI n + 1)]))).g k = s.b.g k := fun k hk hkD hkE => (set_go hkD).trans ((set_go hkE).trans (set_go hkD))
      have mvO : ∀ {x : Value}, ObjR s.b x → ObjR (((s.b.set D (.inr (16, [.int (m + 1), .ref E, .int (nI n)]))).set E (.inl (6, capN i, up g n (.ref v)))).set D (.inr (16, [.int (m + 1), .ref E, .int (nI n + 1)]))) x := fun k => k.mv (Nat.le_refl _) ⟨_, set_g⟩ hEn fr
      exact ⟨_, ⟨(((s.b.set D (.inr (16, [.int (m + 1), .ref E, .int (nI n)]))).set E (.inl (6, capN i, up g n (.ref v)))).set D (.inr (16, [.int (m + 1), .ref E, .int (nI n + 1)]))), ⟨E, i, ⟨hD, hDl, ⟨m + 1, by rw [nI_succ]; exact set_g⟩, by omega, hi9, by omega, AL.elem (D := D) (fun j hj => mvO (hf j hj)) (mvO hv'), Or.inr ⟨h1, h6, hEl, hED, _, (set_go hED).trans set_g, AL.last hg⟩⟩, Or.inl rfl, fun k h1 h2 h3 => fr k h1 h2 (by omega), Nat.le_refl _, Nat.le_succ _, Nat.le_refl _, Nat.le_refl _⟩, rfl⟩, w⟩
    · have hne : n = capN i := by omega
      have h8 : i ≤ 8 := by
        apply Classical.byContradiction
        intro q
        have e9 : i = 9 := by omega
        subst e9
        have : capN 9 = 244 := rfl
        omega
      subst hne
      have cs := capN_s h1 h8
      have cl := capN_le (i + 1)
      have w := r_J2_add hb hD hDl gD (r_J2_add_2_b (s := s.setb (s.b.set D (.inr (16, [.int (m + 1), .ref E, .int (nI (capN i))])))) hb hD hDl (n := capN i) (cap := capN i) (cap2 := capN (i + 1)) (tA := 6) gD1 ((hp_gb (nfx h6)).trans gE1) rfl cs.2.1 (by omega) (r_J2_grow_1 (s := s.setb (s.b.set D (.inr (16, [.int (m + 1), .ref E, .int (nI (capN i))])))) hb hD hDl h6 hEl i h1 h8 gD1 gE1 (fun j hj => by rw [hg j hj]; exact (hf j hj).mv (Nat.le_refl _) ⟨_, set_g⟩ hEn (fun k _ hkD _ => set_go hkD))) hvf hvl hvD gv1 hci hcast)
      have fr : ∀ k, k < 512 + s.b.n → k ≠ D → k ≠ E → (((((s.b.set D (.inr (16, [.int (m + 1), .ref E, .int (nI (capN i))]))).push (.inl (6, capN (i + 1), mv0 (fun _ => .null) g (capN i))) (capN (i + 1))).set D (.inr (16, [.int (m + 1), .ref (512 + s.b.n), .int (nI (capN i))]))).set (512 + s.b.n) (.inl (6, capN (i + 1), up (mv0 (fun _ => .null) g (capN i)) (capN i) (.ref v)))).set D (.inr (16, [.int (m + 1), .ref (512 + s.b.n), .int (nI (capN i) + 1)]))).g k = s.b.g k := fun k hk hkD hkE => (set_go hkD).trans ((set_go (by omega)).trans ((set_go hkD).trans ((push_go (by show k ≠ 512 + s.b.n; omega)).trans (set_go hkD))))
      have mvO : ∀ {x : Value}, ObjR s.b x → ObjR (((((s.b.set D (.inr (16, [.int (m + 1), .ref E, .int (nI (capN i))]))).push (.inl (6, capN (i + 1), mv0 (fun _ => .null) g (capN i))) (capN (i + 1))).set D (.inr (16, [.int (m + 1), .ref (512 + s.b.n), .int (nI (capN i))]))).set (512 + s.b.n) (.inl (6, capN (i + 1), up (mv0 (fun _ => .null) g (capN i)) (capN i) (.ref v)))).set D (.inr (16, [.int (m + 1), .ref (512 + s.b.n), .int (nI (capN i) + 1)]))) x := fun k => k.mv (Nat.le_succ _) ⟨_, set_g⟩ hEn fr
      refine ⟨_, ⟨(((((s.b.set D (.inr (16, [.int (m + 1), .ref E, .int (nI (capN i))]))).push (.inl (6, capN (i + 1), mv0 (fun _ => .null) g (capN i))) (capN (i + 1))).set D (.inr (16, [.int (m + 1), .ref (512 + s.b.n), .int (nI (capN i))]))).set (512 + s.b.n) (.inl (6, capN (i + 1), up (mv0 (fun _ => .null) g (capN i)) (capN i) (.ref v)))).set D (.inr (16, [.int (m + 1), .ref (512 + s.b.n), .int (nI (capN i) + 1)]))), ⟨512 + s.b.n, i + 1, ⟨hD, Nat.lt_succ_of_lt hDl, ⟨m + 1, by rw [nI_succ]; exact set_g⟩, by omega, by omega, capN_10 h1 h8 rfl, AL.elem (D := D) (fun j hj => mvO (hf j hj)) (mvO hv'), Or.inr ⟨by omega, by omega, Nat.lt_succ_self _, by omega, _, (set_go (by omega)).trans set_g, AL.last (fun j hj => ?_)⟩⟩, Or.inr rfl, fun k h1 h2 h3 => fr k h1 h2 (by omega), Nat.le_succ _, Nat.le_refl _, Nat.le_add_right _ _, ?_⟩, rfl⟩, w⟩
      · show (if j < capN i then g j else .null) = f j
        rw [if_pos hj]
        exact hg j hj
      · show s.b.u + capN (i + 1) + 4 * capN i ≤ s.b.u + 4 * capN (i + 1)
        omega
section CALLO
variable {d dd : Nat} {M : Mt} {pc pc2 : Nat} {ls : List (Option Value)} {rest : List Value} {o : OR} {h2 : AH} {s : Sg} {lo hi a : Nat} {b : AH}
theorem aw_callSum {i cnt : Nat} {F : SumF} (hO : SumO lo hi b dd a F) (hs : ∀ k, (k < 512 ∨ lo ≤ k ∧ k < hi) → s.b.g k = b.g k) (hdd : dd + 1 ≤ d) (w1 : Cond.methodLink M.1.cls i yzSum ∈ lw_all) (hd : decode M.2.1 pc = .ok (.invokeinterface i cnt, 5)) (hcat : (rest.map fun v => v.category).sum ≤ 8) (hp2 : pc + 5 = pc2) (k : AW d M (hp s) pc2 ls (.long (F (s.A 620)) :: rest) o h2) : AW d M (hp s) pc ls (.ref 620 :: .ref a :: rest) o h2 := by
  obtain ⟨x1, x2, ci, fs, rC, Y, y1, y2, y3, y4, y5, y6, y7, y8, yc, y9⟩ := hO
  exact AW.callF (Y := Y) (x := yzSum) (n := 1) (y9 dd s (Nat.le_refl _) hs) hdd y8 y1 ((hp_gb (nfx x1)).trans ((hs a (Or.inr ⟨x2.2.1, x2.2.2.1⟩)).trans y2)) y3 w1 y4 y5 y6 y7 hd (by decide +kernel) rfl rfl hcat hp2 k
theorem aw_callAsk {i cnt : Nat} {F : AskF} (hO : AskO lo hi b dd a F) (hs : ∀ k, (k < 512 ∨ lo ≤ k ∧ k < hi) → s.b.g k = b.g k) (hdd : dd + 1 ≤ d) (w1 : Cond.methodLink M.1.cls i yzAsk ∈ lw_all) (hd : decode M.2.1 pc = .ok (.invokeinterface i cnt, 5)) (hcat : (rest.map fun v => v.category).sum ≤ 8) (hp2 : pc + 5 = pc2) (k : AW d M (hp s) pc2 ls (.int (b2i (F (s.A 620))) :: rest) o h2) : AW d M (hp s) pc ls (.ref 620 :: .ref a :: rest) o h2 := by
  obtain ⟨x1, x2, ci, fs, rC, Y, y1, y2, y3, y4, y5, y6, y7, y8, yc, y9⟩ := hO
  exact AW.callF (Y := Y) (x := yzAsk) (n := 1) (y9 dd s (Nat.le_refl _) hs) hdd y8 y1 ((hp_gb (nfx x1)).trans ((hs a (Or.inr ⟨x2.2.1, x2.2.2.1⟩)).trans y2)) y3 w1 y4 y5 y6 y7 hd (by decide +kernel) rfl rfl hcat hp2 k
/-- a cast of an object that answers to its interface -/
theorem aw_castO {x : MethodName} {i : Nat} {nm : String} {G : (Nat → Int32) → Value} (hO : FnO x lo hi b dd a G) (hs : ∀ k, (k < 512 ∨ lo ≤ k ∧ k < hi) → s.b.g k = b.g k) (hd : decode M.2.1 pc = .ok (.checkcast i, 3)) (hl : Cond.classLink M.1.cls i nm ∈ lw_all) (hnm : x.cls = nm) (hp2 : pc + 3 = pc2) (k : AW d M (hp s) pc2 ls (.ref a :: rest) o h2) : AW d M (hp s) pc ls (.ref a :: rest) o h2 := by
  obtain ⟨x1, x2, ci, fs, rC, Y, y1, y2, y3, y4, y5, y6, y7, y8, yc, y9⟩ := hO
  subst hnm
  exact AW.cast hd hl ((hp_gb (nfx x1)).trans ((hs a (Or.inr ⟨x2.2.1, x2.2.2.1⟩)).trans y2)) y1 yc.1 hp2 k
end CALLO
theorem r_X7_of {s : Sg} {d a : Nat} {n : Int32} (ga : (hp s).g a = some (.inr (7, [.int n]))) : Run d mX7_of [.ref a, .ref 620] (hp s) (.inl (some (.long (n.toInt64)))) (hp s) := by
  refine Run.of rfl (Nat.le_of_ble_eq_true rfl) rfl ?_
  refine AW.aload_n dX7_of_0 rfl rfl ?_
  refine AW.get ci7 0 (by decide) q550 dX7_of_1 ga rfl rfl ?_
  refine AW.i2l dX7_of_4 rfl ?_
  exact AW.lretE dX7_of_5 rfl rfl rfl rfl
theorem r_X9_of {s : Sg} {d a : Nat} {w : Int32} (ga : (hp s).g a = some (.inr (9, [.int w]))) (h0 : 0 ≤ w.toInt) (h8 : w.toInt < 8) : Run d mX9_of [.ref a, .ref 620] (hp s) (.inl (some (.long ((s.A 620 (cI w)).toInt64)))) (hp s) := by
  refine Run.of rfl (Nat.le_of_ble_eq_true rfl) rfl ?_
  refine AW.aload_n dX9_of_0 rfl rfl ?_
  refine AW.aload_n dX9_of_1 rfl rfl ?_
  refine AW.get ci9 0 (by decide) q593 dX9_of_2 ga rfl rfl ?_
  refine AW.iald dX9_of_5 g620 (vp_in_iff.mpr (by omega)) rfl rfl ?_
  refine AW.i2l dX9_of_6 rfl ?_
  exact AW.lretE dX9_of_7 rfl rfl rfl rfl
theorem r_X10_of {s : Sg} {d dd a : Nat} (hd : dd + 1 ≤ d) {lo1 hi1 x1 : Nat} {b1 : AH} {F1 : SumF} (hO1 : SumO lo1 hi1 b1 dd x1 F1) (hs1 : ∀ k, (k < 512 ∨ lo1 ≤ k ∧ k < hi1) → s.b.g k = b1.g k) (ga : (hp s).g a = some (.inr (10, [.ref x1]))) : Run d mX10_of [.ref a, .ref 620] (hp s) (.inl (some (.long (-(F1 (s.A 620)))))) (hp s) := by
  refine Run.of rfl (Nat.le_of_ble_eq_true rfl) rfl ?_
  refine AW.aload_n dX10_of_0 rfl rfl ?_
  refine AW.get ci10 0 (by decide) q603 dX10_of_1 ga rfl rfl ?_
  refine AW.aload_n dX10_of_4 rfl rfl ?_
  refine aw_callSum hO1 hs1 hd q931 dX10_of_5 (Nat.le_of_ble_eq_true rfl) rfl ?_
  refine AW.lneg dX10_of_10 rfl ?_
  exact AW.lretE dX10_of_11 rfl rfl rfl rfl
theorem r_X11_is {s : Sg} {d dd a : Nat} (hd : dd + 1 ≤ d) {lo1 hi1 x1 : Nat} {b1 : AH} {F1 : AskF} (hO1 : AskO lo1 hi1 b1 dd x1 F1) (hs1 : ∀ k, (k < 512 ∨ lo1 ≤ k ∧ k < hi1) → s.b.g k = b1.g k) (ga : (hp s).g a = some (.inr (11, [.ref x1]))) : Run d mX11_is [.ref a, .ref 620] (hp s) (.inl (some (.int (b2i (!F1 (s.A 620)))))) (hp s) := by
  refine Run.of rfl (Nat.le_of_ble_eq_true rfl) rfl ?_
  refine AW.aload_n dX11_is_0 rfl rfl ?_
  refine AW.get ci11 0 (by decide) q736 dX11_is_1 ga rfl rfl ?_
  refine AW.aload_n dX11_is_4 rfl rfl ?_
  refine aw_callAsk hO1 hs1 hd q1030 dX11_is_5 (Nat.le_of_ble_eq_true rfl) rfl ?_
  refine AW.if_neB (tgt := 17) dX11_is_10 (by decide) rfl (fun c10 => ?_) (fun c10 => ?_)
  · refine AW.iconst (v := 0) dX11_is_17 (by decide) rfl ?_
    exact AW.bretE dX11_is_18 rfl rfl (by rw [c10]; rfl) rfl
  · refine AW.iconst (v := 1) dX11_is_13 (by decide) rfl ?_
    refine AW.goto (tgt := 18) dX11_is_14 (by decide) ?_
    exact AW.bretE dX11_is_18 rfl rfl (by rw [c10]; rfl) rfl
theorem r_X12_is {s : Sg} {d dd a : Nat} (hd : dd + 1 ≤ d) {lo1 hi1 x1 : Nat} {b1 : AH} {F1 : SumF} (hO1 : SumO lo1 hi1 b1 dd x1 F1) (hs1 : ∀ k, (k < 512 ∨ lo1 ≤ k ∧ k < hi1) → s.b.g k = b1.g k) {lo2 hi2 x2 : Nat} {b2 : AH} {F2 : SumF} (hO2 : SumO lo2 hi2 b2 dd x2 F2) (hs2 : ∀ k, (k < 512 ∨ lo2 ≤ k ∧ k < hi2) → s.b.g k = b2.g k) (ga : (hp s).g a = some (.inr (12, [.ref x1, .ref x2]))) : Run d mX12_is [.ref a, .ref 620] (hp s) (.inl (some (.int (b2i (divB (F1 (s.A 620)) (F2 (s.A 620))))))) (hp s) := by
  refine Run.of rfl (Nat.le_of_ble_eq_true rfl) rfl ?_
  refine AW.aload_n dX12_is_0 rfl rfl ?_
  refine AW.get ci12 0 (by decide) q750 dX12_is_1 ga rfl rfl ?_
  refine AW.aload_n dX12_is_4 rfl rfl ?_
  refine aw_callSum hO1 hs1 hd q1022 dX12_is_5 (Nat.le_of_ble_eq_true rfl) rfl ?_
  refine AW.lstore_n (i := 2) dX12_is_10 rfl rfl (Nat.le_of_ble_eq_true rfl) rfl rfl ?_
  refine AW.aload_n dX12_is_11 rfl rfl ?_
  refine AW.get ci12 1 (by decide) q751 dX12_is_12 ga rfl rfl ?_
  refine AW.aload_n dX12_is_15 rfl rfl ?_
  refine aw_callSum hO2 hs2 hd q1022 dX12_is_16 (Nat.le_of_ble_eq_true rfl) rfl ?_
  refine AW.lstore dX12_is_21 rfl (Nat.le_of_ble_eq_true rfl) rfl rfl ?_
  refine AW.lload_n dX12_is_23 rfl rfl ?_
  refine AW.lconst (v := 0) dX12_is_24 (by decide) rfl ?_
  refine AW.lcmp dX12_is_25 rfl ?_
  refine AW.if_ne (tgt := 44) dX12_is_26 (by decide) rfl (fun c => ?_) (fun c => ?_)
  · refine AW.lload dX12_is_44 rfl rfl ?_
    refine AW.lload_n dX12_is_46 rfl rfl ?_
    refine AW.lrem dX12_is_47 (by rw [lg_cmp_eq] at c; exact c) rfl ?_
    refine AW.lconst (v := 0) dX12_is_48 (by decide) rfl ?_
    refine AW.lcmp dX12_is_49 rfl ?_
    refine AW.if_ne (tgt := 57) dX12_is_50 (by decide) rfl (fun c2 => ?_) (fun c2 => ?_)
    · refine AW.iconst (v := 0) dX12_is_57 (by decide) rfl ?_
      exact AW.bretE dX12_is_58 rfl rfl (by generalize F1 (s.A 620) = v1 at *; generalize F2 (s.A 620) = v2 at *; (try simp only [lg_cmp_ge, lg_cmp_le, lg_cmp_gt, lg_cmp_lt, lg_cmp_eq] at *); simp_all [divB, b2i]) rfl
    · refine AW.iconst (v := 1) dX12_is_53 (by decide) rfl ?_
      refine AW.goto (tgt := 58) dX12_is_54 (by decide) ?_
      exact AW.bretE dX12_is_58 rfl rfl (by generalize F1 (s.A 620) = v1 at *; generalize F2 (s.A 620) = v2 at *; (try simp only [lg_cmp_ge, lg_cmp_le, lg_cmp_gt, lg_cmp_lt, lg_cmp_eq] at *); simp_all [divB, b2i]) rfl
  · refine AW.lload dX12_is_29 rfl rfl ?_
    refine AW.lconst (v := 0) dX12_is_31 (by decide) rfl ?_
    refine AW.lcmp dX12_is_32 rfl ?_
    refine AW.if_ne (tgt := 40) dX12_is_33 (by decide) rfl (fun c3 => ?_) (fun c3 => ?_)
    · refine AW.iconst (v := 0) dX12_is_40 (by decide) rfl ?_
      refine AW.goto (tgt := 58) dX12_is_41 (by decide) ?_
      exact AW.bretE dX12_is_58 rfl rfl (by generalize F1 (s.A 620) = v1 at *; generalize F2 (s.A 620) = v2 at *; (try simp only [lg_cmp_ge, lg_cmp_le, lg_cmp_gt, lg_cmp_lt, lg_cmp_eq] at *); simp_all [divB, b2i]) rfl
    · refine AW.iconst (v := 1) dX12_is_36 (by decide) rfl ?_
      refine AW.goto (tgt := 58) dX12_is_37 (by decide) ?_
      exact AW.bretE dX12_is_58 rfl rfl (by generalize F1 (s.A 620) = v1 at *; generalize F2 (s.A 620) = v2 at *; (try simp only [lg_cmp_ge, lg_cmp_le, lg_cmp_gt, lg_cmp_lt, lg_cmp_eq] at *); simp_all [divB, b2i]) rfl
def cmpX (o : Int32) (e : Int64) : Bool := if o = 35 then !decide (e = 0) else if o = 60 then decide (e < 0) else if o = 61 then decide (e = 0) else if o = 62 then decide (0 < e) else if o = 303 then decide (e ≤ 0) else decide (0 ≤ e)
theorem r_X13_is {s : Sg} {d dd a : Nat} (hd : dd + 1 ≤ d) {lo1 hi1 x1 : Nat} {b1 : AH} {F1 : SumF} (hO1 : SumO lo1 hi1 b1 dd x1 F1) (hs1 : ∀ k, (k < 512 ∨ lo1 ≤ k ∧ k < hi1) → s.b.g k = b1.g k) {lo2 hi2 x2 : Nat} {b2 : AH} {F2 : SumF} (hO2 : SumO lo2 hi2 b2 dd x2 F2) (hs2 : ∀ k, (k < 512 ∨ lo2 ≤ k ∧ k < hi2) → s.b.g k = b2.g k) {sg : Int32} (ga : (hp s).g a = some (.inr (13, [.int sg, .ref x1, .ref x2]))) : Run d mX13_is [.ref a, .ref 620] (hp s) (.inl (some (.int (b2i (cmpX sg (F1 (s.A 620) - F2 (s.A 620))))))) (hp s) := by
  refine Run.of rfl (Nat.le_of_ble_eq_true rfl) rfl ?_
  refine AW.aload_n dX13_is_0 rfl rfl ?_
  refine AW.get ci13 1 (by decide) q764 dX13_is_1 ga rfl rfl ?_
  refine AW.aload_n dX13_is_4 rfl rfl ?_
  refine aw_callSum hO1 hs1 hd q1014 dX13_is_5 (Nat.le_of_ble_eq_true rfl) rfl ?_
  refine AW.aload_n dX13_is_10 rfl rfl ?_
  refine AW.get ci13 2 (by decide) q765 dX13_is_11 ga rfl rfl ?_
  refine AW.aload_n dX13_is_14 rfl rfl ?_
  refine aw_callSum hO2 hs2 hd q1014 dX13_is_15 (Nat.le_of_ble_eq_true rfl) rfl ?_
  refine AW.lsub dX13_is_20 rfl ?_
  refine AW.lstore_n (i := 2) dX13_is_21 rfl rfl (Nat.le_of_ble_eq_true rfl) rfl rfl ?_
  generalize F1 (s.A 620) - F2 (s.A 620) = e
  refine AW.aload_n dX13_is_22 rfl rfl ?_
  refine AW.get ci13 0 (by decide) q763 dX13_is_23 ga rfl rfl ?_
  by_cases s26_0 : sg = 35
  · refine AW.lookup (off := 86) (tgt := 112) dX13_is_26 (by decide) (by rw [s26_0]; rfl) (by decide) ?_
    refine AW.lload_n dX13_is_112 rfl rfl ?_
    refine AW.lconst (v := 0) dX13_is_113 (by decide) rfl ?_
    refine AW.lcmp dX13_is_114 rfl ?_
    refine AW.if_eq (tgt := 122) dX13_is_115 (by decide) rfl (fun c1 => ?_) (fun c1 => ?_)
    · refine AW.iconst (v := 0) dX13_is_122 (by decide) rfl ?_
      exact AW.bretE dX13_is_123 rfl rfl (by (try simp only [lg_cmp_ge, lg_cmp_le, lg_cmp_gt, lg_cmp_lt, lg_cmp_eq] at *); simp_all [cmpX, b2i, Int64.not_le, Int64.not_lt]) rfl
    · refine AW.iconst (v := 1) dX13_is_118 (by decide) rfl ?_
      refine AW.goto (tgt := 123) dX13_is_119 (by decide) ?_
      exact AW.bretE dX13_is_123 rfl rfl (by (try simp only [lg_cmp_ge, lg_cmp_le, lg_cmp_gt, lg_cmp_lt, lg_cmp_eq] at *); simp_all [cmpX, b2i, Int64.not_le, Int64.not_lt]) rfl
  by_cases s26_1 : sg = 60
  · refine AW.lookup (off := 50) (tgt := 76) dX13_is_26 (by decide) (by rw [s26_1]; rfl) (by decide) ?_
    refine AW.lload_n dX13_is_76 rfl rfl ?_
    refine AW.lconst (v := 0) dX13_is_77 (by decide) rfl ?_
    refine AW.lcmp dX13_is_78 rfl ?_
    refine AW.if_ge (tgt := 86) dX13_is_79 (by decide) rfl (fun c2 => ?_) (fun c2 => ?_)
    · refine AW.iconst (v := 0) dX13_is_86 (by decide) rfl ?_
      exact AW.bretE dX13_is_87 rfl rfl (by (try simp only [lg_cmp_ge, lg_cmp_le, lg_cmp_gt, lg_cmp_lt, lg_cmp_eq] at *); simp_all [cmpX, b2i, Int64.not_le, Int64.not_lt]) rfl
    · refine AW.iconst (v := 1) dX13_is_82 (by decide) rfl ?_
      refine AW.goto (tgt := 87) dX13_is_83 (by decide) ?_
      exact AW.bretE dX13_is_87 rfl rfl (by (try simp only [lg_cmp_ge, lg_cmp_le, lg_cmp_gt, lg_cmp_lt, lg_cmp_eq] at *); simp_all [cmpX, b2i, Int64.not_le, Int64.not_lt]) rfl
  by_cases s26_2 : sg = 61
  · refine AW.lookup (off := 74) (tgt := 100) dX13_is_26 (by decide) (by rw [s26_2]; rfl) (by decide) ?_
    refine AW.lload_n dX13_is_100 rfl rfl ?_
    refine AW.lconst (v := 0) dX13_is_101 (by decide) rfl ?_
    refine AW.lcmp dX13_is_102 rfl ?_
    refine AW.if_ne (tgt := 110) dX13_is_103 (by decide) rfl (fun c3 => ?_) (fun c3 => ?_)
    · refine AW.iconst (v := 0) dX13_is_110 (by decide) rfl ?_
      exact AW.bretE dX13_is_111 rfl rfl (by (try simp only [lg_cmp_ge, lg_cmp_le, lg_cmp_gt, lg_cmp_lt, lg_cmp_eq] at *); simp_all [cmpX, b2i, Int64.not_le, Int64.not_lt]) rfl
    · refine AW.iconst (v := 1) dX13_is_106 (by decide) rfl ?_
      refine AW.goto (tgt := 111) dX13_is_107 (by decide) ?_
      exact AW.bretE dX13_is_111 rfl rfl (by (try simp only [lg_cmp_ge, lg_cmp_le, lg_cmp_gt, lg_cmp_lt, lg_cmp_eq] at *); simp_all [cmpX, b2i, Int64.not_le, Int64.not_lt]) rfl
  by_cases s26_3 : sg = 62
  · refine AW.lookup (off := 62) (tgt := 88) dX13_is_26 (by decide) (by rw [s26_3]; rfl) (by decide) ?_
    refine AW.lload_n dX13_is_88 rfl rfl ?_
    refine AW.lconst (v := 0) dX13_is_89 (by decide) rfl ?_
    refine AW.lcmp dX13_is_90 rfl ?_
    refine AW.if_le (tgt := 98) dX13_is_91 (by decide) rfl (fun c4 => ?_) (fun c4 => ?_)
    · refine AW.iconst (v := 0) dX13_is_98 (by decide) rfl ?_
      exact AW.bretE dX13_is_99 rfl rfl (by (try simp only [lg_cmp_ge, lg_cmp_le, lg_cmp_gt, lg_cmp_lt, lg_cmp_eq] at *); simp_all [cmpX, b2i, Int64.not_le, Int64.not_lt]) rfl
    · refine AW.iconst (v := 1) dX13_is_94 (by decide) rfl ?_
      refine AW.goto (tgt := 99) dX13_is_95 (by decide) ?_
      exact AW.bretE dX13_is_99 rfl rfl (by (try simp only [lg_cmp_ge, lg_cmp_le, lg_cmp_gt, lg_cmp_lt, lg_cmp_eq] at *); simp_all [cmpX, b2i, Int64.not_le, Int64.not_lt]) rfl
  by_cases s26_4 : sg = 303
  · refine AW.lookup (off := 98) (tgt := 124) dX13_is_26 (by decide) (by rw [s26_4]; rfl) (by decide) ?_
    refine AW.lload_n dX13_is_124 rfl rfl ?_
    refine AW.lconst (v := 0) dX13_is_125 (by decide) rfl ?_
    refine AW.lcmp dX13_is_126 rfl ?_
    refine AW.if_gt (tgt := 134) dX13_is_127 (by decide) rfl (fun c5 => ?_) (fun c5 => ?_)
    · refine AW.iconst (v := 0) dX13_is_134 (by decide) rfl ?_
      exact AW.bretE dX13_is_135 rfl rfl (by (try simp only [lg_cmp_ge, lg_cmp_le, lg_cmp_gt, lg_cmp_lt, lg_cmp_eq] at *); simp_all [cmpX, b2i, Int64.not_le, Int64.not_lt]) rfl
    · refine AW.iconst (v := 1) dX13_is_130 (by decide) rfl ?_
      refine AW.goto (tgt := 135) dX13_is_131 (by decide) ?_
      exact AW.bretE dX13_is_135 rfl rfl (by (try simp only [lg_cmp_ge, lg_cmp_le, lg_cmp_gt, lg_cmp_lt, lg_cmp_eq] at *); simp_all [cmpX, b2i, Int64.not_le, Int64.not_lt]) rfl
  refine AW.lookup (off := 110) (tgt := 136) dX13_is_26 (by decide) ((lv_osw (k := 35) s26_0 rfl).trans ((lv_osw (k := 60) s26_1 rfl).trans ((lv_osw (k := 61) s26_2 rfl).trans ((lv_osw (k := 62) s26_3 rfl).trans ((lv_osw (k := 303) s26_4 rfl).trans (rfl)))))) (by decide) ?_
  refine AW.lload_n dX13_is_136 rfl rfl ?_
  refine AW.lconst (v := 0) dX13_is_137 (by decide) rfl ?_
  refine AW.lcmp dX13_is_138 rfl ?_
  refine AW.if_lt (tgt := 146) dX13_is_139 (by decide) rfl (fun c6 => ?_) (fun c6 => ?_)
  · refine AW.iconst (v := 0) dX13_is_146 (by decide) rfl ?_
    exact AW.bretE dX13_is_147 rfl rfl (by (try simp only [lg_cmp_ge, lg_cmp_le, lg_cmp_gt, lg_cmp_lt, lg_cmp_eq] at *); simp_all [cmpX, b2i, Int64.not_le, Int64.not_lt]) rfl
  · refine AW.iconst (v := 1) dX13_is_142 (by decide) rfl ?_
    refine AW.goto (tgt := 147) dX13_is_143 (by decide) ?_
    exact AW.bretE dX13_is_147 rfl rfl (by (try simp only [lg_cmp_ge, lg_cmp_le, lg_cmp_gt, lg_cmp_lt, lg_cmp_eq] at *); simp_all [cmpX, b2i, Int64.not_le, Int64.not_lt]) rfl
def digX (p w : Int64) : Int64 := if p < 0 then 0 else if 9 < p then 0 else iter (fun x => x / 10) (p.toInt.toNat) (absL w) % 10
theorem lN_of {p : Int64} (h : ¬ p < 0) (h9 : ¬ 9 < p) : lN p.toInt.toNat = p ∧ p.toInt.toNat ≤ 9 := by
  rw [Int64.lt_iff_toInt_lt, L0] at h
  rw [Int64.lt_iff_toInt_lt, L9] at h9
  refine ⟨Int64.toInt_inj.mp ?_, by omega⟩
  rw [lN_t (by omega)]
  omega
theorem lN_lt8 {p : Int64} {k : Nat} (h : k < p.toInt.toNat) (h9 : p.toInt.toNat ≤ 9) : ¬ 0 ≤ lg_cmp (lN k) p := by
  rw [lg_cmp_ge]
  refine Int64.not_le.mpr ?_
  rw [Int64.lt_iff_toInt_lt, lN_t (by omega)]
  omega
theorem r_X8_of {s : Sg} {d dd a : Nat} (hd : dd + 1 ≤ d) {lo1 hi1 x1 : Nat} {b1 : AH} {F1 : SumF} (hO1 : SumO lo1 hi1 b1 dd x1 F1) (hs1 : ∀ k, (k < 512 ∨ lo1 ≤ k ∧ k < hi1) → s.b.g k = b1.g k) {lo2 hi2 x2 : Nat} {b2 : AH} {F2 : SumF} (hO2 : SumO lo2 hi2 b2 dd x2 F2) (hs2 : ∀ k, (k < 512 ∨ lo2 ≤ k ∧ k < hi2) → s.b.g k = b2.g k) (hd1 : 1 ≤ d) (ga : (hp s).g a = some (.inr (8, [.ref x1, .ref x2]))) : Run d mX8_of [.ref a, .ref 620] (hp s) (.inl (some (.long (digX (F1 (s.A 620)) (F2 (s.A 620)))))) (hp s) := by
  refine Run.of rfl (Nat.le_of_ble_eq_true rfl) rfl ?_
  refine AW.aload_n dX8_of_0 rfl rfl ?_
  refine AW.get ci8 0 (by decide) q572 dX8_of_1 ga rfl rfl ?_
  refine AW.aload_n dX8_of_4 rfl rfl ?_
  refine aw_callSum hO1 hs1 hd q923 dX8_of_5 (Nat.le_of_ble_eq_true rfl) rfl ?_
  refine AW.lstore_n (i := 2) dX8_of_10 rfl rfl (Nat.le_of_ble_eq_true rfl) rfl rfl ?_
  refine AW.aload_n dX8_of_11 rfl rfl ?_
  refine AW.get ci8 1 (by decide) q573 dX8_of_12 ga rfl rfl ?_
  refine AW.aload_n dX8_of_15 rfl rfl ?_
  refine aw_callSum hO2 hs2 hd q923 dX8_of_16 (Nat.le_of_ble_eq_true rfl) rfl ?_
  refine AW.mabsL dX8_of_21 q944 q945 q151 q946 (by omega) (Nat.le_of_ble_eq_true rfl) rfl ?_
  refine AW.lstore dX8_of_24 rfl (Nat.le_of_ble_eq_true rfl) rfl rfl ?_
  refine AW.lload_n dX8_of_26 rfl rfl ?_
  refine AW.lconst (v := 0) dX8_of_27 (by decide) rfl ?_
  refine AW.lcmp dX8_of_28 rfl ?_
  refine AW.if_lt (tgt := 40) dX8_of_29 (by decide) rfl (fun c29 => ?_) (fun c29 => ?_)
  · refine AW.lconst (v := 0) dX8_of_40 (by decide) rfl ?_
    exact AW.lretE dX8_of_41 rfl rfl (by unfold digX; first | (rw [lg_cmp_lt] at c29; rw [if_pos c29]; done) | (rw [lg_cmp_lt] at c29; rw [lg_cmp_le] at c37; rw [if_neg c29, if_pos (Int64.not_le.mp c37)]; done)) rfl
  · refine AW.lload_n dX8_of_32 rfl rfl ?_
    refine AW.ldc2 dX8_of_33 q947 rfl ?_
    refine AW.lcmp dX8_of_36 rfl ?_
    refine AW.if_le (tgt := 42) dX8_of_37 (by decide) rfl (fun c37 => ?_) (fun c37 => ?_)
    · refine AW.lconst (v := 0) dX8_of_42 (by decide) rfl ?_
      refine AW.lstore dX8_of_43 rfl (Nat.le_of_ble_eq_true rfl) rfl rfl ?_
      have cp := lN_of (p := (F1 (s.A 620))) (by rw [lg_cmp_lt] at c29; exact c29) (by rw [lg_cmp_le] at c37; exact Int64.not_lt.mpr c37)
      refine loopUp (P := fun k => AW d mX8_of (hp s) 45 [some (.ref a), some (.ref 620), some (.long ((F1 (s.A 620)))), none, some (.long (iter (fun x => x / 10) k (absL (F2 (s.A 620))))), none, some (.long (lN k)), none] [] (.inl (some (.long (digX (F1 (s.A 620)) (F2 (s.A 620)))))) (hp s)) (F1 (s.A 620)).toInt.toNat ?_ ?_ 0 (by first | exact Nat.zero_le _ | omega)
      · refine AW.lload dX8_of_45 rfl rfl ?_
        refine AW.lload_n dX8_of_47 rfl rfl ?_
        refine AW.lcmp dX8_of_48 rfl ?_
        refine AW.if_ge (tgt := 69) dX8_of_49 (by decide) rfl (fun _ => ?_) (fun c_ => by first | exact absurd c_ (by rw [cp.1]; rw [lg_cmp_ge]; exact Int64.le_refl _) | exact absurd (by rw [cp.1]; rw [lg_cmp_ge]; exact Int64.le_refl _) c_ | exact absurd c_ (not_not_intro (by rw [cp.1]; rw [lg_cmp_ge]; exact Int64.le_refl _)) | exact Bool.noConfusion (c_.symm.trans (by rw [cp.1]; rw [lg_cmp_ge]; exact Int64.le_refl _)))
        refine AW.lload dX8_of_69 rfl rfl ?_
        refine AW.ldc2 dX8_of_71 q948 rfl ?_
        refine AW.lrem dX8_of_74 (by decide) rfl ?_
        exact AW.lretE dX8_of_75 rfl rfl (by unfold digX; rw [lg_cmp_lt] at c29; rw [lg_cmp_le] at c37; rw [if_neg c29, if_neg (Int64.not_lt.mpr c37)]) rfl
      · intro k hk ihk
        refine AW.lload dX8_of_45 rfl rfl ?_
        refine AW.lload_n dX8_of_47 rfl rfl ?_
        refine AW.lcmp dX8_of_48 rfl ?_
        refine AW.if_ge (tgt := 69) dX8_of_49 (by decide) rfl (fun c_ => by first | exact absurd c_ (lN_lt8 hk cp.2) | exact absurd (lN_lt8 hk cp.2) c_ | exact Bool.noConfusion (c_.symm.trans (lN_lt8 hk cp.2))) (fun _ => ?_)
        refine AW.lload dX8_of_52 rfl rfl ?_
        refine AW.ldc2 dX8_of_54 q948 rfl ?_
        refine AW.ldiv dX8_of_57 (by decide) rfl ?_
        refine AW.lstore dX8_of_58 rfl (Nat.le_of_ble_eq_true rfl) rfl rfl ?_
        refine AW.lload dX8_of_60 rfl rfl ?_
        refine AW.lconst (v := 1) dX8_of_62 (by decide) rfl ?_
        refine AW.ladd dX8_of_63 rfl ?_
        refine AW.lstore dX8_of_64 rfl (Nat.le_of_ble_eq_true rfl) rfl rfl ?_
        refine AW.goto (tgt := 45) dX8_of_66 (by decide) ?_
        exact AW.ls (by rw [← lN_1]; rfl) ihk
    · refine AW.lconst (v := 0) dX8_of_40 (by decide) rfl ?_
      exact AW.lretE dX8_of_41 rfl rfl (by unfold digX; first | (rw [lg_cmp_lt] at c29; rw [if_pos c29]; done) | (rw [lg_cmp_lt] at c29; rw [lg_cmp_le] at c37; rw [if_neg c29, if_pos (Int64.not_le.mp c37)]; done)) rfl
def allX (p : Bool) (Fs : Nat → AskF) (n : Nat) : AskF := fun N => if p then decide (sumUp (fun k => b2i (Fs k N)) n = nI n) else decide (0 < sumUp (fun k => b2i (Fs k N)) n)
def chOp (sg : Int32) (x y : Int64) : Int64 := maxL (-1000000) (minL 1000000 (if sg = 43 then x + y else if sg = 45 then x - y else if sg = 42 then x * y else if y = 0 then 0 else x / y))
def chX (F0 : SumF) (Fs : Nat → SumF) (sg : Nat → Int32) : Nat → SumF
  | 0 => F0
  | k + 1 => fun N => chOp (sg k) (chX F0 Fs sg k N) (Fs k N)
theorem nI_lt2 {k n : Nat} (h : k < n) (hn : n < 2147483648) : nI k < nI n := by
  rw [Int32.lt_iff_toInt_lt, nI_t (by omega), nI_t hn]
  omega
theorem r_X14_is {s : Sg} {d dd a : Nat} (hd : dd + 1 ≤ d) (hd4 : 4 ≤ d) {Mo E n cap : Nat} {m : Int32} {f : Nat → Value} (gM : (hp s).g Mo = some (.inr (16, [.int m, .ref E, .int (nI n)]))) (gE : 0 < n → (hp s).g E = some (.inl (6, cap, f))) (hn : n ≤ cap) (hc : cap ≤ 1000) {av los his : Nat → Nat} {bs : Nat → AH} {Fs : Nat → AskF} (hf : ∀ k, k < n → f k = .ref (av k)) (hO : ∀ k, k < n → AskO (los k) (his k) (bs k) dd (av k) (Fs k)) (hs : ∀ k, k < n → ∀ j, (j < 512 ∨ los k ≤ j ∧ j < his k) → s.b.g j = (bs k).g j) {p : Bool} (ga : (hp s).g a = some (.inr (14, [.int (b2i p), .ref Mo]))) : Run d mX14_is [.ref a, .ref 620] (hp s) (.inl (some (.int (b2i (allX p Fs n (s.A 620)))))) (hp s) := by
  refine Run.of rfl (Nat.le_of_ble_eq_true rfl) rfl ?_
  refine AW.iconst (v := 0) dX14_is_0 (by decide) rfl ?_
  refine AW.istore_n (i := 2) dX14_is_1 rfl rfl (Nat.le_of_ble_eq_true rfl) rfl rfl ?_
  refine AW.iconst (v := 0) dX14_is_2 (by decide) rfl ?_
  refine AW.istore_n (i := 3) dX14_is_3 rfl rfl (Nat.le_of_ble_eq_true rfl) rfl rfl ?_
  refine loopUp (P := fun k => AW d mX14_is (hp s) 4 [some (.ref a), some (.ref 620), some (.int (sumUp (fun k => b2i (Fs k (s.A 620))) k)), some (.int (nI k))] [] (.inl (some (.int (b2i (allX p Fs n (s.A 620)))))) (hp s)) n ?_ ?_ 0 (by first | exact Nat.zero_le _ | omega)
  · refine AW.iload_n dX14_is_4 rfl rfl ?_
    refine AW.aload_n dX14_is_5 rfl rfl ?_
    refine AW.get ci14 1 (by decide) q798 dX14_is_6 ga rfl rfl ?_
    refine AW.callV (Y := mJ2_size) (n := 0) (r_J2_size gM) (by omega) (by decide) rfl gM q1002 q775 q776 q146 q777 dX14_is_9 (by decide +kernel) rfl rfl (Nat.le_of_ble_eq_true rfl) rfl ?_
    refine AW.icmp_ge (tgt := 49) dX14_is_12 (by decide) rfl (fun _ => ?_) (fun c_ => by first | exact absurd c_ (Int32.le_refl _) | exact absurd (Int32.le_refl _) c_ | exact absurd c_ (not_not_intro (Int32.le_refl _)) | exact Bool.noConfusion (c_.symm.trans (Int32.le_refl _)))
    refine AW.aload_n dX14_is_49 rfl rfl ?_
    refine AW.get ci14 0 (by decide) q797 dX14_is_50 ga rfl rfl ?_
    refine AW.if_eq (tgt := 75) dX14_is_53 (by decide) rfl (fun c53 => ?_) (fun c53 => ?_)
    · refine AW.iload_n dX14_is_75 rfl rfl ?_
      refine AW.if_le (tgt := 83) dX14_is_76 (by decide) rfl (fun c76 => ?_) (fun c76 => ?_)
      · refine AW.iconst (v := 0) dX14_is_83 (by decide) rfl ?_
        exact AW.bretE dX14_is_84 rfl rfl (by unfold allX; rw [if_neg (by rw [b2i_f' c53]; decide)]; rw [dec_f (show ¬ _ < _ from Int32.not_lt.mpr c76)]; rfl) rfl
      · refine AW.iconst (v := 1) dX14_is_79 (by decide) rfl ?_
        refine AW.goto (tgt := 84) dX14_is_80 (by decide) ?_
        exact AW.bretE dX14_is_84 rfl rfl (by unfold allX; rw [if_neg (by rw [b2i_f' c53]; decide)]; rw [dec_t (show _ < _ from Int32.not_le.mp c76)]; rfl) rfl
    · refine AW.iload_n dX14_is_56 rfl rfl ?_
      refine AW.aload_n dX14_is_57 rfl rfl ?_
      refine AW.get ci14 1 (by decide) q798 dX14_is_58 ga rfl rfl ?_
      refine AW.callV (Y := mJ2_size) (n := 0) (r_J2_size gM) (by omega) (by decide) rfl gM q1002 q775 q776 q146 q777 dX14_is_61 (by decide +kernel) rfl rfl (Nat.le_of_ble_eq_true rfl) rfl ?_
      refine AW.icmp_ne (tgt := 71) dX14_is_64 (by decide) rfl (fun c64 => ?_) (fun c64 => ?_)
      · refine AW.iconst (v := 0) dX14_is_71 (by decide) rfl ?_
        refine AW.goto (tgt := 84) dX14_is_72 (by decide) ?_
        exact AW.bretE dX14_is_84 rfl rfl (by unfold allX; rw [if_pos (b2i_t' c53)]; rw [dec_f (show ¬ _ = _ from c64)]; rfl) rfl
      · refine AW.iconst (v := 1) dX14_is_67 (by decide) rfl ?_
        refine AW.goto (tgt := 84) dX14_is_68 (by decide) ?_
        exact AW.bretE dX14_is_84 rfl rfl (by unfold allX; rw [if_pos (b2i_t' c53)]; rw [dec_t (show _ = _ from c64)]; rfl) rfl
  · intro k hk ihk
    refine AW.iload_n dX14_is_4 rfl rfl ?_
    refine AW.aload_n dX14_is_5 rfl rfl ?_
    refine AW.get ci14 1 (by decide) q798 dX14_is_6 ga rfl rfl ?_
    refine AW.callV (Y := mJ2_size) (n := 0) (r_J2_size gM) (by omega) (by decide) rfl gM q1002 q775 q776 q146 q777 dX14_is_9 (by decide +kernel) rfl rfl (Nat.le_of_ble_eq_true rfl) rfl ?_
    refine AW.icmp_ge (tgt := 49) dX14_is_12 (by decide) rfl (fun c_ => by first | exact absurd c_ (by rw [Int32.le_iff_toInt_le, nI_t (by omega), nI_t (by omega)]; omega) | exact absurd (by rw [Int32.le_iff_toInt_le, nI_t (by omega), nI_t (by omega)]; omega) c_ | exact Bool.noConfusion (c_.symm.trans (by rw [Int32.le_iff_toInt_le, nI_t (by omega), nI_t (by omega)]; omega))) (fun _ => ?_)
    refine AW.iload_n dX14_is_15 rfl rfl ?_
    refine AW.aload_n dX14_is_16 rfl rfl ?_
    refine AW.get ci14 1 (by decide) q798 dX14_is_17 ga rfl rfl ?_
    refine AW.iload_n dX14_is_20 rfl rfl ?_
    have hg_ := r_J2_get gM (gE (by omega)) (nI k) (i32_nn (by omega)) (nI_lt2 hk (by omega)) (vp_in_nI (by omega) (by omega)) (by rw [cI_nI (by omega), hf k hk]; exact Or.inr ⟨_, rfl⟩)
    rw [cI_nI (by omega), hf k hk] at hg_
    refine AW.callV (Y := mJ2_get) (n := 1) (hg_) (by omega) (by decide) rfl gM q1003 q779 q780 q146 q781 dX14_is_21 (by decide +kernel) rfl rfl (Nat.le_of_ble_eq_true rfl) rfl ?_
    refine aw_castO (hO k hk) (hs k hk) dX14_is_24 q1004 rfl rfl ?_
    refine AW.aload_n dX14_is_27 rfl rfl ?_
    refine aw_callAsk (hO k hk) (hs k hk) hd q1006 dX14_is_28 (Nat.le_of_ble_eq_true rfl) rfl ?_
    refine AW.if_eqB (tgt := 40) dX14_is_33 (by decide) rfl (fun c33 => ?_) (fun c33 => ?_)
    · refine AW.iconst (v := 0) dX14_is_40 (by decide) rfl ?_
      refine AW.iadd dX14_is_41 rfl ?_
      refine AW.istore_n (i := 2) dX14_is_42 rfl rfl (Nat.le_of_ble_eq_true rfl) rfl rfl ?_
      refine AW.iinc (v := 1) dX14_is_43 rfl (by decide) rfl rfl rfl ?_
      refine AW.goto (tgt := 4) dX14_is_46 (by decide) ?_
      exact AW.ls (by rw [nI_succ]; show _ = [_, _, some (Value.int (sumUp (fun k => b2i (Fs k (s.A 620))) k + b2i (Fs k (s.A 620)))), _]; rw [show Fs k (s.A 620) = _ from c33]; rfl) ihk
    · refine AW.iconst (v := 1) dX14_is_36 (by decide) rfl ?_
      refine AW.goto (tgt := 41) dX14_is_37 (by decide) ?_
      refine AW.iadd dX14_is_41 rfl ?_
      refine AW.istore_n (i := 2) dX14_is_42 rfl rfl (Nat.le_of_ble_eq_true rfl) rfl rfl ?_
      refine AW.iinc (v := 1) dX14_is_43 rfl (by decide) rfl rfl rfl ?_
      refine AW.goto (tgt := 4) dX14_is_46 (by decide) ?_
      exact AW.ls (by rw [nI_succ]; show _ = [_, _, some (Value.int (sumUp (fun k => b2i (Fs k (s.A 620))) k + b2i (Fs k (s.A 620)))), _]; rw [show Fs k (s.A 620) = _ from c33]; rfl) ihk
theorem r_X6_of {s : Sg} {d dd a : Nat} (hd : dd + 1 ≤ d) (hd4 : 4 ≤ d) {lo1 hi1 x1 : Nat} {b1 : AH} {F1 : SumF} (hO1 : SumO lo1 hi1 b1 dd x1 F1) (hs1 : ∀ k, (k < 512 ∨ lo1 ≤ k ∧ k < hi1) → s.b.g k = b1.g k) {Mo E n cap : Nat} {m : Int32} {f : Nat → Value} (gM : (hp s).g Mo = some (.inr (16, [.int m, .ref E, .int (nI n)]))) (gE : 0 < n → (hp s).g E = some (.inl (6, cap, f))) (hn : n ≤ cap) (hc : cap ≤ 1000) {av los his : Nat → Nat} {bs : Nat → AH} {Fs : Nat → SumF} (hf : ∀ k, k < n → f k = .ref (av k)) (hO : ∀ k, k < n → SumO (los k) (his k) (bs k) dd (av k) (Fs k)) (hs : ∀ k, k < n → ∀ j, (j < 512 ∨ los k ≤ j ∧ j < his k) → s.b.g j = (bs k).g j) {So E2 cap2 : Nat} {m2 : Int32} {f2 : Nat → Value} {sg : Nat → Int32} {iv : Nat → Nat} (gS : (hp s).g So = some (.inr (16, [.int m2, .ref E2, .int (nI n)]))) (gE2 : 0 < n → (hp s).g E2 = some (.inl (6, cap2, f2))) (hn2 : n ≤ cap2) (hc2 : cap2 ≤ 1000) (hf2 : ∀ k, k < n → f2 k = .ref (iv k)) (hiv : ∀ k, k < n → (hp s).g (iv k) = some (.inr (17, [.int (sg k)]))) (ga : (hp s).g a = some (.inr (6, [.ref x1, .ref Mo, .ref So]))) : Run d mX6_of [.ref a, .ref 620] (hp s) (.inl (some (.long (chX F1 Fs sg n (s.A 620))))) (hp s) := by
  refine Run.of rfl (Nat.le_of_ble_eq_true rfl) rfl ?_
  refine AW.aload_n dX6_of_0 rfl rfl ?_
  refine AW.get ci6 0 (by decide) q613 dX6_of_1 ga rfl rfl ?_
  refine AW.aload_n dX6_of_4 rfl rfl ?_
  refine aw_callSum hO1 hs1 hd q915 dX6_of_5 (Nat.le_of_ble_eq_true rfl) rfl ?_
  refine AW.lstore_n (i := 2) dX6_of_10 rfl rfl (Nat.le_of_ble_eq_true rfl) rfl rfl ?_
  refine AW.iconst (v := 0) dX6_of_11 (by decide) rfl ?_
  refine AW.istore dX6_of_12 rfl (Nat.le_of_ble_eq_true rfl) rfl rfl ?_
  refine loopUp (P := fun k => AW d mX6_of (hp s) 14 [some (.ref a), some (.ref 620), some (.long (chX F1 Fs sg k (s.A 620))), none, some (.int (nI k)), none, none, none, none, none] [] (.inl (some (.long (chX F1 Fs sg n (s.A 620))))) (hp s)) n ?_ ?_ 0 (by first | exact Nat.zero_le _ | omega)
  · refine AW.iload dX6_of_14 rfl rfl ?_
    refine AW.aload_n dX6_of_16 rfl rfl ?_
    refine AW.get ci6 1 (by decide) q614 dX6_of_17 ga rfl rfl ?_
    refine AW.callV (Y := mJ2_size) (n := 0) (r_J2_size gM) (by omega) (by decide) rfl gM q949 q775 q776 q146 q777 dX6_of_20 (by decide +kernel) rfl rfl (Nat.le_of_ble_eq_true rfl) rfl ?_
    refine AW.icmp_ge (tgt := 143) dX6_of_23 (by decide) rfl (fun _ => ?_) (fun c_ => by first | exact absurd c_ (Int32.le_refl _) | exact absurd (Int32.le_refl _) c_ | exact absurd c_ (not_not_intro (Int32.le_refl _)) | exact Bool.noConfusion (c_.symm.trans (Int32.le_refl _)))
    refine AW.lload_n dX6_of_143 rfl rfl ?_
    exact AW.lretE dX6_of_144 rfl rfl rfl rfl
  · intro k hk ihk
    refine AW.iload dX6_of_14 rfl rfl ?_
    refine AW.aload_n dX6_of_16 rfl rfl ?_
    refine AW.get ci6 1 (by decide) q614 dX6_of_17 ga rfl rfl ?_
    refine AW.callV (Y := mJ2_size) (n := 0) (r_J2_size gM) (by omega) (by decide) rfl gM q949 q775 q776 q146 q777 dX6_of_20 (by decide +kernel) rfl rfl (Nat.le_of_ble_eq_true rfl) rfl ?_
    refine AW.icmp_ge (tgt := 143) dX6_of_23 (by decide) rfl (fun c_ => by first | exact absurd c_ (by rw [Int32.le_iff_toInt_le, nI_t (by omega), nI_t (by omega)]; omega) | exact absurd (by rw [Int32.le_iff_toInt_le, nI_t (by omega), nI_t (by omega)]; omega) c_ | exact Bool.noConfusion (c_.symm.trans (by rw [Int32.le_iff_toInt_le, nI_t (by omega), nI_t (by omega)]; omega))) (fun _ => ?_)
    refine AW.aload_n dX6_of_26 rfl rfl ?_
    refine AW.get ci6 1 (by decide) q614 dX6_of_27 ga rfl rfl ?_
    refine AW.iload dX6_of_30 rfl rfl ?_
    have hg_ := r_J2_get gM (gE (by omega)) (nI k) (i32_nn (by omega)) (nI_lt2 hk (by omega)) (vp_in_nI (by omega) (by omega)) (by rw [cI_nI (by omega), hf k hk]; exact Or.inr ⟨_, rfl⟩)
    rw [cI_nI (by omega), hf k hk] at hg_
    refine AW.callV (Y := mJ2_get) (n := 1) (hg_) (by omega) (by decide) rfl gM q950 q779 q780 q146 q781 dX6_of_32 (by decide +kernel) rfl rfl (Nat.le_of_ble_eq_true rfl) rfl ?_
    refine aw_castO (hO k hk) (hs k hk) dX6_of_35 q951 rfl rfl ?_
    refine AW.aload_n dX6_of_38 rfl rfl ?_
    refine aw_callSum (hO k hk) (hs k hk) hd q915 dX6_of_39 (Nat.le_of_ble_eq_true rfl) rfl ?_
    refine AW.lstore dX6_of_44 rfl (Nat.le_of_ble_eq_true rfl) rfl rfl ?_
    refine AW.aload_n dX6_of_46 rfl rfl ?_
    refine AW.get ci6 2 (by decide) q615 dX6_of_47 ga rfl rfl ?_
    refine AW.iload dX6_of_50 rfl rfl ?_
    have hi_ := r_J2_get gS (gE2 (by omega)) (nI k) (i32_nn (by omega)) (nI_lt2 hk (by omega)) (vp_in_nI (by omega) (by omega)) (by rw [cI_nI (by omega), hf2 k hk]; exact Or.inr ⟨_, rfl⟩)
    rw [cI_nI (by omega), hf2 k hk] at hi_
    refine AW.callV (Y := mJ2_get) (n := 1) (hi_) (by omega) (by decide) rfl gS q950 q779 q780 q146 q781 dX6_of_52 (by decide +kernel) rfl rfl (Nat.le_of_ble_eq_true rfl) rfl ?_
    refine AW.castS dX6_of_55 q952 (hiv k hk) rfl rfl rfl ?_
    have gi := hiv k hk
    refine AW.callV (Y := mJ12_intValue) (n := 0) (r_J12_intValue (hiv k hk)) (by omega) (by decide) rfl gi q953 q954 q955 q162 q956 dX6_of_58 (by decide +kernel) rfl rfl (Nat.le_of_ble_eq_true rfl) rfl ?_
    refine AW.istore dX6_of_61 rfl (Nat.le_of_ble_eq_true rfl) rfl rfl ?_
    refine AW.iload dX6_of_63 rfl rfl ?_
    refine AW.bipush (v := 43) dX6_of_65 (by decide) rfl ?_
    refine AW.icmp_ne (tgt := 77) dX6_of_67 (by decide) rfl (fun c67 => ?_) (fun c67 => ?_)
    · refine AW.iload dX6_of_77 rfl rfl ?_
      refine AW.bipush (v := 45) dX6_of_79 (by decide) rfl ?_
      refine AW.icmp_ne (tgt := 91) dX6_of_81 (by decide) rfl (fun c81 => ?_) (fun c81 => ?_)
      · refine AW.iload dX6_of_91 rfl rfl ?_
        refine AW.bipush (v := 42) dX6_of_93 (by decide) rfl ?_
        refine AW.icmp_ne (tgt := 105) dX6_of_95 (by decide) rfl (fun c95 => ?_) (fun c95 => ?_)
        · refine AW.lload dX6_of_105 rfl rfl ?_
          refine AW.lconst (v := 0) dX6_of_107 (by decide) rfl ?_
          refine AW.lcmp dX6_of_108 rfl ?_
          refine AW.if_ne (tgt := 116) dX6_of_109 (by decide) rfl (fun c109 => ?_) (fun c109 => ?_)
          · refine AW.lload_n dX6_of_116 rfl rfl ?_
            refine AW.lload dX6_of_117 rfl rfl ?_
            refine AW.ldiv dX6_of_119 (by rw [lg_cmp_eq] at c109; exact c109) rfl ?_
            refine AW.lstore dX6_of_120 rfl (Nat.le_of_ble_eq_true rfl) rfl rfl ?_
            refine AW.ldc2 dX6_of_122 q957 rfl ?_
            refine AW.ldc2 dX6_of_125 q958 rfl ?_
            refine AW.lload dX6_of_128 rfl rfl ?_
            refine AW.mminL dX6_of_130 q959 q960 q151 q961 (by omega) (Nat.le_of_ble_eq_true rfl) rfl ?_
            refine AW.mmaxL dX6_of_133 q962 q963 q151 q964 (by omega) (Nat.le_of_ble_eq_true rfl) rfl ?_
            refine AW.lstore_n (i := 2) dX6_of_136 rfl rfl (Nat.le_of_ble_eq_true rfl) rfl rfl ?_
            refine AW.iinc (v := 1) dX6_of_137 rfl (by decide) rfl rfl rfl ?_
            refine AW.goto (tgt := 14) dX6_of_140 (by decide) ?_
            have es : chX F1 Fs sg (k + 1) (s.A 620) = chOp (sg k) (chX F1 Fs sg k (s.A 620)) (Fs k (s.A 620)) := rfl
            unfold chOp at es
            rw [lg_cmp_eq] at c109
            rw [if_neg (show ¬ sg k = 43 from c67), if_neg (show ¬ sg k = 45 from c81), if_neg (show ¬ sg k = 42 from c95), if_neg c109] at es
            refine AW.fg 5 rfl (AW.fg 7 rfl (AW.fg 8 rfl ?_))
            exact AW.ls (by rw [nI_succ, es]; rfl) ihk
          · refine AW.lconst (v := 0) dX6_of_112 (by decide) rfl ?_
            refine AW.goto (tgt := 120) dX6_of_113 (by decide) ?_
            refine AW.lstore dX6_of_120 rfl (Nat.le_of_ble_eq_true rfl) rfl rfl ?_
            refine AW.ldc2 dX6_of_122 q957 rfl ?_
            refine AW.ldc2 dX6_of_125 q958 rfl ?_
            refine AW.lload dX6_of_128 rfl rfl ?_
            refine AW.mminL dX6_of_130 q959 q960 q151 q961 (by omega) (Nat.le_of_ble_eq_true rfl) rfl ?_
            refine AW.mmaxL dX6_of_133 q962 q963 q151 q964 (by omega) (Nat.le_of_ble_eq_true rfl) rfl ?_
            refine AW.lstore_n (i := 2) dX6_of_136 rfl rfl (Nat.le_of_ble_eq_true rfl) rfl rfl ?_
            refine AW.iinc (v := 1) dX6_of_137 rfl (by decide) rfl rfl rfl ?_
            refine AW.goto (tgt := 14) dX6_of_140 (by decide) ?_
            have es : chX F1 Fs sg (k + 1) (s.A 620) = chOp (sg k) (chX F1 Fs sg k (s.A 620)) (Fs k (s.A 620)) := rfl
            unfold chOp at es
            rw [lg_cmp_eq] at c109
            rw [if_neg (show ¬ sg k = 43 from c67), if_neg (show ¬ sg k = 45 from c81), if_neg (show ¬ sg k = 42 from c95), if_pos c109] at es
            refine AW.fg 5 rfl (AW.fg 7 rfl (AW.fg 8 rfl ?_))
            exact AW.ls (by rw [nI_succ, es]; rfl) ihk
        · refine AW.lload_n dX6_of_98 rfl rfl ?_
          refine AW.lload dX6_of_99 rfl rfl ?_
          refine AW.lmul dX6_of_101 rfl ?_
          refine AW.goto (tgt := 120) dX6_of_102 (by decide) ?_
          refine AW.lstore dX6_of_120 rfl (Nat.le_of_ble_eq_true rfl) rfl rfl ?_
          refine AW.ldc2 dX6_of_122 q957 rfl ?_
          refine AW.ldc2 dX6_of_125 q958 rfl ?_
          refine AW.lload dX6_of_128 rfl rfl ?_
          refine AW.mminL dX6_of_130 q959 q960 q151 q961 (by omega) (Nat.le_of_ble_eq_true rfl) rfl ?_
          refine AW.mmaxL dX6_of_133 q962 q963 q151 q964 (by omega) (Nat.le_of_ble_eq_true rfl) rfl ?_
          refine AW.lstore_n (i := 2) dX6_of_136 rfl rfl (Nat.le_of_ble_eq_true rfl) rfl rfl ?_
          refine AW.iinc (v := 1) dX6_of_137 rfl (by decide) rfl rfl rfl ?_
          refine AW.goto (tgt := 14) dX6_of_140 (by decide) ?_
          have es : chX F1 Fs sg (k + 1) (s.A 620) = chOp (sg k) (chX F1 Fs sg k (s.A 620)) (Fs k (s.A 620)) := rfl
          unfold chOp at es
          rw [if_neg (show ¬ sg k = 43 from c67), if_neg (show ¬ sg k = 45 from c81), if_pos (show sg k = 42 from c95)] at es
          refine AW.fg 5 rfl (AW.fg 7 rfl (AW.fg 8 rfl ?_))
          exact AW.ls (by rw [nI_succ, es]; rfl) ihk
      · refine AW.lload_n dX6_of_84 rfl rfl ?_
        refine AW.lload dX6_of_85 rfl rfl ?_
        refine AW.lsub dX6_of_87 rfl ?_
        refine AW.goto (tgt := 120) dX6_of_88 (by decide) ?_
        refine AW.lstore dX6_of_120 rfl (Nat.le_of_ble_eq_true rfl) rfl rfl ?_
        refine AW.ldc2 dX6_of_122 q957 rfl ?_
        refine AW.ldc2 dX6_of_125 q958 rfl ?_
        refine AW.lload dX6_of_128 rfl rfl ?_
        refine AW.mminL dX6_of_130 q959 q960 q151 q961 (by omega) (Nat.le_of_ble_eq_true rfl) rfl ?_
        refine AW.mmaxL dX6_of_133 q962 q963 q151 q964 (by omega) (Nat.le_of_ble_eq_true rfl) rfl ?_
        refine AW.lstore_n (i := 2) dX6_of_136 rfl rfl (Nat.le_of_ble_eq_true rfl) rfl rfl ?_
        refine AW.iinc (v := 1) dX6_of_137 rfl (by decide) rfl rfl rfl ?_
        refine AW.goto (tgt := 14) dX6_of_140 (by decide) ?_
        have es : chX F1 Fs sg (k + 1) (s.A 620) = chOp (sg k) (chX F1 Fs sg k (s.A 620)) (Fs k (s.A 620)) := rfl
        unfold chOp at es
        rw [if_neg (show ¬ sg k = 43 from c67), if_pos (show sg k = 45 from c81)] at es
        refine AW.fg 5 rfl (AW.fg 7 rfl (AW.fg 8 rfl ?_))
        exact AW.ls (by rw [nI_succ, es]; rfl) ihk
    · refine AW.lload_n dX6_of_70 rfl rfl ?_
      refine AW.lload dX6_of_71 rfl rfl ?_
      refine AW.ladd dX6_of_73 rfl ?_
      refine AW.goto (tgt := 120) dX6_of_74 (by decide) ?_
      refine AW.lstore dX6_of_120 rfl (Nat.le_of_ble_eq_true rfl) rfl rfl ?_
      refine AW.ldc2 dX6_of_122 q957 rfl ?_
      refine AW.ldc2 dX6_of_125 q958 rfl ?_
      refine AW.lload dX6_of_128 rfl rfl ?_
      refine AW.mminL dX6_of_130 q959 q960 q151 q961 (by omega) (Nat.le_of_ble_eq_true rfl) rfl ?_
      refine AW.mmaxL dX6_of_133 q962 q963 q151 q964 (by omega) (Nat.le_of_ble_eq_true rfl) rfl ?_
      refine AW.lstore_n (i := 2) dX6_of_136 rfl rfl (Nat.le_of_ble_eq_true rfl) rfl rfl ?_
      refine AW.iinc (v := 1) dX6_of_137 rfl (by decide) rfl rfl rfl ?_
      refine AW.goto (tgt := 14) dX6_of_140 (by decide) ?_
      have es : chX F1 Fs sg (k + 1) (s.A 620) = chOp (sg k) (chX F1 Fs sg k (s.A 620)) (Fs k (s.A 620)) := rfl
      unfold chOp at es
      rw [if_pos (show sg k = 43 from c67)] at es
      refine AW.fg 5 rfl (AW.fg 7 rfl (AW.fg 8 rfl ?_))
      exact AW.ls (by rw [nI_succ, es]; rfl) ihk
