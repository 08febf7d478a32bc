/-! START 4: the environment (printed by tools/xenv.py) -/
set_option maxRecDepth 100000
def estF (a0 t1 t2 t3 b : Nat) (ad : Nat → Nat × Nat) (ig : Nat → Nat) (k : Nat) : Nat :=
  if k = 0 then a0 else if k = 1 then t1 else if k = 2 then t2 else if k = 3 then t3 else if k = 500 then b
  else if 100 ≤ k ∧ k < 123 then (ad (k - 100)).1 else if 130 ≤ k ∧ k < 153 then (ad (k - 130)).2 else if 200 ≤ k ∧ k < 456 then ig (k - 200) else a0
def tcF (ac : Nat → ClassId) (c7 c8 c9 c33 : ClassId) (sc : Nat → ClassId) (t : Nat) : ClassId :=
  if t < 7 then ac t else if t = 7 then c7 else if t = 8 then c8 else if t = 9 then c9 else if t < 33 then sc (t - 10) else c33
def eovF (e0 e1 e2 : Option Nat) (mi aD : Nat) (k : Nat) : Option Nat := match k with
  | 0 => e0
  | 1 => e1
  | 2 => e2
  | 3 => some mi
  | _ => some aD
section ENV
variable {a0 t1 t2 t3 b : Nat} {ad : Nat → Nat × Nat} {ig : Nat → Nat}
theorem est_s {i : Nat} (hi : i < 23) : estF a0 t1 t2 t3 b ad ig (100 + i) = (ad i).1 := by
  unfold estF
  rw [if_neg (by omega), if_neg (by omega), if_neg (by omega), if_neg (by omega), if_neg (by omega), if_pos (by omega), show 100 + i - 100 = i by omega]
theorem est_b {i : Nat} (hi : i < 23) : estF a0 t1 t2 t3 b ad ig (130 + i) = (ad i).2 := by
  unfold estF
  rw [if_neg (by omega), if_neg (by omega), if_neg (by omega), if_neg (by omega), if_neg (by omega), if_neg (by omega), if_pos (by omega), show 130 + i - 130 = i by omega]
theorem est_i {j : Nat} (hj : j < 256) : estF a0 t1 t2 t3 b ad ig (200 + j) = ig j := by
  unfold estF
  rw [if_neg (by omega), if_neg (by omega), if_neg (by omega), if_neg (by omega), if_neg (by omega), if_neg (by omega), if_neg (by omega), if_pos (by omega), show 200 + j - 200 = j by omega]
theorem est_lt {N : Nat} (h0 : a0 < N) (h1 : t1 < N) (h2 : t2 < N) (h3 : t3 < N) (h5 : b < N) (hs : ∀ i, i < 23 → (ad i).1 < N ∧ (ad i).2 < N) (hi : ∀ j, j < 256 → ig j < N) (k : Nat) : estF a0 t1 t2 t3 b ad ig k < N := by
  unfold estF
  by_cases e0 : k = 0
  · rw [if_pos e0]; exact h0
  rw [if_neg e0]
  by_cases e1 : k = 1
  · rw [if_pos e1]; exact h1
  rw [if_neg e1]
  by_cases e2 : k = 2
  · rw [if_pos e2]; exact h2
  rw [if_neg e2]
  by_cases e3 : k = 3
  · rw [if_pos e3]; exact h3
  rw [if_neg e3]
  by_cases e5 : k = 500
  · rw [if_pos e5]; exact h5
  rw [if_neg e5]
  by_cases c1 : 100 ≤ k ∧ k < 123
  · rw [if_pos c1]; exact (hs (k - 100) (by omega)).1
  rw [if_neg c1]
  by_cases c2 : 130 ≤ k ∧ k < 153
  · rw [if_pos c2]; exact (hs (k - 130) (by omega)).2
  rw [if_neg c2]
  by_cases c3 : 200 ≤ k ∧ k < 456
  · rw [if_pos c3]; exact hi (k - 200) (by omega)
  rw [if_neg c3]
  exact h0
theorem tc_b {ac : Nat → ClassId} {c7 c8 c9 c33 : ClassId} {sc : Nat → ClassId} {i : Nat} (hi : i < 23) : tcF ac c7 c8 c9 c33 sc (10 + i) = sc i := by
  unfold tcF
  rw [if_neg (by omega), if_neg (by omega), if_neg (by omega), if_neg (by omega), if_pos (by omega), show 10 + i - 10 = i by omega]
theorem tr_lt {E : EE} {k : Nat} (h : k < 512) : tr E k = Est E k := if_pos h
end ENV
theorem start_env {b L : Nat} {xs : Nat → Int32} {s : State} {l : Launch} (hg : (Jvm.Cond.and given_1 narrow_1).before #[Value.ref b] s = true) (ht : ∀ w ∈ lw_tbl, w.before #[Value.ref b] s = true) (hl : l.stackTraces = false) (hX : va_X b L xs s s.heap) : ∃ E : EE, EL E = l ∧ EB E = s.heap.size ∧ Est E 500 = b ∧ Fx E s ∧ ∃ c d : Value, Rp E (h00 (gO L xs c d)) s.heap := by
  obtain ⟨D, hD⟩ := fx_cls ht
  obtain ⟨ac, hac⟩ := fx_arr ht
  obtain ⟨ad, had⟩ := st_all hg
  obtain ⟨t1, w1, cell1, W1, W2, W3, W4, W5, W6, W7⟩ := st_words hg had
  obtain ⟨t2, w2, cell2, E1, E2, E3, E4, E5, E6, E7⟩ := fx_empty hg
  obtain ⟨t3, ig, w3, ⟨cell3, C1, C2, C3, C4, C5, C6, C7⟩, hI⟩ := fx_cache hg (hD 17 _ rfl)
  obtain ⟨a0, aD, cn, w0, n1, n2, n3, n4, n5, n6, n7, n8, n9⟩ := fx_nothing hg (hD 4 _ rfl)
  obtain ⟨mi, hmi⟩ := va_Mi.of (nw90 hg)
  obtain ⟨e0, z6⟩ := zq_of (ht _ q484) (ht _ (lw_all_tbl q152)) (nw38 hg)
  obtain ⟨e1, z7⟩ := zq_of (ht _ q486) (ht _ (lw_all_tbl q152)) (nw39 hg)
  obtain ⟨e2, z8⟩ := zq_of (ht _ q424) (ht _ (lw_all_tbl q149)) (nw34 hg)
  obtain ⟨scr, x1, x2, x3, x4, x5⟩ := hX
  have hb0 : ∀ i : Nat, ∃ cell : Cell, i < 23 → s.heap[(ad i).2]? = some cell ∧ s.isArrayOf cell .byte ∧ cell.vm ≠ .unknown ∧ (wdL i).length ≤ cell.slots.size ∧ cell.slots.size.toInt32 = Int32.ofNat (wdL i).length ∧ ∀ j : Nat, j < (wdL i).length → cell.slots[j]? = some (.int (nI ((wdL i).getD j 0))) := by
    intro i
    by_cases hi : i < 23
    · obtain ⟨-, -, -, -, cell, y1, y2, y3, y4, y5, y6, -⟩ := had i hi
      exact ⟨cell, fun _ => ⟨y1, y2, y3, y4, y5, y6⟩⟩
    · exact ⟨cn, fun h => absurd h hi⟩
  obtain ⟨bc, hbc⟩ := Classical.axiomOfChoice hb0
  have hlt : ∀ {a : Nat} {cell : Cell}, s.heap[a]? = some cell → a < s.heap.size := fun h => (Array.getElem?_eq_some_iff.mp h).1
  have hs : ∀ i, i < 23 → (ad i).1 < s.heap.size ∧ (ad i).2 < s.heap.size := fun i hi => by
    obtain ⟨-, ⟨cell, y1, -⟩, -⟩ := had i hi
    exact ⟨hlt y1, hlt (hbc i hi).1⟩
  have hi : ∀ j, j < 256 → ig j < s.heap.size := fun j hj => by
    obtain ⟨cell, y1, -⟩ := hI j hj
    exact hlt y1
  refine ⟨(l, D, tcF ac cell2.cls cell1.cls cell3.cls scr.cls (fun i => (bc i).cls), estF a0 t1 t2 t3 b ad ig, eovF e0 e1 e2 mi aD, s.heap.size), rfl, rfl, rfl, ?_, .int 0, .float 4, ?_⟩
  · refine ⟨⟨hD, fun k q hq => ?_⟩, fx_nw ht, fun k _ => est_lt (hlt n1) (hlt W1) (hlt E1) (hlt C1) (hlt x1) hs hi k, hl, fun t ty hq => ?_, ?_, fx_fw ht, ht _ q187, fun i hi => ?_, vk_R.of (ht _ q454) (had 22 (by decide)).1, vxl_of (ht _ q484), vxl_of (ht _ q486), mi, rfl, hmi⟩
    · match k, hq with
      | 0, hq => cases hq; exact hac 0 _ rfl
      | 1, hq => cases hq; exact hac 1 _ rfl
      | 2, hq => cases hq; exact hac 2 _ rfl
      | 3, hq => cases hq; exact hac 3 _ rfl
      | 4, hq => cases hq; exact hac 4 _ rfl
      | 5, hq => cases hq; exact hac 5 _ rfl
      | 6, hq => cases hq; exact hac 6 _ rfl
      | k + 7, hq => cases hq
    · match t, hq with
      | 0, hq => cases hq; exact arr_of E2
      | 1, hq => cases hq; exact arr_of W2
      | 2, hq => cases hq; exact arr_of C2
      | 3, hq => cases hq; exact arr_of (hbc 0 (by decide)).2.1
      | 4, hq => cases hq; exact arr_of (hbc 1 (by decide)).2.1
      | 5, hq => cases hq; exact arr_of (hbc 2 (by decide)).2.1
      | 6, hq => cases hq; exact arr_of (hbc 3 (by decide)).2.1
      | 7, hq => cases hq; exact arr_of (hbc 4 (by decide)).2.1
      | 8, hq => cases hq; exact arr_of (hbc 5 (by decide)).2.1
      | 9, hq => cases hq; exact arr_of (hbc 6 (by decide)).2.1
      | 10, hq => cases hq; exact arr_of (hbc 7 (by decide)).2.1
      | 11, hq => cases hq; exact arr_of (hbc 8 (by decide)).2.1
      | 12, hq => cases hq; exact arr_of (hbc 9 (by decide)).2.1
      | 13, hq => cases hq; exact arr_of (hbc 10 (by decide)).2.1
      | 14, hq => cases hq; exact arr_of (hbc 11 (by decide)).2.1
      | 15, hq => cases hq; exact arr_of (hbc 12 (by decide)).2.1
      | 16, hq => cases hq; exact arr_of (hbc 13 (by decide)).2.1
      | 17, hq => cases hq; exact arr_of (hbc 14 (by decide)).2.1
      | 18, hq => cases hq; exact arr_of (hbc 15 (by decide)).2.1
      | 19, hq => cases hq; exact arr_of (hbc 16 (by decide)).2.1
      | 20, hq => cases hq; exact arr_of (hbc 17 (by decide)).2.1
      | 21, hq => cases hq; exact arr_of (hbc 18 (by decide)).2.1
      | 22, hq => cases hq; exact arr_of (hbc 19 (by decide)).2.1
      | 23, hq => cases hq; exact arr_of (hbc 20 (by decide)).2.1
      | 24, hq => cases hq; exact arr_of (hbc 21 (by decide)).2.1
      | 25, hq => cases hq; exact arr_of (hbc 22 (by decide)).2.1
      | 26, hq => cases hq; exact arr_of x2
      | t + 27, hq => cases hq
    · unfold zL
      exact (List.forall_mem_cons.mpr ⟨va_Zof (A := AS s) (ht _ q859) (ht _ (lw_all_tbl q138)) w0 AS_no, (List.forall_mem_cons.mpr ⟨va_Zof (A := AS s) (ht _ q394) (ht _ (lw_all_tbl q142)) w1 AS_no, (List.forall_mem_cons.mpr ⟨va_Zof (A := AS s) (ht _ q352) (ht _ (lw_all_tbl q146)) w2 AS_no, (List.forall_mem_cons.mpr ⟨va_Zof (A := AS s) (ht _ q633) (ht _ (lw_all_tbl q163)) w3 AS_no, (List.forall_mem_cons.mpr ⟨va_Zof (A := AS s) (ht _ q631) (ht _ (lw_all_tbl q163)) (va_eqt (nw40 hg)) AS_no, (List.forall_mem_cons.mpr ⟨va_Zof (A := AS s) (ht _ q408) (ht _ (lw_all_tbl q147)) (va_eqt (nw33 hg)) AS_no, (List.forall_mem_cons.mpr ⟨z6, (List.forall_mem_cons.mpr ⟨z7, (List.forall_mem_cons.mpr ⟨z8, (fun q hq => by cases hq)⟩)⟩)⟩)⟩)⟩)⟩)⟩)⟩)⟩)
    · have h := had i hi
      have f1 : estF a0 t1 t2 t3 b ad ig (100 + i) = (ad i).1 := est_s hi
      have f2 : estF a0 t1 t2 t3 b ad ig (130 + i) = (ad i).2 := est_b hi
      show va_O "java/lang/String" (estF a0 t1 t2 t3 b ad ig (100 + i)) (AS s) s s.heap ∧ va_OF "java/lang/String" "coder" "B" (.int 0) (estF a0 t1 t2 t3 b ad ig (100 + i)) (AS s) s s.heap ∧ va_OF "java/lang/String" "value" "[B" (.ref (estF a0 t1 t2 t3 b ad ig (130 + i))) (estF a0 t1 t2 t3 b ad ig (100 + i)) (AS s) s s.heap
      rw [f1, f2]
      exact ⟨h.2.1, h.2.2.1, h.2.2.2.1⟩
  · refine Rp.old rfl ⟨_, cn, rfl, n1, n2, n3, n4, fun h => absurd h (by decide), fun j hj => ?_⟩ ⟨cell1, W1, rfl, W3, W2.1, fun h => absurd h (by decide), W4, W5, fun j hj => (W6 j hj).trans ?_⟩ ⟨cell2, E1, rfl, E3, E2.1, fun h => absurd h (by decide), E4, E5, fun j hj => absurd hj (Nat.not_lt_zero j)⟩ ⟨cell3, C1, rfl, C3, C2.1, fun h => absurd h (by decide), C4, C5, fun j hj => (C6 j hj).trans ?_⟩ ⟨scr, x1, rfl, x3, x2.1, fun h => absurd h (by decide), Nat.le_of_eq x4.symm, by rw [x4]; rfl, fun j hj => x5 j hj⟩ (fun i hi => ?_) (fun j hj => ?_)
    · have hj : j < 5 := hj
      match j, hj with
      | 0, _ => exact n5
      | 1, _ => exact n6
      | 2, _ => exact n7
      | 3, _ => exact n8
      | 4, _ => exact n9
      | j + 5, h => omega
    · have hj : j < 22 := hj
      show some (Value.ref (ad j).1) = some (Value.ref (tr _ (100 + j)))
      rw [tr_lt (by omega)]
      exact congrArg (fun z => some (Value.ref z)) (est_s (by omega)).symm
    · have hj : j < 256 := hj
      show some (Value.ref (ig j)) = some (Value.ref (tr _ (200 + j)))
      rw [tr_lt (by omega)]
      exact congrArg (fun z => some (Value.ref z)) (est_i hj).symm
    · obtain ⟨y1, y2, y3, y4, y5, y6⟩ := hbc i hi
      refine ⟨bc i, ?_, (tc_b hi).symm, y3, y2.1, fun h => absurd h (by omega), y4, y5, fun j hj => y6 j hj⟩
      exact (congrArg (fun z => s.heap[z]?) ((tr_lt (by omega)).trans (est_b hi))).trans y1
    · obtain ⟨cell, y1, y2, y3, y4, y5⟩ := hI j hj
      refine ⟨_, cell, rfl, ?_, y2, y3, y4, fun h => absurd h (by omega), fun k hk => ?_⟩
      · exact (congrArg (fun z => s.heap[z]?) ((tr_lt (by omega)).trans (est_i hj))).trans y1
      · have hk : k < 1 := hk
        match k, hk with
        | 0, _ => exact y5
        | k + 1, h => omega
