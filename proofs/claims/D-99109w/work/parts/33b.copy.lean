/-! COPY: System.arraycopy of ints and of references -/
set_option maxRecDepth 100000
/-- a cell of an array, whatever its place -/
def ACell (E : EE) (t n : Nat) (f : Nat → Value) (cell : Cell) : Prop := cell.cls = Etc E t ∧ cell.vm ≠ .unknown ∧ (∀ z, cell.vm ≠ .statics z) ∧ n ≤ cell.slots.size ∧ cell.slots.size.toInt32 = Int32.ofNat n ∧ ∀ j, j < n → cell.slots[j]? = some (cv E (f j))
theorem ACell.put {E : EE} {t n k : Nat} {f : Nat → Value} {v : Value} {cell : Cell} (h : ACell E t n f cell) (hk : k < n) : ACell E t n (up f k v) (cell.setSlot k (cv E v)) := by
  obtain ⟨h1, h2, h3, h4, h5, h6⟩ := h
  refine ⟨h1, h2, h3, by show n ≤ (cell.slots.setIfInBounds k (cv E v)).size; rw [Array.size_setIfInBounds]; exact h4, by show (cell.slots.setIfInBounds k (cv E v)).size.toInt32 = _; rw [Array.size_setIfInBounds]; exact h5, fun j hj => ?_⟩
  show (cell.slots.setIfInBounds k (cv E v))[j]? = _
  by_cases e : j = k
  · subst e
    rw [Array.getElem?_setIfInBounds_self_of_lt (by omega), up_eq]
  · rw [Array.getElem?_setIfInBounds_ne (Ne.symm e), up_ne e]
    exact h6 j hj
theorem ACell.vmk {cell : Cell} {k : Nat} {v : Value} : (cell.setSlot k v).vm = cell.vm := rfl
theorem ACell.pairs {E : EE} {t n at_ : Nat} : ∀ (xs : List Value) (i : Nat) (f : Nat → Value) (cell : Cell), ACell E t n f cell → at_ + i + xs.length ≤ n → ACell E t n (fun j => if at_ + i ≤ j ∧ j < at_ + i + xs.length then xs.getD (j - (at_ + i)) .null else f j) (cell.storePairs at_ ((xs.map (cv E)).zipIdx i)) ∧ (cell.storePairs at_ ((xs.map (cv E)).zipIdx i)).vm = cell.vm
  | [] => fun i f cell h _ => by
    refine ⟨?_, rfl⟩
    have e : (fun j => if at_ + i ≤ j ∧ j < at_ + i + ([] : List Value).length then ([] : List Value).getD (j - (at_ + i)) .null else f j) = f := by
      funext j
      rw [if_neg (by simp only [List.length_nil]; omega)]
    rw [e]
    exact h
  | x :: xs => fun i f cell h hn => by
    simp only [List.length_cons] at hn
    have h1 := ACell.pairs (at_ := at_) xs (i + 1) (up f (at_ + i) x) (cell.setSlot (at_ + i) (cv E x)) (h.put (by omega)) (by omega)
    rw [List.map_cons, List.zipIdx_cons]
    refine ⟨?_, h1.2⟩
    have e : (fun j => if at_ + i ≤ j ∧ j < at_ + i + (x :: xs).length then (x :: xs).getD (j - (at_ + i)) .null else f j) = (fun j => if at_ + (i + 1) ≤ j ∧ j < at_ + (i + 1) + xs.length then xs.getD (j - (at_ + (i + 1))) .null else up f (at_ + i) x j) := by
      funext j
      by_cases hj : j = at_ + i
      · subst hj
        rw [if_pos (by simp only [List.length_cons]; omega), if_neg (by omega), up_eq, Nat.sub_self]
        rfl
      · by_cases hh : at_ + (i + 1) ≤ j ∧ j < at_ + (i + 1) + xs.length
        · rw [if_pos (by simp only [List.length_cons]; omega), if_pos hh, show j - (at_ + i) = (j - (at_ + (i + 1))) + 1 by omega, List.getD_cons_succ]
        · rw [if_neg (by simp only [List.length_cons]; omega), if_neg hh, up_ne hj]
    rw [e]
    exact h1.1
theorem ACell.copied {E : EE} {t0 n0 t1 n1 sp dp n : Nat} {f g : Nat → Value} {cs cd : Cell} (hs : ACell E t0 n0 f cs) (hd : ACell E t1 n1 g cd) (h1 : sp + n ≤ n0) (h2 : dp + n ≤ n1) : ACell E t1 n1 (va_cpy f g sp dp n) (cd.storeRun dp (cs.stretch sp n)) ∧ (cd.storeRun dp (cs.stretch sp n)).vm = cd.vm := by
  have e : cs.stretch sp n = ((List.range n).map (fun i => f (sp + i))).map (cv E) := by
    unfold Cell.stretch
    rw [List.map_map]
    apply List.map_congr_left
    intro i hi
    have hi' := List.mem_range.mp hi
    rw [Array.getD_eq_getD_getElem?, hs.2.2.2.2.2 _ (by omega)]
    rfl
  rw [e, Cell.storeRun]
  have := ACell.pairs (at_ := dp) ((List.range n).map (fun i => f (sp + i))) 0 g cd hd (by rw [List.length_map, List.length_range]; omega)
  have e2 : (fun j => if dp + 0 ≤ j ∧ j < dp + 0 + ((List.range n).map (fun i => f (sp + i))).length then ((List.range n).map (fun i => f (sp + i))).getD (j - (dp + 0)) .null else g j) = va_cpy f g sp dp n := by
    funext k
    simp only [va_cpy, List.length_map, List.length_range, Nat.add_zero]
    by_cases h : dp ≤ k ∧ k < dp + n
    · rw [if_pos h, if_pos h, List.getD_eq_getElem?_getD, List.getElem?_map, List.getElem?_range (by omega)]
      rfl
    · rw [if_neg h, if_neg h]
  rw [e2] at this
  exact this
theorem nn_of {z : Int32} (hz : ¬ z < 0) : z.toInt = (z.toNatClampNeg : Int) := by
  have hz0 : (0 : Int) ≤ z.toInt := by
    have := Int32.not_lt.mp hz
    simpa using Int32.le_iff_toInt_le.mp this
  show z.toInt = ((z.toInt.toNat : Nat) : Int)
  omega
section COPY
variable {d : Nat} {M : Mt} {h : AH} {pc pc2 : Nat} {ls : List (Option Value)} {st : List Value} {o : OR} {h2 : AH}
theorem AW.copy {i a0 a1 t n0 n1 : Nat} {ty : FieldType} {f g : Nat → Value} {sp dp n : Int32} (hd : decode M.2.1 pc = .ok (.invokestatic i, 3)) (w1 : Cond.methodLink M.1.cls i arraycopyName ∈ lw_all) (w2 : Cond.native arraycopyName ∈ lw_all) (w3 : Cond.static arraycopyName ∈ lw_all) (w4 : Cond.initialized "java/lang/System" ∈ lw_all) (h0 : h.g a0 = some (.inl (t, n0, f))) (ha : 512 ≤ a1) (h1 : h.g a1 = some (.inl (t, n1, g))) (ht : atAll[t]? = some ty)
    (p1 : ¬ sp < 0) (p2 : ¬ dp < 0) (p3 : ¬ n < 0) (p4 : sp.toNatClampNeg + n.toNatClampNeg ≤ n0) (p5 : dp.toNatClampNeg + n.toNatClampNeg ≤ n1)
    (hval : ∀ (E : EE) (s : State) (H : Heap) (vm' : Vm) (T : State) (dComp : ClassId) (kd : Class), Fx E s → Rp E h H → T.heap = H → s.vm.Alike vm' → s.vm.classes[Etc E t]? = some kd → kd.kind = .array dComp ty → ∀ j, j < n.toNatClampNeg → fits ty (cv E (f (sp.toNatClampNeg + j))) = true ∧ (T.setVm vm').takes dComp (cv E (f (sp.toNatClampNeg + j))))
    (hdd : 1 ≤ d) (hcat : (st.map fun v => v.category).sum ≤ 8) {h3 : AH} (hh : h.set a1 (.inl (t, n1, va_cpy f g sp.toNatClampNeg dp.toNatClampNeg n.toNatClampNeg)) = h3) (hp : pc + 3 = pc2) (k : AW d M h3 pc2 ls st o h2) : AW d M h pc ls (.int n :: .int dp :: .ref a1 :: .int sp :: .ref a0 :: st) o h2 := by
  subst hp
  subst hh
  refine AW.liftH k (Nat.le_refl _) (Nat.le_refl _) rfl (fun E p e R s m args below meth c n9 H locs cells slots Q A C hR hS hL hz hroom kk => ?_)
  have e1 : (h.set a1 (.inl (t, n1, va_cpy f g sp.toNatClampNeg dp.toNatClampNeg n.toNatClampNeg))).n - h.n = 0 := by show h.n - h.n = 0; omega
  have e2 : (h.set a1 (.inl (t, n1, va_cpy f g sp.toNatClampNeg dp.toNatClampNeg n.toNatClampNeg))).u - h.u = 0 := by show h.u - h.u = 0; omega
  rw [e1, e2] at kk
  have hF := C.2.2.2.2.2.2.2.2.1
  have hts := C.2.2.2.2.2.1
  obtain ⟨cs, q1, q2, q3, q4, q5, q6, q7, q8⟩ := hR.2 a0 _ h0
  obtain ⟨cd, r1, r2, r3, r4, r5, r6, r7, r8⟩ := hR.2 a1 _ h1
  obtain ⟨-, k0, hk0, cm0, hkk0⟩ := isArr hF ht q2 q4
  obtain ⟨-, k1, hk1, cm1, hkk1⟩ := isArr hF ht r2 r4
  have hcop := ACell.copied (E := E) (t0 := t) (t1 := t) (n0 := n0) (n1 := n1) (sp := sp.toNatClampNeg) (dp := dp.toNatClampNeg) (n := n.toNatClampNeg) (f := f) (g := g) (cs := cs) (cd := cd) ⟨q2, q3, q4, q6, q7, q8⟩ ⟨r2, r3, r4, r6, r7, r8⟩ p4 p5
  have hlocr : (st.map fun v => v.category).sum + (nativeFrameWords "java/lang/System" "arraycopy" 5 + 11) ≤ 200 := by
    have hw : nativeFrameWords "java/lang/System" "arraycopy" 5 ≤ 100 := by decide
    omega
  intro T hT X
  obtain ⟨vm', X', step⟩ := X.arraycopy C.1 C.2.2.2.2.1 (hts _ w1) (hts _ w2) (hts _ w3) (hts _ w4) (src := tr E a0) (dst := tr E a1) (cs := cs) (cd := cd) (srcPos := sp) (destPos := dp) (n := n) (by rw [hT]; exact q1) (by rw [hT]; exact r1)
    q4 r4 q3 r3 hk0 hk1 hkk0 hkk1 (by simp) p1 p2 p3
    (by rw [nn_of p1, nn_of p3]; have := p4; have q6' : n0 ≤ cs.slots.size := q6; omega)
    (by rw [nn_of p2, nn_of p3]; have := p5; have r6' : n1 ≤ cd.slots.size := r6; omega)
    (fun vm₁ hal j hj => by
      have e : cs.slots.getD (sp.toNatClampNeg + j) .null = cv E (f (sp.toNatClampNeg + j)) := by
        rw [Array.getD_eq_getD_getElem?, q8 _ (show sp.toNatClampNeg + j < n0 by omega)]
        rfl
      rw [e]
      exact hval E s H vm₁ T cm1 k1 hF hR hT hal (by rw [← r2]; exact hk1) hkk1 j hj)
    (g := F0 m pc A (.int n :: .int dp :: .ref (tr E a1) :: .int sp :: .ref (tr E a0) :: st.map (cv E))) rfl (by show A.size = _; exact hz.trans C.2.2.2.1.symm) (rest := st.map (cv E)) rfl (by rw [C.2.1]; exact hd) (by rw [hroom.1]; exact hdd) (by rw [hroom.2.1]; show 2 * 0 + _ + _ ≤ 200 * d; rw [cat_cv]; omega)
  have hl : tr E a1 < H.size := (Array.getElem?_eq_some_iff.mp r1).1
  have hheap : ((T.setVm vm').setCell (tr E a1) (copied cs cd sp dp n)).heap = H.setIfInBounds (tr E a1) (copied cs cd sp dp n) := by rw [← hT]; rfl
  have oq : ∀ q : Nat, q ≠ tr E a1 → (H.setIfInBounds (tr E a1) (copied cs cd sp dp n))[q]? = H[q]? := fun q hq => by simp [Array.getElem?_setIfInBounds, Ne.symm hq]
  have hR' : Rp E (h.set a1 (.inl (t, n1, va_cpy f g sp.toNatClampNeg dp.toNatClampNeg n.toNatClampNeg))) (H.setIfInBounds (tr E a1) (copied cs cd sp dp n)) := by
    obtain ⟨⟨g1, g2, g3, g4, g5, g6⟩, g7⟩ := hcop
    exact Rp.set hF hR ha ⟨_, by simp [Array.getElem?_setIfInBounds, hl], g1, g2, g3, fun z => g7.trans (r5 z), g4, g5, g6⟩ (by simp) oq
  obtain ⟨t9, a9, b9⟩ := kk _ _ A hR' ⟨by simp; exact hS.1, fun q g1 g2 => by
      rw [oq q (fun e => g2 (by rw [e]; exact tr_A ha))]
      exact hS.2.1 q g1 g2, fun q hq => by
      rcases List.mem_append.mp hq with h | h
      · exact hS.2.2 q h
      · obtain ⟨z, -, hz⟩ := List.mem_map.mp h
        rw [← hz]
        exact tr_A ha⟩ hL _ hheap X'
  exact ⟨t9, step t9 a9, b9⟩
theorem cpy_int {f g : Nat → Int32} {sp dp n : Nat} : va_cpy (fun j => Value.int (f j)) (fun j => Value.int (g j)) sp dp n = fun j => Value.int (va_cpy f g sp dp n j) := by
  funext k
  unfold va_cpy
  split <;> rfl
/-- ints -/
theorem AW.copyi {i a0 a1 n0 n1 : Nat} {f g : Nat → Int32} {sp dp n : Int32} (hd : decode M.2.1 pc = .ok (.invokestatic i, 3)) (w1 : Cond.methodLink M.1.cls i arraycopyName ∈ lw_all) (w2 : Cond.native arraycopyName ∈ lw_all) (w3 : Cond.static arraycopyName ∈ lw_all) (w4 : Cond.initialized "java/lang/System" ∈ lw_all) (h0 : h.g a0 = some (ia n0 f)) (ha : 512 ≤ a1) (h1 : h.g a1 = some (ia n1 g)) (p1 : ¬ sp < 0) (p2 : ¬ dp < 0) (p3 : ¬ n < 0) (p4 : sp.toNatClampNeg + n.toNatClampNeg ≤ n0) (p5 : dp.toNatClampNeg + n.toNatClampNeg ≤ n1) (hdd : 1 ≤ d) (hcat : (st.map fun v => v.category).sum ≤ 8) {h3 : AH} (hh : h.set a1 (ia n1 (va_cpy f g sp.toNatClampNeg dp.toNatClampNeg n.toNatClampNeg)) = h3) (hp : pc + 3 = pc2) (k : AW d M h3 pc2 ls st o h2) : AW d M h pc ls (.int n :: .int dp :: .ref a1 :: .int sp :: .ref a0 :: st) o h2 :=
  AW.copy (t := 0) (ty := .int) hd w1 w2 w3 w4 h0 ha h1 rfl p1 p2 p3 p4 p5 (fun E s H vm' T dComp kd _ _ _ _ _ _ j _ => ⟨rfl, trivial⟩) hdd hcat (by rw [cpy_int]; exact hh) hp k
end COPY
