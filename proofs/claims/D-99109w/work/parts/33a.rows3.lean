/-! ROWS 3: references in arrays, new arrays of references, statics, constants, casts, interfaces, copies, a nest mate's fields and constructors -/
set_option maxRecDepth 100000
section ROWS3
variable {d dd : Nat} {M Y : Mt} {h h1 : AH} {pc pc2 : Nat} {ls : List (Option Value)} {st As rest : List Value} {r : Option Value} {o : OR} {h2 : AH}
theorem AW.aast {a t n v ci : Nat} {f : Nat → Value} {fs : List Value} {i : Int32} {rC : vw_C} {Cn : String} (hd : decode M.2.1 pc = .ok (.aastore, 1)) (ha : 512 ≤ a) (hg : h.g a = some (.inl (t, n, f))) (ht : ∀ E, (tysL E)[t]? = some (Etc E t, .object Cn)) (hv : h.g v = some (.inr (ci, fs))) (hc : clL[ci]? = some rC) (hcast : Cond.castable rC.1 Cn ∈ lw_tbl) (hin : vp_in i n) {j : Nat} (hj : i.toNatClampNeg = j) {h3 : AH} (hh : h.set a (.inl (t, n, up f j (.ref v))) = h3) (hp : pc + 1 = pc2) (k : AW d M h3 pc2 ls st o h2) : AW d M h pc ls (.ref v :: .int i :: .ref a :: st) o h2 := by
  subst hp
  subst hj
  subst hh
  refine AW.liftS k rfl rfl rfl (fun E p e R s m args below meth c n0 H locs cells slots Q A C hR hS hL hz kk => ?_)
  have hF := C.2.2.2.2.2.2.2.2.1
  obtain ⟨cell, q1, q2, q3, q4, q5, q6, q7, q8⟩ := hR.2 a _ hg
  obtain ⟨r0, cv0, hr0, v1, vc, vv, vs, vn, v4⟩ := hR.2 v _ hv
  have hr' : r0 = rC := Option.some.inj (hr0.symm.trans hc)
  subst hr'
  obtain ⟨kA, comp, k1, k2, k3, -⟩ := (hF.1.2 t _ (ht E)).2
  obtain ⟨kE, hkE, -⟩ := Vm.findClass_spec k3
  obtain ⟨-, kV, hkV, -⟩ := (hF.1.1 ci _ hc).2
  obtain ⟨c3, c4, hc3, hc4, hasg⟩ := Cond.castable_spec (va_Nw.use (A := args) rfl (hF.2.1 _ (List.mem_filter.mpr ⟨hcast, rfl⟩)))
  cases hc3.symm.trans (hF.1.1 ci _ hc).2.1
  cases hc4.symm.trans k3
  refine W.aast C.1 C.2.1 q1 q4 q3 (by rw [q2]; exact k1) k2 rfl hkE ⟨fun z => hin (Or.inl z), Nat.lt_of_lt_of_le (in_lt hin) q6⟩ v1 (fun z w => by rw [w] at vs; cases vs) (by rw [vc]; exact hkV) (by rw [vc]; exact hasg) rfl rfl hd (fun H' e1 e2 e3 => kk H' _ A (Rp.set hF hR ha ?_ e2 e3) (hS.put e2 e3 (tr_A ha)) hL)
  exact AtC.setA (v := .ref v) (j := i.toNatClampNeg) e1 (in_lt hin) q2 q3 q4 q5 q6 q7 q8
theorem AW.anew {t i : Nat} {Cn : String} {n : Int32} {N : Nat} (hd : decode M.2.1 pc = .ok (.anewarray i, 3)) (hcl : Cond.classLink M.1.cls i Cn ∈ lw_all) (hao : Cond.arrayOver (.object Cn) ∈ lw_tbl) (ht : ∀ E, (tysL E)[t]? = some (Etc E t, .object Cn)) (hn : ¬ n < 0) (hN : n.toNatClampNeg = N) (hbytes : N * 4 ≤ 536870912) {h3 : AH} (hh : h.push (.inl (t, N, fun _ => .null)) N = h3) (hp : pc + 3 = pc2) (k : AW d M h3 pc2 ls (.ref (512 + h.n) :: st) o h2) : AW d M h pc ls (.int n :: st) o h2 := by
  subst hp
  subst hh
  subst hN
  refine AW.liftH k (Nat.le_succ _) (Nat.le_add_right _ _) rfl (fun E p e R s m args below meth c n0 H locs cells slots Q A C hR hS hL hz hroom kk => ?_)
  have e1 : (h.push (.inl (t, n.toNatClampNeg, fun _ => .null)) n.toNatClampNeg).n - h.n = 1 := by show h.n + 1 - h.n = 1; omega
  have e2 : (h.push (.inl (t, n.toNatClampNeg, fun _ => .null)) n.toNatClampNeg).u - h.u = n.toNatClampNeg := by show h.u + n.toNatClampNeg - h.u = _; omega
  rw [e1, e2] at kk
  rw [e1, e2] at hroom
  have hF := C.2.2.2.2.2.2.2.2.1
  have hts := C.2.2.2.2.2.1
  refine W.anew C.1 C.2.1 C.2.2.2.2.1 (hts _ hcl) (va_AO.use (hF.2.1 _ (List.mem_filter.mpr ⟨hao, rfl⟩))) rfl hd rfl hn hbytes hroom.2.2.1 hroom.2.2.2 fun cA kA comp f1 f2 f3 f4 => ?_
  obtain ⟨kA', comp', k1, k2, k3, k4⟩ := (hF.1.2 t _ (ht E)).2
  have hcA : cA = Etc E t := Option.some.inj (f1.symm.trans k4)
  subst hcA
  generalize hH1 : H.push ({ cls := Etc E t, slots := Array.replicate n.toNatClampNeg .null, vm := .none } : Cell) = H1
  have g2 : H1.size = H.size + 1 := by rw [← hH1, Array.size_push]
  have g1 : H1[H.size]? = some (arrV (Etc E t) n.toNatClampNeg (fun _ => .null)) := by rw [← hH1, Array.getElem?_push_size, ← arrV_new]
  have g3 : ∀ q : Nat, q < H.size → H1[q]? = H[q]? := fun q hq => by rw [← hH1, Array.getElem?_push, if_neg (Nat.ne_of_lt hq)]
  have hR' : Rp E (h.push (.inl (t, n.toNatClampNeg, fun _ => .null)) n.toNatClampNeg) H1 := by
    refine Rp.push hF hR ⟨arrV (Etc E t) n.toNatClampNeg (fun _ => .null), by rw [tr_new hR]; exact g1, rfl, fun q => (by cases q), fun z q => (by cases q), fun _ => rfl, Nat.le_of_eq (arrV_size _ _ _).symm, (by rw [arrV_size] <;> rfl), fun j hj => ?_⟩ g2 g3
    rw [arrV_read _ _ hj]
    rfl
  have := kk H1 _ A hR' (hS.push g2 g3) hL
  rw [List.map_cons] at this
  rw [show cv E (.ref (512 + h.n)) = .ref H.size from congrArg Value.ref (tr_new hR)] at this
  exact this
theorem AW.gets {i : Nat} {q : String × String × String × Value} (hz : q ∈ zL) (hd : decode M.2.1 pc = .ok (.getstatic i, 3)) (hl : Cond.fieldLink M.1.cls i q.1 q.2.1 q.2.2.1 ∈ lw_all) (hp : pc + 3 = pc2) (k : AW d M h pc2 ls (q.2.2.2 :: st) o h2) : AW d M h pc ls st o h2 := by
  subst hp
  exact AW.lift k rfl (fun E p e R s m args below meth c n0 H locs cells slots Q A C hR hS hL hz kk => va_gets C.1 C.2.1 (C.2.2.2.2.2.2.2.2.1.2.2.2.2.2.1 q (by assumption)) hS C.2.2.2.2.1 (C.2.2.2.2.2.1 _ hl) (fun x hx => hx) hd (kk A hL))
/-- the signs, a constant of Tokens -/
theorem AW.ldcS (hM : M.1.cls = "ShutDays$Tokens") (hd : decode M.2.1 pc = .ok (.ldc 53, 2)) (hp : pc + 2 = pc2) (k : AW d M h pc2 ls (.ref 122 :: st) o h2) : AW d M h pc ls st o h2 := by
  subst hp
  refine AW.lift k rfl (fun E p e R s m args below meth c n0 H locs cells slots Q A C hR hS hL hz kk => ?_)
  have hown := C.2.2.2.2.1
  rw [hM] at hown
  exact va_ldcS C.1 C.2.1 hown C.2.2.2.2.2.2.2.2.1.2.2.2.2.2.2.2.2.2.1 hd (kk A hL)
/-- the class object of arrays of objects, a constant; that of such an array -/
theorem AW.ldcM {i : Nat} (hd : decode M.2.1 pc = .ok (.ldc i, 2)) (hl : Cond.classLink M.1.cls i "[Ljava/lang/Object;" ∈ lw_all) (hp : pc + 2 = pc2) (k : AW d M h pc2 ls (.float 3 :: st) o h2) : AW d M h pc ls st o h2 := by
  subst hp
  refine AW.lift k rfl (fun E p e R s m args below meth c n0 H locs cells slots Q A C hR hS hL hz kk => ?_)
  obtain ⟨-, -, -, -, mi, h5, h6⟩ := C.2.2.2.2.2.2.2.2.1.2.2.2.2.2.2.2.2
  have := kk A hL
  rw [List.map_cons, show cv E (.float 3) = .ref mi by show va_rf (Eov E 3) = _; rw [h5]; rfl] at this
  exact va_ldcM C.1 C.2.1 C.2.2.2.2.1 (C.2.2.2.2.2.1 _ hl) h6 hd this
abbrev gcN : MethodName := ⟨"java/lang/Object", "getClass", "()Ljava/lang/Class;"⟩
theorem AW.getC {i a n : Nat} {f : Nat → Value} (hd : decode M.2.1 pc = .ok (.invokevirtual i, 3)) (hg : h.g a = some (.inl (6, n, f))) (w1 : Cond.methodLink M.1.cls i gcN ∈ lw_all) (w2 : Cond.declares gcN ∈ lw_tbl) (w3 : Cond.selects "[Ljava/lang/Object;" gcN gcN ∈ lw_all) (w4 : Cond.instanceMethod gcN ∈ lw_all) (w5 : Cond.native gcN ∈ lw_all) (hdd : 1 ≤ d) (hcat : (st.map fun v => v.category).sum ≤ 8) (hp : pc + 3 = pc2) (k : AW d M h pc2 ls (.float 3 :: st) o h2) : AW d M h pc ls (.ref a :: st) o h2 := by
  subst hp
  refine AW.liftH k (Nat.le_refl _) (Nat.le_refl _) rfl (fun E p e R s m args below meth c n0 H locs cells slots Q A C hR hS hL hz hroom kk => ?_)
  rw [Nat.sub_self, Nat.sub_self] at kk
  have hF := C.2.2.2.2.2.2.2.2.1
  have hts := C.2.2.2.2.2.1
  obtain ⟨-, -, -, -, mi, h5, h6⟩ := hF.2.2.2.2.2.2.2.2
  obtain ⟨cell, q1, q2, q3, q4, q5, q6, q7, q8⟩ := hR.2 a _ hg
  have := kk H locs A hR hS hL
  rw [List.map_cons, show cv E (.float 3) = .ref mi by show va_rf (Eov E 3) = _; rw [h5]; rfl] at this
  have hnm : s.vm.findClass "[Ljava/lang/Object;" = some (Etc E 6) := va_nmO (nm := "[Ljava/lang/Object;") (hF.1.2 6 _ rfl).2 rfl
  refine va_getC C.1 C.2.1 (C.2.2.2.1.trans hz.symm) C.2.2.2.2.1 (hts _ w1) (va_Nw.use (A := args) rfl (hF.2.1 _ (List.mem_filter.mpr ⟨w2, rfl⟩))) (hts _ w3) (hts _ w4) (hts _ w5) h6 ⟨cell, q1, ?_, by rw [q2]; exact hnm⟩ (by rw [hroom.1]; exact hdd) ?_ hd this
  · cases hv : cell.vm <;> first | rfl | exact absurd hv (q4 _)
  · rw [hroom.2.1, cat_cv]
    omega
/-- the same reference twice -/
theorem AW.acmpE {v : Value} {off : Int} {tgt : Nat} (hd : decode M.2.1 pc = .ok (.if_acmp .eq off, 3)) (hv : (∃ a, v = .ref a) ∨ ∃ w, v = .float w) (ht : (pc : Int) + off = (tgt : Int)) (k : AW d M h tgt ls st o h2) : AW d M h pc ls (v :: v :: st) o h2 := by
  refine AW.lift k rfl (fun E p e R s m args below meth c n0 H locs cells slots Q A C hR hS hL hz kk => ?_)
  have hx : ∃ x, cv E v = va_rf x := by
    rcases hv with ⟨a, rfl⟩ | ⟨w, rfl⟩
    · exact ⟨some (tr E a), rfl⟩
    · exact ⟨_, rfl⟩
  obtain ⟨x, hx⟩ := hx
  rw [List.map_cons, List.map_cons, hx]
  exact lv_acmp_eq C.1 C.2.1 hd ht (fun _ => kk A hL) (fun z => absurd rfl z)
theorem AW.acmpN {v : Value} {off : Int} (hd : decode M.2.1 pc = .ok (.if_acmp .ne off, 3)) (hv : (∃ a, v = .ref a) ∨ ∃ w, v = .float w) {tgt : Nat} (ht : (pc : Int) + off = (tgt : Int)) (hp : pc + 3 = pc2) (k : AW d M h pc2 ls st o h2) : AW d M h pc ls (v :: v :: st) o h2 := by
  subst hp
  refine AW.lift k rfl (fun E p e R s m args below meth c n0 H locs cells slots Q A C hR hS hL hz kk => ?_)
  have hx : ∃ x, cv E v = va_rf x := by
    rcases hv with ⟨a, rfl⟩ | ⟨w, rfl⟩
    · exact ⟨some (tr E a), rfl⟩
    · exact ⟨_, rfl⟩
  obtain ⟨x, hx⟩ := hx
  rw [List.map_cons, List.map_cons, hx]
  exact lv_acmp_ne C.1 C.2.1 hd ht (fun z => absurd rfl z) (fun _ => kk A hL)
theorem AW.cast {i a ci : Nat} {fs : List Value} {rC : vw_C} {nm : String} (hd : decode M.2.1 pc = .ok (.checkcast i, 3)) (hl : Cond.classLink M.1.cls i nm ∈ lw_all) (hg : h.g a = some (.inr (ci, fs))) (hc : clL[ci]? = some rC) (hcast : Cond.castable rC.1 nm ∈ lw_tbl) (hp : pc + 3 = pc2) (k : AW d M h pc2 ls (.ref a :: st) o h2) : AW d M h pc ls (.ref a :: st) o h2 := by
  subst hp
  refine AW.lift k rfl (fun E p e R s m args below meth c n0 H locs cells slots Q A C hR hS hL hz kk => ?_)
  have hF := C.2.2.2.2.2.2.2.2.1
  obtain ⟨r0, cell, hr0, q1, qc, qv, qs, qn, q4⟩ := hR.2 a _ hg
  have hr' : r0 = rC := Option.some.inj (hr0.symm.trans hc)
  subst hr'
  exact va_castY C.1 C.2.1 C.2.2.2.2.1 (C.2.2.2.2.2.1 _ hl) (hF.2.1 _ (List.mem_filter.mpr ⟨hcast, rfl⟩)) ⟨cell, q1, qs, by rw [qc]; exact (hF.1.1 ci _ hc).2.1⟩ hd (kk A hL)
/-- a text's bytes and their kind -/
theorem AW.strV {a i : Nat} (hi : i < 23) (ha : a = 100 + i) {ix : Nat} (hd : decode M.2.1 pc = .ok (.getfield ix, 3)) (hl : Cond.fieldLink M.1.cls ix "java/lang/String" "value" "[B" ∈ lw_all) (hp : pc + 3 = pc2) (k : AW d M h pc2 ls (.ref (130 + i) :: st) o h2) : AW d M h pc ls (.ref a :: st) o h2 := by
  subst hp
  subst ha
  refine AW.lift k rfl (fun E p e R s m args below meth c n0 H locs cells slots Q A C hR hS hL hz kk => ?_)
  have hF := C.2.2.2.2.2.2.2.2.1
  have h1 := (hF.2.2.2.2.2.2.2.2.1 i hi).2.2
  have := kk A hL
  rw [List.map_cons, show cv E (.ref (130 + i)) = .ref (Est E (130 + i)) from congrArg Value.ref (if_pos (by omega))] at this
  rw [List.map_cons, show cv E (.ref (100 + i)) = .ref (Est E (100 + i)) from congrArg Value.ref (if_pos (by omega))]
  exact vk_getf C.1 C.2.1 h1 hS C.2.2.2.2.1 (C.2.2.2.2.2.1 _ hl) (fun x hx => hx) hd this
theorem AW.strC {a i : Nat} (hi : i < 23) (ha : a = 100 + i) {ix : Nat} (hd : decode M.2.1 pc = .ok (.getfield ix, 3)) (hl : Cond.fieldLink M.1.cls ix "java/lang/String" "coder" "B" ∈ lw_all) (hp : pc + 3 = pc2) (k : AW d M h pc2 ls (.int 0 :: st) o h2) : AW d M h pc ls (.ref a :: st) o h2 := by
  subst hp
  subst ha
  refine AW.lift k rfl (fun E p e R s m args below meth c n0 H locs cells slots Q A C hR hS hL hz kk => ?_)
  have hF := C.2.2.2.2.2.2.2.2.1
  have h1 := (hF.2.2.2.2.2.2.2.2.1 i hi).2.1
  rw [List.map_cons, show cv E (.ref (100 + i)) = .ref (Est E (100 + i)) from congrArg Value.ref (if_pos (by omega))]
  exact vk_getf C.1 C.2.1 h1 hS C.2.2.2.2.1 (C.2.2.2.2.2.1 _ hl) (fun x hx => hx) hd (kk A hL)
/-- a call on a text -/
theorem AW.callT {i n b : Nat} {st : List Value} {ii : Nat} (hii : ii < 23) (hb : b = 100 + ii) (hr : Run dd Y (.ref b :: As) h (.inl r) h1) (hdd : dd + 1 ≤ d) (hY : Y.2.2.1 ≤ 181) (hcls : Y.1.cls = "java/lang/String") (w1 : Cond.methodLink M.1.cls i Y.1 ∈ lw_all) (w2 : Cond.instanceMethod Y.1 ∈ lw_all) (w3 : Cond.selects Y.1.cls Y.1 Y.1 ∈ lw_all) (w4 : Cond.initialized Y.1.cls ∈ lw_all) (w5 : Cond.code Y.1 Y.2.1 Y.2.2.1 Y.2.2.2 ∈ lw_all) (hd : decode M.2.1 pc = .ok (.invokevirtual i, 3)) (hy : Y.1.cls = Y.1.cls ∧ Y.1.cls ≠ "java/lang/invoke/MethodHandle" ∧ Y.1.cls ≠ "java/lang/invoke/VarHandle" ∧ (parseMethodDescriptor Y.1.desc).map (fun d => d.parameters.length) = some n) (hn : As.length = n) (hst : st = As.reverse ++ .ref b :: rest) (hcat : (rest.map fun v => v.category).sum ≤ 8) (hp : pc + 3 = pc2) (k : AW d M h1 pc2 ls (r.toList ++ rest) o h2) : AW d M h pc ls st o h2 := by
  subst hp
  subst hst
  refine AW.liftH k hr.1 hr.2.1 rfl (fun E p e R s m args below meth c n0 H locs cells slots Q A C hR hS hL hz hroom kk => ?_)
  have hts := C.2.2.2.2.2.1
  have hF := C.2.2.2.2.2.2.2.2.1
  have hsz : EB E ≤ s.heap.size := by rw [C.2.2.2.2.2.2.2.2.2.1]; omega
  have hrecv : ∃ cellB : Cell, H[tr E b]? = some cellB ∧ cellB.vm.isStatics = false ∧ s.vm.findClass Y.1.cls = some cellB.cls := by
    obtain ⟨cell, g1, g2, g3, -⟩ := (hF.2.2.2.2.2.2.2.2.1 ii hii).1.kept hS.2.1
    have e : tr E b = Est E (100 + ii) := by rw [hb]; exact if_pos (by omega)
    exact ⟨cell, by rw [e]; exact g1, g2, by rw [hcls]; exact g3⟩
  refine after_run (r := r) (va_runV (C := Y.1.cls) (b := tr E b) (As := As.map (cv E)) (rest := rest.map (cv E)) ⟨C.1, C.2.1, C.2.2.2.1, C.2.2.2.2.1, hts⟩ (hr.met E) (cwV n hts (lw_V w1 w2 w3 w4 w5) rfl rfl rfl hy ⟨by rw [hroom.1]; exact hdd, by rw [hroom.2.1]; show 8 + (Y.2.2.1 + 11) + 200 * dd ≤ 200 * d; omega⟩) ⟨Pw.blind E _ h, hrecv, Pw.at hF hsz hS hR⟩ rfl (by rw [List.length_map]; exact hn) (by show A.size = _; exact hz) (by simp [List.map_append, List.map_reverse, cv]) (lv_room (by rw [cat_cv]; exact hcat)) hd ⟨hroom.2.2.1, hroom.2.2.2⟩) hS (fun H' locs' hR' hS' => ?_)
  have := kk H' locs' A hR' hS' hL
  cases r <;> exact this
/-- bytes that were there before: each array has an index of its own -/
theorem at_byte {i : Nat} (hi : i < 23) : atAll[10 + i]? = some .byte := by
  have : ∀ i, i < 23 → atAll[10 + i]? = some .byte := by decide
  exact this i hi
theorem AW.bald2 {a n t : Nat} {f : Nat → Int32} {i : Int32} (hd : decode M.2.1 pc = .ok (.baload, 1)) (ht : atAll[t]? = some .byte) (hg : h.g a = some (.inl (t, n, fun j => .int (f j)))) (hin : vp_in i n) {j : Nat} (hj : i.toNatClampNeg = j) (hp : pc + 1 = pc2) (k : AW d M h pc2 ls (.int (f j) :: st) o h2) : AW d M h pc ls (.int i :: .ref a :: st) o h2 := by
  subst hp
  subst hj
  refine AW.lift k rfl (fun E p e R s m args below meth c n0 H locs cells slots Q A C hR hS hL hz kk => ?_)
  obtain ⟨cell, q1, q2, q3, q4, q5, q6, q7, q8⟩ := hR.2 a _ hg
  exact W.bald C.1 C.2.1 q1 (isArr C.2.2.2.2.2.2.2.2.1 ht q2 q4) q3 (in_sz hin q6) (q8 _ (in_lt hin)) rfl rfl hd (kk A hL)
theorem AW.iald2 {a n t : Nat} {f : Nat → Int32} {i : Int32} (hd : decode M.2.1 pc = .ok (.iaload, 1)) (ht : atAll[t]? = some .int) (hg : h.g a = some (.inl (t, n, fun j => .int (f j)))) (hin : vp_in i n) {j : Nat} (hj : i.toNatClampNeg = j) (hp : pc + 1 = pc2) (k : AW d M h pc2 ls (.int (f j) :: st) o h2) : AW d M h pc ls (.int i :: .ref a :: st) o h2 := by
  subst hp
  subst hj
  refine AW.lift k rfl (fun E p e R s m args below meth c n0 H locs cells slots Q A C hR hS hL hz kk => ?_)
  obtain ⟨cell, q1, q2, q3, q4, q5, q6, q7, q8⟩ := hR.2 a _ hg
  exact W.iald C.1 C.2.1 q1 (isArr C.2.2.2.2.2.2.2.2.1 ht q2 q4) q3 (in_sz hin q6) (q8 _ (in_lt hin)) rfl rfl hd (kk A hL)
/-- behind a call through an interface -/
theorem after_run5 {E : EE} {p : Program} {e : Env} {R : Room} {s : State} {m : MethodId} {args : Array Value} {below : List Frame} {meth : Method} {c : Code} {H : Heap} {locs : List Loc} {cells slots mc ms : Nat} {Q : State → Prop} {pc : Nat} {A : Array Slot} {st0 rest : List Value} {r : Option Value} {h1 : AH} {aa : Array Value}
    (hr : va_Run5 p (EL E) e R s m args below meth c H locs cells slots mc ms (F0 m pc A st0) rest (Qx E r h1 aa) (EA E)) (hS : va_S (EA E) s.heap H locs)
    (kk : ∀ (H' : Heap) (locs' : List Loc), Rp E h1 H' → va_S (EA E) s.heap H' locs' → W p (EL E) e R s m args below meth c H' locs' (cells + mc) (slots + ms) Q (F0 m (pc + 5) A ((r.map (cv E)).toList ++ rest))) : W p (EL E) e R s m args below meth c H locs cells slots Q (F0 m pc A st0) := by
  intro T hT X
  obtain ⟨v, st₀, t, T', L, h0, X', hL, e1, e2, ⟨hv, hF, hRt, hFr⟩, st⟩ := hr T hT X
  cases hv
  obtain ⟨hz, hk⟩ := hFr
  rw [h0] at hz hk
  obtain ⟨t2, a1, b1⟩ := kk T'.heap (locs ++ L) (by rw [e1]; exact hRt) ⟨Nat.le_trans hS.1 (by rw [e1]; exact hz), fun q h1 h2 => by rw [e1, hk q (Nat.lt_of_lt_of_le h1 hS.1) h2]; exact hS.2.1 q h1 h2, fun q hq => by
      rcases List.mem_append.mp hq with h | h
      · exact hS.2.2 q h
      · exact hL q h⟩ T' rfl X'
  exact ⟨t2, st t2 a1, b1⟩
theorem AW.callF {i n b cnt : Nat} {st : List Value} {ci : Nat} {fs : List Value} {rC : vw_C} {x : MethodName} (hr : Run dd Y (.ref b :: As) h (.inl r) h1) (hdd : dd + 1 ≤ d) (hY : Y.2.2.1 ≤ 181) (hci : clL[ci]? = some rC) (hg : h.g b = some (.inr (ci, fs))) (hfw : (rC.1, x, Y.1) ∈ fwL) (w1 : Cond.methodLink M.1.cls i x ∈ lw_all) (w2 : Cond.instanceMethod Y.1 ∈ lw_all) (w3 : Cond.selects rC.1 x Y.1 ∈ lw_all) (w4 : Cond.initialized Y.1.cls ∈ lw_all) (w5 : Cond.code Y.1 Y.2.1 Y.2.2.1 Y.2.2.2 ∈ lw_all) (hd : decode M.2.1 pc = .ok (.invokeinterface i cnt, 5)) (hy : x.cls ≠ "java/lang/invoke/MethodHandle" ∧ x.cls ≠ "java/lang/invoke/VarHandle" ∧ (parseMethodDescriptor x.desc).map (fun d => d.parameters.length) = some n) (hn : As.length = n) (hst : st = As.reverse ++ .ref b :: rest) (hcat : (rest.map fun v => v.category).sum ≤ 8) (hp : pc + 5 = pc2) (k : AW d M h1 pc2 ls (r.toList ++ rest) o h2) : AW d M h pc ls st o h2 := by
  subst hp
  subst hst
  refine AW.liftH k hr.1 hr.2.1 rfl (fun E p e R s m args below meth c n0 H locs cells slots Q A C hR hS hL hz hroom kk => ?_)
  have hts := C.2.2.2.2.2.1
  have hF := C.2.2.2.2.2.2.2.2.1
  have hsz : EB E ≤ s.heap.size := by rw [C.2.2.2.2.2.2.2.2.2.1]; omega
  obtain ⟨r0, cell, hr0, q1, qc, qv, qs, qn, q4⟩ := hR.2 b _ hg
  have hr' : r0 = rC := Option.some.inj (hr0.symm.trans hci)
  subst hr'
  have hat := (hF.1.1 ci _ hci).2
  have hrecv : ∃ cellB : Cell, H[tr E b]? = some cellB ∧ cellB.vm.isStatics = false ∧ s.vm.findClass r0.1 = some cellB.cls := ⟨cell, q1, qs, by rw [qc]; exact hat.1⟩
  have hgood : GoodIn lw_all (va_wsF M.1.cls i r0.1 x Y.1 (ws_ Y.1 Y.2.1 Y.2.2.1 Y.2.2.2)) := lw_app (fun w hw => by
    rcases List.mem_cons.mp hw with rfl | hw
    · exact w1
    rcases List.mem_cons.mp hw with rfl | hw
    · exact w3
    rcases List.mem_cons.mp hw with rfl | hw
    · exact w2
    rcases List.mem_cons.mp hw with rfl | hw
    · exact w4
    cases hw) (lw_meth w5)
  refine after_run5 (r := r) (va_runF (C := r0.1) (x := x) (b := tr E b) (As := As.map (cv E)) (rest := rest.map (cv E)) hat ⟨C.1, C.2.1, C.2.2.2.1, C.2.2.2.2.1, hts⟩ (hr.met E) (va_cwF n hts hgood rfl rfl rfl (hF.2.2.2.2.2.2.1 _ hfw) hy ⟨by rw [hroom.1]; exact hdd, by rw [hroom.2.1]; show 8 + (Y.2.2.1 + 11) + 200 * dd ≤ 200 * d; omega⟩) ⟨Pw.blind E _ h, hrecv, Pw.at hF hsz hS hR⟩ rfl (by rw [List.length_map]; exact hn) (by show A.size = _; exact hz) (by simp [List.map_append, List.map_reverse, cv]) (lv_room (by rw [cat_cv]; exact hcat)) hd ⟨hroom.2.2.1, hroom.2.2.2⟩) hS (fun H' locs' hR' hS' => ?_)
  have := kk H' locs' A hR' hS' hL
  cases r <;> exact this
/-- a nest mate's constructor -/
theorem AW.callIN {i n b : Nat} {st : List Value} {host : String} (hr : Run dd Y (.ref b :: As) h (.inl none) h1) (hdd : dd + 1 ≤ d) (hY : Y.2.2.1 ≤ 181) (hY2 : Y.2.2.2 = none) (w1 : Cond.methodLinkNest M.1.cls i Y.1 host ∈ lw_tbl) (w2 : Cond.instanceMethod Y.1 ∈ lw_all) (w4 : Cond.initialized Y.1.cls ∈ lw_all) (w5 : Cond.code Y.1 Y.2.1 Y.2.2.1 none ∈ lw_all) (hd : decode M.2.1 pc = .ok (.invokespecial i, 3)) (hy1 : Y.1.name = "<init>") (hy : Y.1.cls ≠ "java/lang/invoke/MethodHandle" ∧ Y.1.cls ≠ "java/lang/invoke/VarHandle" ∧ (parseMethodDescriptor Y.1.desc).map (fun d => d.parameters.length) = some n) (hn : As.length = n) (hst : st = As.reverse ++ .ref b :: rest) (hcat : (rest.map fun v => v.category).sum ≤ 8) (hp : pc + 3 = pc2) (k : AW d M h1 pc2 ls rest o h2) : AW d M h pc ls st o h2 := by
  subst hp
  subst hst
  refine AW.liftH k hr.1 hr.2.1 rfl (fun E p e R s m args below meth c n0 H locs cells slots Q A C hR hS hL hz hroom kk => ?_)
  have hts := C.2.2.2.2.2.1
  have hF := C.2.2.2.2.2.2.2.2.1
  have hsz : EB E ≤ s.heap.size := by rw [C.2.2.2.2.2.2.2.2.2.1]; omega
  have hm := hr.met E
  rw [hY2] at hm
  have hw := hF.2.1 _ (List.mem_filter.mpr ⟨w1, rfl⟩)
  refine after_run (r := none) (va_runIN (b := tr E b) (As := As.map (cv E)) (rest := rest.map (cv E)) ⟨C.1, C.2.1, C.2.2.2.1, C.2.2.2.2.1, hts⟩ hm ⟨va_cnB n hts (lw_meth w5) rfl rfl rfl hw (hts _ w4) hy ⟨by rw [hroom.1]; exact hdd, by rw [hroom.2.1]; show 8 + (Y.2.2.1 + 11) + 200 * dd ≤ 200 * d; omega⟩, hy1, hts _ w2⟩ ⟨Pw.blind E _ h, Pw.at hF hsz hS hR⟩ rfl (by rw [List.length_map]; exact hn) (by show A.size = _; exact hz) (by simp [List.map_append, List.map_reverse, cv]) (lv_room (by rw [cat_cv]; exact hcat)) hd ⟨hroom.2.2.1, hroom.2.2.2⟩) hS (fun H' locs' hR' hS' => ?_)
  exact kk H' locs' A hR' hS' hL
/-- a field of a nest mate is written -/
theorem AW.putN {ci : Nat} {C0 host : String} {T : u_T} {N : Nat} {ty : Nat → FieldType} (hI : CI ci C0 T N ty) (k0 : Nat) {i a : Nat} {fs : List Value} {v : Value} (hk : k0 < N) (hl : Cond.fieldLinkNest M.1.cls i (T k0).1 (T k0).2.1 (T k0).2.2.1 host ∈ lw_tbl) (hd : decode M.2.1 pc = .ok (.putfield i, 3)) (ha : 512 ≤ a) (hg : h.g a = some (.inr (ci, fs))) (hfin : (T k0).2.2.2 = false) (hn : ∀ E, narrow (ty k0) (cv E v) = cv E v) (hfit : ∀ E, fits (ty k0) (cv E v) = true) (hlen : k0 < fs.length) {h3 : AH} (hh : h.set a (.inr (ci, fs.set k0 v)) = h3) (hp : pc + 3 = pc2) (k : AW d M h3 pc2 ls st o h2) : AW d M h pc ls (v :: .ref a :: st) o h2 := by
  subst hp
  subst hh
  refine AW.liftS k rfl rfl rfl (fun E p e R s m args below meth c n0 H locs cells slots Q A C hR hS hL hz kk => ?_)
  obtain ⟨r, cell, hr, q1, qc, qv, qs, qn, q4⟩ := hR.2 a _ hg
  have hr' : r = (C0, T, N) := Option.some.inj (hr.symm.trans hI.1)
  subst hr'
  have hF := C.2.2.2.2.2.2.2.2.1
  have hts := C.2.2.2.2.2.1
  have hap := va_apart (own := M.1.cls) hts hI.2.1 ty hI.2.2.1 hI.2.2.2 hF.1 hI.1
  obtain ⟨hSl, hfc, kC, hkC, hkind⟩ := hF.1.1 ci _ hI.1
  obtain ⟨cf, kf, fi, f, hi, hsl⟩ := hSl k0 hk
  have hlay := hts _ (hI.2.1 _ (u_in_lay hk))
  unfold u_lay at hlay
  rw [if_neg (by rw [hfin]; decide)] at hlay
  have hst := (u_facts hfc hkC (u_lays hts hI.2.1 hk) hi).1
  have h6 := u_store hfc hkC hkind hlay hi (hI.2.2.1 k0 hk) (hn E) (hfit E)
  have hw := va_Nw.use (A := args) rfl (hF.2.1 _ (List.mem_filter.mpr ⟨hl, rfl⟩))
  refine va_WputK C.1 C.2.1 (f := f) C.2.2.2.2.1 hw hi hst (by rw [qc]; exact h6) q1 (qn ha).1 (by rw [hsl]; exact k2_hasslot (q4 k0 hk)) rfl rfl hd fun H' e1 e2 e3 => ?_
  rw [hsl] at e1 ⊢
  have hR' : Rp E (h.set a (.inr (ci, fs.set k0 v))) H' := by
    refine Rp.set hF hR ha ⟨_, _, hI.1, e1, qc, qv, qs, qn, fun j hj => ?_⟩ e2 e3
    have h7 := t_set (v := cv E v) q4 hap hk j hj
    rw [h7]
    by_cases hjk : j = k0
    · subst hjk
      simp [updV, vp_V, hlen]
    · simp [updV, vp_V, hjk, Ne.symm hjk]
  exact kk H' _ A hR' (hS.put (k := (ED E).2 ci k0) e2 e3 (tr_A ha)) hL
end ROWS3
