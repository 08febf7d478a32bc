/-! NEST: fields and methods of a nest mate; calls through an interface; statics -/
set_option maxRecDepth 100000
section NEST
variable {d dd : Nat} {M Y : Mt} {h h1 : AH} {pc pc2 : Nat} {ls : List (Option Value)} {st As rest : List Value} {r : Option Value} {o : OR} {h2 : AH}
theorem AW.getN {ci : Nat} {C0 host : String} {T : u_T} {N : Nat} {ty : Nat → FieldType} (hI : CI ci C0 T N ty) (k0 : Nat) {i a : Nat} {fs : List Value} {v : Value} (hk : k0 < N) (hl : Cond.fieldLinkNest M.1.cls i (T k0).1 (T k0).2.1 (T k0).2.2.1 host ∈ lw_tbl) (hd : decode M.2.1 pc = .ok (.getfield i, 3)) (hg : h.g a = some (.inr (ci, fs))) (hv : fs[k0]? = some v) (hp : pc + 3 = pc2) (k : AW d M h pc2 ls (v :: st) o h2) : AW d M h pc ls (.ref a :: st) o h2 := by
  subst hp
  refine AW.lift k rfl (fun E p e R s m args below meth c n0 H locs cells slots Q A C hR hS hL hz kk => ?_)
  obtain ⟨r, cell, hr, q1, qc, qv, qs, qn, q4⟩ := hR.2 a _ hg
  have hr' : r = (C0, T, N) := Option.some.inj (hr.symm.trans hI.1)
  subst hr'
  have hw := va_Nw.use (A := args) rfl (C.2.2.2.2.2.2.2.2.1.2.1 _ (List.mem_filter.mpr ⟨hl, rfl⟩))
  obtain ⟨hSl, hfc, kC, hkC, hkind⟩ := C.2.2.2.2.2.2.2.2.1.1.1 ci _ hI.1
  obtain ⟨cf, kf, fi, f, hi, hsl⟩ := hSl k0 hk
  refine va_Wgetf C.1 C.2.1 C.2.2.2.2.1 hw hi (u_facts hfc hkC (u_lays C.2.2.2.2.2.1 hI.2.1 hk) hi).1 q1 qv (v := cv E v) ?_ rfl rfl hd (kk A hL)
  rw [hsl, q4 k0 hk]
  simp [vp_V, hv]
theorem AW.callSN {i n : Nat} {host : String} (hr : Run dd Y As h (.inl r) h1) (hdd : dd + 1 ≤ d) (hY : Y.2.2.1 ≤ 181) (w1 : Cond.methodLinkNest M.1.cls i Y.1 host ∈ lw_tbl) (w2 : Cond.static Y.1 ∈ lw_all) (w3 : Cond.initialized Y.1.cls ∈ lw_all) (w4 : Cond.code Y.1 Y.2.1 Y.2.2.1 Y.2.2.2 ∈ lw_all) (hd : decode M.2.1 pc = .ok (.invokestatic i, 3)) (hy : Y.1.cls ≠ "java/lang/invoke/MethodHandle" ∧ Y.1.cls ≠ "java/lang/invoke/VarHandle" ∧ (parseMethodDescriptor Y.1.desc).map (fun d => d.parameters.length) = some n) (hn : As.length = n) (hst : st = As.reverse ++ rest) (hcat : (rest.map fun v => v.category).sum ≤ 8) (hp : pc + 3 = pc2) (k : AW d M h1 pc2 ls (r.toList ++ rest) o h2) : AW d M h pc ls st o h2 := by
  subst hp
  subst hst
  refine AW.liftH k hr.1 hr.2.1 rfl (fun E p e R s m args below meth c n0 H locs cells slots Q A C hR hS hL hz hroom kk => ?_)
  have hts := C.2.2.2.2.2.1
  have hF := C.2.2.2.2.2.2.2.2.1
  have hsz : EB E ≤ s.heap.size := by rw [C.2.2.2.2.2.2.2.2.2.1]; omega
  have hw := hF.2.1 _ (List.mem_filter.mpr ⟨w1, rfl⟩)
  refine after_run (r := r) (va_runSN (As := As.map (cv E)) (rest := rest.map (cv E)) ⟨C.1, C.2.1, C.2.2.2.1, C.2.2.2.2.1, hts⟩ (hr.met E) ⟨va_cnB n hts (lw_meth w4) rfl rfl rfl hw (hts _ w3) hy ⟨by rw [hroom.1]; exact hdd, by rw [hroom.2.1]; show 8 + (Y.2.2.1 + 11) + 200 * dd ≤ 200 * d; omega⟩, hts _ w2, trivial⟩ ⟨Pw.blind E As h, Pw.at hF hsz hS hR⟩ rfl (by rw [List.length_map]; exact hn) (by show A.size = _; exact hz) (by simp [List.map_append, List.map_reverse]) (lv_room (by rw [cat_cv]; exact hcat)) hd ⟨hroom.2.2.1, hroom.2.2.2⟩) hS (fun H' locs' hR' hS' => ?_)
  have := kk H' locs' A hR' hS' hL
  cases r <;> exact this
theorem AW.callVN {i n b : Nat} {host : String} {ci : Nat} {fs : List Value} {T : u_T} {N : Nat} (hr : Run dd Y (.ref b :: As) h (.inl r) h1) (hdd : dd + 1 ≤ d) (hY : Y.2.2.1 ≤ 181) (hci : clL[ci]? = some (Y.1.cls, T, N)) (hg : h.g b = some (.inr (ci, fs))) (w1 : Cond.methodLinkNest M.1.cls i Y.1 host ∈ lw_tbl) (w2 : Cond.instanceMethod Y.1 ∈ lw_all) (w3 : Cond.selects Y.1.cls Y.1 Y.1 ∈ lw_all) (w4 : Cond.initialized Y.1.cls ∈ lw_all) (w5 : Cond.code Y.1 Y.2.1 Y.2.2.1 Y.2.2.2 ∈ lw_all) (hd : decode M.2.1 pc = .ok (.invokevirtual i, 3)) (hy : Y.1.cls = Y.1.cls ∧ Y.1.cls ≠ "java/lang/invoke/MethodHandle" ∧ Y.1.cls ≠ "java/lang/invoke/VarHandle" ∧ (parseMethodDescriptor Y.1.desc).map (fun d => d.parameters.length) = some n) (hn : As.length = n) (hst : st = As.reverse ++ .ref b :: rest) (hcat : (rest.map fun v => v.category).sum ≤ 8) (hp : pc + 3 = pc2) (k : AW d M h1 pc2 ls (r.toList ++ rest) o h2) : AW d M h pc ls st o h2 := by
  subst hp
  subst hst
  refine AW.liftH k hr.1 hr.2.1 rfl (fun E p e R s m args below meth c n0 H locs cells slots Q A C hR hS hL hz hroom kk => ?_)
  have hts := C.2.2.2.2.2.1
  have hF := C.2.2.2.2.2.2.2.2.1
  have hsz : EB E ≤ s.heap.size := by rw [C.2.2.2.2.2.2.2.2.2.1]; omega
  have hw := hF.2.1 _ (List.mem_filter.mpr ⟨w1, rfl⟩)
  obtain ⟨r0, cell, hr0, q1, qc, qv, qs, qn, q4⟩ := hR.2 b _ hg
  have hrecv : ∃ cellB : Cell, H[tr E b]? = some cellB ∧ cellB.vm.isStatics = false ∧ s.vm.findClass Y.1.cls = some cellB.cls := ⟨cell, q1, qs, by rw [qc]; exact (hF.1.1 ci _ hci).2.1⟩
  refine after_run (r := r) (va_runVN (C := Y.1.cls) (b := tr E b) (As := As.map (cv E)) (rest := rest.map (cv E)) ⟨C.1, C.2.1, C.2.2.2.1, C.2.2.2.2.1, hts⟩ (hr.met E) ⟨va_cnB n hts (lw_meth w5) rfl rfl rfl hw (hts _ w4) hy.2 ⟨by rw [hroom.1]; exact hdd, by rw [hroom.2.1]; show 8 + (Y.2.2.1 + 11) + 200 * dd ≤ 200 * d; omega⟩, hts _ w2, hts _ w3⟩ ⟨Pw.blind E _ h, hrecv, Pw.at hF hsz hS hR⟩ rfl (by rw [List.length_map]; exact hn) (by show A.size = _; exact hz) (by simp [List.map_append, List.map_reverse, cv]) (lv_room (by rw [cat_cv]; exact hcat)) hd ⟨hroom.2.2.1, hroom.2.2.2⟩) hS (fun H' locs' hR' hS' => ?_)
  have := kk H' locs' A hR' hS' hL
  cases r <;> exact this
end NEST
