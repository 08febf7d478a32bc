/-! THROW: throws over AW: one's own, a callee's that goes on, a callee's that is caught -/
set_option maxRecDepth 100000
section THROW
variable {d dd : Nat} {M Y : Mt} {h h1 : AH} {pc : Nat} {ls : List (Option Value)} {As rest : List Value} {o : OR} {h2 : AH} {q : Nat}
theorem AW.athrow {st : List Value} {fs : List Value} (hd : decode M.2.1 pc = .ok (.athrow, 1)) (hm : Cond.code M.1 M.2.1 M.2.2.1 M.2.2.2 ∈ lw_all) (hq : 512 ≤ q) (hg : h.g q = some (.inr (5, fs))) (hz : ls.length = M.2.2.1) : AW d M h pc ls (.ref q :: st) (.inr q) h := by
  refine ⟨Nat.le_refl _, Nat.le_refl _, hz, ?_⟩
  intro E p e s m args below meth c n0 u0 H locs A C hn hu hS hR hL
  have hF := C.2.2.2.2.2.2.2.2.1
  have hsz : EB E ≤ s.heap.size := by rw [C.2.2.2.2.2.2.2.2.2.1]; omega
  obtain ⟨r0, cell, hr0, q1, qc, qv, qs, qn, q4⟩ := hR.2 q _ hg
  refine x_athrow C.1 C.2.1 hd (x_out (q := tr E q) (fun x hx => ?_) C.2.2.2.2.2.2.1 q1 (qn hq).1 (by rw [qc]; exact (hF.1.1 5 _ rfl).2.1) (fun t ht hW => ⟨rfl, Fx.end hF hsz hS ht hW, by rw [ht]; exact hR, hS.F ht⟩) hS.2.2 (Nat.le_refl _) (Nat.le_refl _))
  rw [C.2.2.2.2.2.2.2.2.2.2.1 hm] at hx
  cases hx
/-- behind a call that throws -/
theorem after_x {E : EE} {p : Program} {e : Env} {R : Room} {s : State} {m : MethodId} {args : Array Value} {below : List Frame} {meth : Method} {c : Code} {H : Heap} {locs : List Loc} {cells slots mc ms : Nat} {Q : State → Prop} {A : Array Slot} {st0 rest : List Value} {h1 : AH}
    (hr : xRun p (EL E) e R s m args below meth c H locs cells slots mc ms (F0 m pc A st0) rest (XQE E q h1) (EA E)) (hS : va_S (EA E) s.heap H locs)
    (kk : ∀ (H' : Heap) (locs' : List Loc) (ce : Cell), Rp E h1 H' → va_S (EA E) s.heap H' locs' → H'[tr E q]? = some ce → ce.vm = .none → s.vm.findClass wrN = some ce.cls → xW p (EL E) e R s m args below meth c H' locs' (cells + mc) (slots + ms) Q (F0 m pc A rest) (tr E q)) : W p (EL E) e R s m args below meth c H locs cells slots Q (F0 m pc A st0) := by
  intro T hT X
  obtain ⟨q1, st₀, t, T', L, ce, h0, X', hL, e1, e2, ⟨rfl, hF, hRt, hFr⟩, hce, hcv, hcl, st⟩ := hr T hT X
  obtain ⟨hz, hk⟩ := hFr
  rw [h0] at hz hk
  obtain ⟨t2, a1, b1⟩ := kk T'.heap (locs ++ L) ce (by rw [e1]; exact hRt) ⟨Nat.le_trans hS.1 (by rw [e1]; exact hz), fun q h1 h2 => by rw [e1, hk q (Nat.lt_of_lt_of_le h1 hS.1) h2]; exact hS.2.1 q h1 h2, fun q hq => by
      rcases List.mem_append.mp hq with h | h
      · exact hS.2.2 q h
      · exact hL q h⟩ (by rw [e1]; exact hce) hcv hcl T' rfl X'
  exact ⟨t2, st.trans a1, b1⟩
theorem AW.callVX {i n b : Nat} {st : List Value} {ci : Nat} {fs : List Value} {T : u_T} {N : Nat} (hr : Run dd Y (.ref b :: As) h (.inr q) h1) (hdd : dd + 1 ≤ d) (hY : Y.2.2.1 ≤ 181) (hci : clL[ci]? = some (Y.1.cls, T, N)) (hg : h.g b = some (.inr (ci, fs))) (w1 : Cond.methodLink M.1.cls i Y.1 ∈ lw_all) (w2 : Cond.instanceMethod Y.1 ∈ lw_all) (w3 : Cond.selects Y.1.cls Y.1 Y.1 ∈ lw_all) (w4 : Cond.initialized Y.1.cls ∈ lw_all) (w5 : Cond.code Y.1 Y.2.1 Y.2.2.1 Y.2.2.2 ∈ lw_all) (hd : decode M.2.1 pc = .ok (.invokevirtual i, 3)) (hy : Y.1.cls = Y.1.cls ∧ Y.1.cls ≠ "java/lang/invoke/MethodHandle" ∧ Y.1.cls ≠ "java/lang/invoke/VarHandle" ∧ (parseMethodDescriptor Y.1.desc).map (fun d => d.parameters.length) = some n) (hn : As.length = n) (hst : st = As.reverse ++ .ref b :: rest) (hcat : (rest.map fun v => v.category).sum ≤ 8) (hm : Cond.code M.1 M.2.1 M.2.2.1 M.2.2.2 ∈ lw_all) (hz : ls.length = M.2.2.1) : AW d M h pc ls st (.inr q) h1 := by
  subst hst
  refine ⟨hr.1, hr.2.1, hz, ?_⟩
  intro E p e s m args below meth c n0 u0 H locs A C hn0 hu0 hS hR hL
  have hts := C.2.2.2.2.2.1
  have hF := C.2.2.2.2.2.2.2.2.1
  have hsz : EB E ≤ s.heap.size := by rw [C.2.2.2.2.2.2.2.2.2.1]; omega
  have g1 := hr.1
  have g2 := hr.2.1
  have hmet : xMet (EL E) Y.1 (ws_ Y.1 Y.2.1 Y.2.2.1 Y.2.2.2) (rmF dd (h1.n - h.n) (h1.u - h.u)) (Pw E (.ref b :: As) h) (XQE E q h1) (h1.n - h.n) (h1.u - h.u) (EA E) := hr.2.2 E
  obtain ⟨r0, cell, hr0, q1, qc, qv, qs, qn, q4⟩ := hR.2 b _ hg
  have hrecv : ∃ cellB : Cell, H[tr E b]? = some cellB ∧ cellB.vm.isStatics = false ∧ s.vm.findClass Y.1.cls = some cellB.cls := ⟨cell, q1, qs, by rw [qc]; exact (hF.1.1 ci _ hci).2.1⟩
  refine after_x (rest := rest.map (cv E)) (x_runV (C := Y.1.cls) (b := tr E b) (As := As.map (cv E)) (rest := rest.map (cv E)) ⟨C.1, C.2.1, C.2.2.2.1, C.2.2.2.2.1, hts⟩ hmet (cwV n hts (lw_V w1 w2 w3 w4 w5) rfl rfl rfl hy ⟨hdd, by show 8 + (Y.2.2.1 + 11) + 200 * dd ≤ 200 * d; omega⟩) ⟨Pw.blind E _ h, hrecv, Pw.at hF hsz hS hR⟩ rfl (by rw [List.length_map]; exact hn) (by show A.size = _; exact hL.1.trans hz) (by simp [List.map_append, List.map_reverse, cv]) (lv_room (by rw [cat_cv]; exact hcat)) hd ⟨by show h.n - n0 + (h1.n - h.n) ≤ h1.n - n0; omega, by show h.u - u0 + (h1.u - h.u) ≤ h1.u - u0; omega⟩) hS (fun H' locs' ce hR' hS' hce hcv hcl => ?_)
  refine x_out (fun x hx => ?_) C.2.2.2.2.2.2.1 hce hcv hcl (fun t ht hW => ⟨rfl, Fx.end hF hsz hS' ht hW, by rw [ht]; exact hR', hS'.F ht⟩) hS'.2.2 (by omega) (by omega)
  rw [C.2.2.2.2.2.2.2.2.2.2.1 hm] at hx
  cases hx
/-- a call that throws, caught by the row x of the table -/
theorem AW.callVC {i n b : Nat} {st : List Value} {ci : Nat} {fs : List Value} {T : u_T} {N : Nat} (hr : Run dd Y (.ref b :: As) h (.inr q) h1) (hdd : dd + 1 ≤ d) (hY : Y.2.2.1 ≤ 181) (hci : clL[ci]? = some (Y.1.cls, T, N)) (hg : h.g b = some (.inr (ci, fs))) (w1 : Cond.methodLink M.1.cls i Y.1 ∈ lw_all) (w2 : Cond.instanceMethod Y.1 ∈ lw_all) (w3 : Cond.selects Y.1.cls Y.1 Y.1 ∈ lw_all) (w4 : Cond.initialized Y.1.cls ∈ lw_all) (w5 : Cond.code Y.1 Y.2.1 Y.2.2.1 Y.2.2.2 ∈ lw_all) (hd : decode M.2.1 pc = .ok (.invokevirtual i, 3)) (hy : Y.1.cls = Y.1.cls ∧ Y.1.cls ≠ "java/lang/invoke/MethodHandle" ∧ Y.1.cls ≠ "java/lang/invoke/VarHandle" ∧ (parseMethodDescriptor Y.1.desc).map (fun d => d.parameters.length) = some n) (hn : As.length = n) (hst : st = As.reverse ++ .ref b :: rest) (hcat : (rest.map fun v => v.category).sum ≤ 8)
    {hh : List (Nat × Nat × Nat × Nat)} (hm : Cond.codeWith M.1 M.2.1 M.2.2.1 M.2.2.2 hh ∈ lw_all) {pre suf : List ExceptionTableEntry} {x : ExceptionTableEntry} (hsp : tableOf hh = pre ++ x :: suf) (hpass : ∀ z ∈ pre, covers z pc = false) (hx : covers x pc = true) (h0 : x.catchType ≠ 0) {name : String} (hl : Cond.classLink M.1.cls x.catchType name ∈ lw_all) (hcast : Cond.castable wrN name ∈ lw_tbl) (k : AW d M h1 x.handlerPc ls [.ref q] o h2) : AW d M h pc ls st o h2 := by
  subst hst
  refine AW.liftH k hr.1 hr.2.1 rfl (fun E p e R s m args below meth c n0 H locs cells slots Q A C hR hS hL hz hroom kk => ?_)
  have hts := C.2.2.2.2.2.1
  have hF := C.2.2.2.2.2.2.2.2.1
  have hsz : EB E ≤ s.heap.size := by rw [C.2.2.2.2.2.2.2.2.2.1]; omega
  have hmet : xMet (EL E) Y.1 (ws_ Y.1 Y.2.1 Y.2.2.1 Y.2.2.2) (rmF dd (h1.n - h.n) (h1.u - h.u)) (Pw E (.ref b :: As) h) (XQE E q h1) (h1.n - h.n) (h1.u - h.u) (EA E) := hr.2.2 E
  obtain ⟨r0, cell, hr0, q1, qc, qv, qs, qn, q4⟩ := hR.2 b _ hg
  have hrecv : ∃ cellB : Cell, H[tr E b]? = some cellB ∧ cellB.vm.isStatics = false ∧ s.vm.findClass Y.1.cls = some cellB.cls := ⟨cell, q1, qs, by rw [qc]; exact (hF.1.1 ci _ hci).2.1⟩
  refine after_x (rest := rest.map (cv E)) (x_runV (C := Y.1.cls) (b := tr E b) (As := As.map (cv E)) (rest := rest.map (cv E)) ⟨C.1, C.2.1, C.2.2.2.1, C.2.2.2.2.1, hts⟩ hmet (cwV n hts (lw_V w1 w2 w3 w4 w5) rfl rfl rfl hy ⟨by rw [hroom.1]; exact hdd, by rw [hroom.2.1]; show 8 + (Y.2.2.1 + 11) + 200 * dd ≤ 200 * d; omega⟩) ⟨Pw.blind E _ h, hrecv, Pw.at hF hsz hS hR⟩ rfl (by rw [List.length_map]; exact hn) (by show A.size = _; exact hz) (by simp [List.map_append, List.map_reverse, cv]) (lv_room (by rw [cat_cv]; exact hcat)) hd ⟨hroom.2.2.1, hroom.2.2.2⟩) hS (fun H' locs' ce hR' hS' hce hcv hcl => ?_)
  exact x_catch C.2.2.2.2.1 pre x suf ((C.2.2.2.2.2.2.2.2.2.2.2 hh hm).trans hsp) hpass hx h0 (hts _ hl) (va_Nw.use (A := args) rfl (hF.2.1 _ (List.mem_filter.mpr ⟨hcast, rfl⟩))) hce hcv hcl (kk H' locs' A hR' hS' hL)
end THROW
