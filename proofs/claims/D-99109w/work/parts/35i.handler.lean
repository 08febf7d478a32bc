/-! HANDLERS: a method with handlers is called (printed by tools/hnd.py; the theorems vx_.. stand in the kit's laws/EXCEPTIONS) -/
set_option maxRecDepth 100000
section HNDA
variable {p : Program} {l : Launch} {e : Env} {R : Room} {s : State} {m : MethodId} {args : Array Value} {below : List Frame} {meth : Method} {c : Code} {T : State} {H : Heap} {locs : List Loc} {cells slots : Nat}
theorem vx_callVW (X : Stand p l e R s m args below meth c T locs cells slots) (hexec : p.tables.exec = Jvm.exec) {own C : String} {index : Nat} {y : MethodName} {bytes : ByteArray} {maxL : Nat} {ret : Option FieldType} {hh : List (Nat × Nat × Nat × Nat)}
    (hown : s.vm.findClass own = some m.cls) (hlink : (Cond.methodLink own index y).before args s = true) (hinst : (Cond.instanceMethod y).before args s = true) (hsel : (Cond.selects C y y).before args s = true)
    (hcode : (Cond.codeWith y bytes maxL ret hh).before args s = true) (hy : y.cls ≠ "java/lang/invoke/MethodHandle" ∧ y.cls ≠ "java/lang/invoke/VarHandle")
    {W9 : Nat} {Pre : Pt → Array Value → Prop} {Post : Pt → Array Value → Option Value → Pt → Prop} (hK : Back l R p e below s args y 3 W9 Pre Post)
    {b : Addr} {cellB : Cell} (hcell : T.heap[b]? = some cellB) (hobj : cellB.vm.isStatics = false) (hcls : s.vm.findClass C = some cellB.cls)
    {g : JFrame} (hg : g.method = m) (hsize : g.locals.size = c.maxLocals) {argsL rest : List Value} (hlen : ∀ sig, parseMethodDescriptor y.desc = some sig → argsL.length = sig.parameters.length)
    (hstack : g.stack = argsL.reverse ++ .ref b :: rest) (hW : 2 * g.monitorRoom + (rest.map fun v => v.category).sum ≤ W9) (hdg : decode c.code g.pc = .ok (.invokevirtual index, 3))
    (hpre : ∀ vm₁, s.WarmedH vm₁ → Pre ⟨T.setVm vm₁, locs, cells, slots⟩ (Value.ref b :: argsL).toArray) :
    ∃ (v : Option Value) (vm₁ : Vm) (B : Pt), s.WarmedH vm₁ ∧ Stand p l e R s m args below meth c B.U B.locs B.cells B.slots ∧ Post ⟨T.setVm vm₁, locs, cells, slots⟩ (Value.ref b :: argsL).toArray v B ∧
      ∀ target, Steps p.tables e below (B.U.setTop { g with pc := g.pc + 3, stack := v.toList ++ rest }) target → Steps p.tables e below (T.setTop g) target := by
  obtain ⟨mk, methM, hnamed, hmethM, hstM, habM⟩ := Cond.instanceMethod_spec hinst
  obtain ⟨m8, methM', cM, hn8, hmethM', -, -, -, -, -, -, hsigM⟩ := Cond.codeWith_spec hcode
  cases Option.some.inj (hn8.symm.trans hnamed)
  cases hmethM.symm.trans hmethM'
  obtain ⟨c2, r2, m2, q1, q2, q3, q4, kP, hkP, hkPi⟩ := Cond.selects_spec hsel
  cases hcls.symm.trans q1
  cases (State.methodFound?_of_named hnamed hy).symm.trans q2
  cases hnamed.symm.trans q3
  have hselP : selectMethod e.platform s.vm cellB.cls mk = .method mk := by rw [Launch.admits_selectMethod X.admits]; exact q4
  obtain ⟨vm₁, X₁, hstep₁⟩ := X.invokevirtual hexec hown hlink hnamed hmethM hstM hkP hkPi hy (a := b) (cell := cellB) hcell
    (fun z h => by rw [h] at hobj; cases hobj) hselP hmethM habM hkP hkPi (g := g) hg (argsL := argsL) (rest := rest) (hlen _ hsigM) hstack hdg
  obtain ⟨v, B, X', hpost, hsteps⟩ := hK m meth c ⟨T.setVm vm₁, locs, cells, slots⟩ { g with stack := rest } (.invokevirtual index) mk (Value.ref b :: argsL).toArray X₁ hg hsize hdg hW (X₁.named hnamed) (hpre vm₁ X₁.warmed)
  exact ⟨v, vm₁, B, X₁.warmed, X', hpost, fun target h => hstep₁ _ fun acts => by rw [doInvoke_state]; exact hsteps.trans h⟩
abbrev vx_CVW (R : Room) (s : State) (args : Array Value) (own C : String) (index : Nat) (y : MethodName) (bytes : ByteArray) (maxL : Nat) (ret : Option FieldType) (hh : List (Nat × Nat × Nat × Nat)) (ws : List Cond) (rm : Room) (mc ms n : Nat) : Prop :=
  (rm.cells = mc ∧ rm.slots = ms ∧ rm.frames + 1 ≤ R.frames ∧ 8 + (maxL + 11) + rm.locals ≤ R.locals ∧ (∀ w ∈ ws, ∀ (a' : Array Value) (U : State), s.WarmedH U.vm → w.before a' U = true) ∧ Cond.codeWith y bytes maxL ret hh ∈ ws) ∧
  (Cond.codeWith y bytes maxL ret hh).before args s = true ∧ (Cond.initialized y.cls).before args s = true ∧ (y.cls ≠ "java/lang/invoke/MethodHandle" ∧ y.cls ≠ "java/lang/invoke/VarHandle") ∧
  (∀ sig, parseMethodDescriptor y.desc = some sig → n = sig.parameters.length) ∧ (Cond.methodLink own index y).before args s = true ∧ (Cond.instanceMethod y).before args s = true ∧ (Cond.selects C y y).before args s = true
theorem vx_cwVW {own C : String} {index maxL mc ms : Nat} {y : MethodName} {bytes : ByteArray} {ret : Option FieldType} {hh : List (Nat × Nat × Nat × Nat)} {Ts ws ws' : List Cond} {rm : Room} (n : Nat) (ht : ∀ w ∈ Ts, w.before args s = true) (hT : GoodIn Ts (wsV own index C y ws)) (hw : ws = Cond.codeWith y bytes maxL ret hh :: ws') (hrc : rm.cells = mc) (hrs : rm.slots = ms)
    (hd : y.cls = C ∧ y.cls ≠ "java/lang/invoke/MethodHandle" ∧ y.cls ≠ "java/lang/invoke/VarHandle" ∧ (parseMethodDescriptor y.desc).map (fun d => d.parameters.length) = some n) (hR : rm.frames + 1 ≤ R.frames ∧ 8 + (maxL + 11) + rm.locals ≤ R.locals) :
    vx_CVW R s args own C index y bytes maxL ret hh ws rm mc ms n := by
  obtain ⟨hC, hd⟩ := hd
  subst hC
  have ok : ∀ w ∈ wsV own index y.cls y ws, w.before args s = true := fun w h => ht w (hT w h).1
  have hG : GoodIn Ts ws := fun w h => hT w (by unfold wsV; exact List.mem_append_right _ h)
  have hc : Cond.codeWith y bytes maxL ret hh ∈ ws := by rw [hw]; exact List.mem_cons_self
  refine ⟨⟨hrc, hrs, hR.1, hR.2, pay_in ht hG, hc⟩, ht _ (hG _ hc).1, ok _ (by simp [wsV]), ⟨hd.1, hd.2.1⟩, fun sig h => ?_, ok _ (by simp [wsV]), ok _ (by simp [wsV]), ok _ (by simp [wsV])⟩
  have h2 := hd.2.2
  rw [h] at h2
  exact (Option.some.inj h2).symm
theorem vx_runVW {y : MethodName} {bytes cc : ByteArray} {maxL nL mc ms n index : Nat} {ret : Option FieldType} {hh : List (Nat × Nat × Nat × Nat)} {ws : List Cond} {rm : Room} {Pc : Array Value → State → Prop} {Qc : Array Value → State → Outcome → State → Prop} {free : Addr → Prop} {Ts : List Cond} {own C : String} {b : Addr} {As rest : List Value} {g : JFrame}
    (S : CallFix p m c cc nL s args Ts own) (hM : Met l y ws rm Pc Qc mc ms free) (cw : vx_CVW R s args own C index y bytes maxL ret hh ws rm mc ms n) (hp : PreV s H C b Pc As)
    (hg : g.method = m) (hn : As.length = n) (hsize : g.locals.size = nL) (hstack : g.stack = As.reverse ++ .ref b :: rest) (hW : 2 * g.monitorRoom + (rest.map fun v => v.category).sum ≤ 8) (hdg : decode cc g.pc = .ok (.invokevirtual index, 3)) (hf : cells + mc ≤ R.cells ∧ slots + ms ≤ R.slots) :
    va_Run p l e R s m args below meth c H locs cells slots mc ms g rest (Qc (Value.ref b :: As).toArray) free := by
  obtain ⟨⟨hrc, hrs, hfr, hlo, hws, hcw⟩, hcode, hini, hy, hlen, hl, hin, hse⟩ := cw
  have hK : Back l R p e below s args y 3 8 (PreOf R mc ms Pc) (PostOf Qc mc ms free) := va_backW (hh := hh) (bytes := bytes) (maxL := maxL) (ret := ret) hM hp.1 hrc hrs hfr hlo hws hcw (fun a' U hW => word_at hW (Or.inl (by first | rfl | simp [Cond.onTables, Cond.keeps, Cond.steady])) hini)
  obtain ⟨hx, hb, hml, ho, -⟩ := S
  obtain ⟨-, ⟨cellB, hcB, hoB, hclB⟩, hPc⟩ := hp
  intro T hT X
  obtain ⟨v, vm₁, ⟨U', l2, c2, s2⟩, hW₁, X', ⟨g', mk, t, L, e1, e2, hq, h1, hL, h2, h3⟩, st⟩ := vx_callVW X hx (C := C) (hh := hh) (bytes := bytes) (maxL := maxL) (ret := ret) ho hl hin hse hcode hy hK (by rw [hT]; exact hcB) hoB hclB hg (hsize.trans hml.symm) (argsL := As) (rest := rest) (fun sig h => hn.trans (hlen sig h)) hstack hW (by rw [hb]; exact hdg)
    (fun vm₁ hW₁ => ⟨hf.1, hf.2, hPc (T.setVm vm₁) hT hW₁⟩)
  dsimp only [Pt.U, Pt.locs, Pt.cells, Pt.slots] at X' e1 e2 h1 h2 h3 st
  subst h1; subst h2; subst h3
  exact ⟨v, (T.setVm vm₁).calling g' mk (Value.ref b :: As).toArray, t, U', L, hT, X', hL, e1, e2, hq, st⟩
end HNDA
theorem Met.ofWH {l : Launch} {y : MethodName} {ws ws' : List Cond} {rm : Room} {Pc : Array Value → State → Prop} {Qc : Array Value → State → Outcome → State → Prop} {mc ms : Nat} {free : Addr → Prop} {cc : ByteArray} {maxL : Nat} {ret : Option FieldType} {hh : List (Nat × Nat × Nat × Nat)}
    (hy : plainName y.cls = true) (hw : ws = Cond.codeWith y cc maxL ret hh :: ws')
    (body : ∀ p e s m args below meth c s₁, BodyLoose p l y (headSpec ws rm) cc maxL ret e s m args below meth c s₁ → c.maxLocals = maxL → Pc args s →
      W p l e (headSpec ws rm).room s m args below meth c s.heap [] 0 0 (MQ below Qc args s mc ms free) (entryFrame m args maxL)) : Met l y ws rm Pc Qc mc ms free := by
  refine MetFree.of_bodyS (code := cc) (maxLocals := maxL) (ret := ret) hy ?_ ?_
  · intro args s m h hn
    obtain ⟨m9, meth, c, hn9, h1, h2, h3, h4, -, h5, h6, -⟩ := Cond.codeWith_spec (atoms_spec (ws := ws) h _ (by rw [hw]; exact List.mem_cons_self))
    cases hn.symm.trans hn9
    exact ⟨meth, c, h1, h2, h3, h4, h5, h6⟩
  · intro p e s m args below meth c s₁ B hml hP _
    have hh0 : s₁.heap = s.heap := by rw [B.state]; rfl
    obtain ⟨t, a1, o, b1, b2, b3⟩ := body p e s m args below meth c s₁ B hml hP s₁ hh0 (Stand.of_body B)
    exact ⟨t, o, a1, b1, b2, ⟨b3.1, b3.2⟩⟩
/-- a method with handlers, called with av over the heap h -/
def RunW (d : Nat) (M : Mt) (hh : List (Nat × Nat × Nat × Nat)) (av : List Value) (h : AH) (r : Option Value) (h' : AH) : Prop := h.n ≤ h'.n ∧ h.u ≤ h'.u ∧ ∀ E : EE, Met (EL E) M.1 (wsW_ M.1 M.2.1 M.2.2.1 M.2.2.2 hh) (rmF d (h'.n - h.n) (h'.u - h.u)) (Pw E av h) (Qx E r h') (h'.n - h.n) (h'.u - h.u) (EA E)
theorem RunW.of {d : Nat} {M : Mt} {hh : List (Nat × Nat × Nat × Nat)} {av : List Value} {h : AH} {r : Option Value} {h2 : AH} (hy : plainName M.1.cls = true) (hlen : (entL av).length ≤ M.2.2.1) {ls : List (Option Value)} (hls : entL av ++ List.replicate (M.2.2.1 - (entL av).length) none = ls) (k : AW d M h 0 ls [] (.inl r) h2) : RunW d M hh av h r h2 := by
  subst hls
  refine ⟨k.1, k.2.1, fun E => ?_⟩
  refine Met.ofWH (cc := M.2.1) (maxL := M.2.2.1) (ret := M.2.2.2) (hh := hh) hy rfl ?_
  intro p e s m args below meth c s1 B hml hv
  obtain ⟨rfl, hF, hR⟩ := hv
  have hts := atoms_spec (ws := wsW_ M.1 M.2.1 M.2.2.1 M.2.2.2 hh) B.pre
  have hts : ∀ w ∈ lw_all, w.before _ s = true := fun w h => hts w (List.mem_cons_of_mem _ h)
  have hC : Cx E d M p s m (av.map (cv E)).toArray meth c h.n := ⟨B.exec, B.bytes, B.returns, hml, findClass_of_methodNamed B.named, hts, B.notSynchronized, (name_of_methodNamed B.named B.method).1, hF, hR.1, fun w => x_tab0 B (hts _ w), fun hh w => x_tabH B (hts _ w)⟩
  have hl := lv_entry (av.map (cv E)) (n := M.2.2.1) (by rw [sl_cv, ← entL_len]; exact hlen)
  rw [lg_entry_eq]
  have hL : LR E ((lg_sl (av.map (cv E)) ++ List.replicate (M.2.2.1 - (lg_sl (av.map (cv E))).length) Slot.unset).toArray) (entL av ++ List.replicate (M.2.2.1 - (entL av).length) none) := by
    refine ⟨by rw [hl.1]; simp; omega, hl.2.1, fun k v hk => ?_⟩
    by_cases hkl : k < (entL av).length
    · rw [List.getElem?_append_left hkl] at hk
      have := entL_args (E := E) av 0 k v hk
      rw [Nat.zero_add] at this
      exact hl.2.2 _ this
    · rw [List.getElem?_append_right (by omega), List.getElem?_replicate] at hk
      split at hk <;> simp at hk
  have := k.2.2.2 E p e s m _ below meth c h.n h.u s.heap [] _ hC (Nat.le_refl _) (Nat.le_refl _) va_S.rf hR hL
  rw [Nat.sub_self, Nat.sub_self] at this
  exact this
section CALLW
variable {d dd : Nat} {M Y : Mt} {As : List Value} {h h1 h2 : AH} {pc pc2 : Nat} {ls : List (Option Value)} {rest : List Value} {o : OR} {r : Option Value} {hh : List (Nat × Nat × Nat × Nat)}
theorem AW.callVW {i n b : Nat} {st : List Value} {ci : Nat} {fs : List Value} {T : u_T} {N : Nat} (hr : RunW dd Y hh (.ref b :: As) h r h1) (hdd : dd + 1 ≤ d) (hY : Y.2.2.1 ≤ 181) (hci : clL[ci]? = some (Y.1.cls, T, N)) (hg : h.g b = some (.inr (ci, fs))) (w1 : Cond.methodLink M.1.cls i Y.1 ∈ lw_all) (w2 : Cond.instanceMethod Y.1 ∈ lw_all) (w3 : Cond.selects Y.1.cls Y.1 Y.1 ∈ lw_all) (w4 : Cond.initialized Y.1.cls ∈ lw_all) (w5 : Cond.codeWith Y.1 Y.2.1 Y.2.2.1 Y.2.2.2 hh ∈ lw_all) (hd : decode M.2.1 pc = .ok (.invokevirtual i, 3)) (hy : Y.1.cls = Y.1.cls ∧ Y.1.cls ≠ "java/lang/invoke/MethodHandle" ∧ Y.1.cls ≠ "java/lang/invoke/VarHandle" ∧ (parseMethodDescriptor Y.1.desc).map (fun d => d.parameters.length) = some n) (hn : As.length = n) (hst : st = As.reverse ++ .ref b :: rest) (hcat : (rest.map fun v => v.category).sum ≤ 8) (hp : pc + 3 = pc2) (k : AW d M h1 pc2 ls (r.toList ++ rest) o h2) : AW d M h pc ls st o h2 := by
  subst hp
  subst hst
  refine AW.liftH k hr.1 hr.2.1 rfl (fun E p e R s m args below meth c n0 H locs cells slots Q A C hR hS hL hz hroom kk => ?_)
  have hts := C.2.2.2.2.2.1
  have hF := C.2.2.2.2.2.2.2.2.1
  have hsz : EB E ≤ s.heap.size := by rw [C.2.2.2.2.2.2.2.2.2.1]; omega
  obtain ⟨r0, cell, hr0, q1, qc, qv, qs, qn, q4⟩ := hR.2 b _ hg
  have hrecv : ∃ cellB : Cell, H[tr E b]? = some cellB ∧ cellB.vm.isStatics = false ∧ s.vm.findClass Y.1.cls = some cellB.cls := ⟨cell, q1, qs, by rw [qc]; exact (hF.1.1 ci _ hci).2.1⟩
  refine after_run (r := r) (vx_runVW (C := Y.1.cls) (b := tr E b) (As := As.map (cv E)) (rest := rest.map (cv E)) ⟨C.1, C.2.1, C.2.2.2.1, C.2.2.2.2.1, hts⟩ (hr.2.2 E) (vx_cwVW n hts (lw_VW w1 w2 w3 w4 w5) rfl rfl rfl hy ⟨by rw [hroom.1]; exact hdd, by rw [hroom.2.1]; show 8 + (Y.2.2.1 + 11) + 200 * dd ≤ 200 * d; omega⟩) ⟨Pw.blind E _ h, hrecv, Pw.at hF hsz hS hR⟩ rfl (by rw [List.length_map]; exact hn) (by show A.size = _; exact hz) (by simp [List.map_append, List.map_reverse, cv]) (lv_room (by rw [cat_cv]; exact hcat)) hd ⟨hroom.2.2.1, hroom.2.2.2⟩) hS (fun H' locs' hR' hS' => ?_)
  have := kk H' locs' A hR' hS' hL
  cases r <;> exact this
end CALLW
