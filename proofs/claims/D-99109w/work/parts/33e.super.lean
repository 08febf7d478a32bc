/-! SUPER: the constructor of Wrong calls Exception's (printed by tools/sup.py; turned from the kit's laws/EXCEPTIONS) -/
set_option maxRecDepth 100000
section SUPA
variable {p : Program} {l : Launch} {e : Env} {R : Room} {s : State} {m : MethodId} {args : Array Value} {below : List Frame} {meth : Method} {c : Code} {H : Heap} {locs : List Loc} {cells slots : Nat} {Q : State → Prop}
theorem vx_rebase {T : State} (X : Stand p l e R s m args below meth c T locs cells slots) {R' : Room} (hf : R'.frames ≤ R.frames) (hl : R'.locals ≤ R.locals) (hc : cells + R'.cells ≤ R.cells) (hs : slots + R'.slots ≤ R.slots) :
    Stand p l e R' ((T.setVm s.vm).setFrames (.invoking m args :: below)) m args below meth c T [] 0 0 := by
  have htop : (T.setVm s.vm).topJava?.isSome := X.here.top
  have hF : ((T.setVm s.vm).setFrames (.invoking m args :: below)).frames = .invoking m args :: below := State.frames_setFrames _ (State.cur_lt_of_top htop)
  obtain ⟨g₀, hg0⟩ := Option.isSome_iff_exists.mp htop
  obtain ⟨r, hr⟩ := State.topJava?_eq_some.mp hg0
  have hl9 : e.platform.stackLimits (T.setVm s.vm).me = e.platform.stackLimits s.me := X.limits
  have hb9 : (T.setVm s.vm).me.stackBytes = s.me.stackBytes := X.bytes
  refine ⟨X.admits, X.cas, X.clock, hF, ?_, X.hears, X.method, X.code, X.here, X.tail, X.warmed, ?_, ?_, ?_⟩
  · have h := X.room
    have hU : ((T.setVm s.vm).setFrames (.invoking m args :: below)).localsInUse = s.localsInUse := by
      rw [State.localsInUse_invoking hF (meth := meth) (c := c) X.method X.code, State.localsInUse_invoking X.frames X.method X.code]
    simp only [State.hasRoom, Bool.and_eq_true, decide_eq_true_eq] at h ⊢
    obtain ⟨⟨⟨⟨h1, h2, h3, h4, h5, h6⟩, h7⟩, h8⟩, h9⟩ := h
    rw [X.frames, List.length_cons] at h2 h3
    have q1 := X.heapSize
    have q2 := X.used
    simp only [hF, hU, List.length_cons, State.stackLimits_setFrames, State.stackBytes_setFrames, hl9, hb9]
    refine ⟨⟨⟨⟨by omega, by omega, by omega, by omega, by omega, h6⟩, ?_⟩, ?_⟩, X.book⟩
    · show T.heap.size + R'.cells ≤ e.platform.maxCells
      omega
    · show T.slotsUsed + R'.slots ≤ e.platform.maxSlots
      omega
  · rw [State.stackLimits_setFrames]; rfl
  · rw [State.stackBytes_setFrames]; rfl
  · refine ⟨?_, Nat.le_refl _, Nat.le_refl _, ?_, ?_, fun a c9 h9 => ⟨c9, h9, rfl, rfl, fun _ _ => rfl⟩⟩
    · obtain ⟨t, ht, -⟩ := State.frames_cons hr
      show T.setVm s.vm = { ((T.setVm s.vm).setFrames (.invoking m args :: below)).setFrames (T.setVm s.vm).frames with heap := T.heap, slotsUsed := T.slotsUsed }
      rw [State.setFrames_setFrames, State.setFrames_self ht]
      rfl
    · show T.slotsUsed = T.slotsUsed + ((T.heap.toList.drop T.heap.size).map (·.slots.size)).sum
      rw [List.drop_eq_nil_of_le (Nat.le_of_eq Array.length_toList)]
      rfl
    · show ((T.heap.toList.drop T.heap.size).map (·.slots.size)).sum ≤ 0
      rw [List.drop_eq_nil_of_le (Nat.le_of_eq Array.length_toList)]
      exact Nat.le_refl _
theorem vx_isRef {C n d : String} {v : Value} {A : Nat → Prop} {s : State} {args : Array Value} (h : va_Z C n d v A s s.heap) (hv : v.isRef = true) : (Cond.isRef (.static C n d)).before args s = true := by
  obtain ⟨cf, kf, fi, f, a, cell, h1, h2, h3, h4, h5, h6, h7, -⟩ := h
  have he : (Term.static C n d).eval args s none [] s = some v := by
    simp [Term.eval, State.fieldNamed?, h1, h2, h4, h5, h6, h7]
  simp only [Cond.before, Cond.holds, Cond.value, he]
  cases v <;> simp_all [Value.isRef]
theorem x_back9 {T S : State} {R' : Room} {k n : Nat} {L : List Loc} (X : Stand p l e R s m args below meth c T locs cells slots) (Y : Stand p l e R' ((T.setVm s.vm).setFrames (.invoking m args :: below)) m args below meth c T [] 0 0) (Z : Stand p l e R' ((T.setVm s.vm).setFrames (.invoking m args :: below)) m args below meth c S L k n) :
    Stand p l e R s m args below meth c S (locs ++ L) (cells + k) (slots + n) := by
  have hW0 : s.WarmedH ((T.setVm s.vm).setFrames (.invoking m args :: below)).vm := State.WarmedH.refl s
  refine { admits := X.admits, cas := X.cas, clock := X.clock, frames := X.frames, room := X.room, hears := X.hears, method := X.method, code := X.code, here := Z.here, tail := Z.tail, warmed := State.WarmedH.trans hW0 Z.warmed, limits := Z.limits.trans (Y.limits.symm.trans X.limits), bytes := Z.bytes.trans (Y.bytes.symm.trans X.bytes), same := ?_ }
  obtain ⟨e1, e2⟩ := Z.same
  rw [State.setFrames_setFrames] at e1
  have h2 : (T.setVm s.vm).sameButNew (S.setVm s.vm) L k n := ⟨e1, e2⟩
  have h3 := X.same.trans h2
  exact h3
end SUPA
abbrev exN : String := "java/lang/Exception"
def supL : List Cond := [.methodLink wrN 1 (Bundle.init0 exN), .instantiable wrN 8, .selects wrN Bundle.tFill0 Bundle.tFill0, .selects wrN Bundle.tFill Bundle.tFill, .lays wrN Bundle.tN "cause" "Ljava/lang/Throwable;", .lays wrN Bundle.tN "stackTrace" Bundle.steD, .lays wrN Bundle.tN "suppressedExceptions" Bundle.listD, .lays wrN Bundle.tN "detailMessage" "Ljava/lang/String;", .isRef (.static Bundle.tN "UNASSIGNED_STACK" Bundle.steD), .isRef (.static Bundle.tN "SUPPRESSED_SENTINEL" Bundle.listD), .fieldLink Bundle.tN 198 Bundle.tN "backtrace" "Ljava/lang/Object;", .lays Bundle.tN Bundle.tN "backtrace" "Ljava/lang/Object;", .lays wrN Bundle.tN "backtrace" "Ljava/lang/Object;"]
def supAtoms : List Cond := Bundle.throwableAtoms ++ Bundle.chain0Atoms exN [] ++ supL
theorem sup_words {args : Array Value} {s : State} (h : ∀ w ∈ lw_all, w.before args s = true) (hd : (Cond.declares (Bundle.init0 Bundle.tN)).before args s = true)
    (hU : (Cond.isRef (.static Bundle.tN "UNASSIGNED_STACK" Bundle.steD)).before args s = true) (hN : (Cond.isRef (.static Bundle.tN "SUPPRESSED_SENTINEL" Bundle.listD)).before args s = true)
    (lU : (Cond.laysStatic Bundle.tN "UNASSIGNED_STACK" Bundle.steD).before args s = true) (lN : (Cond.laysStatic Bundle.tN "SUPPRESSED_SENTINEL" Bundle.listD).before args s = true) : ∀ w ∈ supAtoms, w.before args s = true := by
  intro w hw
  simp only [supAtoms, supL, Bundle.throwableAtoms, Bundle.chain0Atoms, Bundle.passAtoms, List.mem_append, List.mem_cons, List.not_mem_nil, or_false, or_assoc] at hw
  rcases hw with rfl | rfl | rfl | rfl | rfl | rfl | rfl | rfl | rfl | rfl | rfl | rfl | rfl | rfl | rfl | rfl | rfl | rfl | rfl | rfl | rfl | rfl | rfl | rfl | rfl | rfl | rfl | rfl | rfl | rfl | rfl | rfl | rfl | rfl | rfl | rfl | rfl | rfl | rfl | rfl | rfl | rfl
  · exact h _ q152
  · exact h _ q479
  · exact h _ q488
  · exact h _ q490
  · exact h _ q493
  · exact h _ q495
  · exact h _ q480
  · exact h _ q481
  · exact h _ q178
  · exact h _ q179
  · exact h _ q482
  · exact h _ q487
  · exact h _ q491
  · exact h _ q508
  · exact h _ q469
  · exact h _ q509
  · exact h _ q471
  · exact h _ q510
  · exact h _ q473
  · exact h _ q483
  · exact lU
  · exact h _ q485
  · exact lN
  · exact h _ q475
  · exact h _ q500
  · exact h _ q501
  · exact h _ q502
  · exact h _ q480
  · exact hd
  · exact h _ q499
  · exact h _ q460
  · exact h _ q466
  · exact h _ q467
  · exact h _ q468
  · exact h _ q470
  · exact h _ q472
  · exact h _ q474
  · exact hU
  · exact hN
  · exact h _ q507
  · exact h _ q477
  · exact h _ q476
section SUPB
variable {p : Program} {l : Launch} {e : Env} {R : Room} {s : State} {m₀ : MethodId} {args : Array Value} {below : List Frame} {meth : Method} {c : Code} {W : State} {cells slots : Nat}
set_option maxHeartbeats 1000000 in
theorem x_ctorSup (X : Stand p l e R s m₀ args below meth c W [] cells slots) (hexec : p.tables.exec = Jvm.exec) (htr : e.platform.stackTraces = false)
    (hown : s.vm.findClass wrN = some m₀.cls) (h : ∀ a ∈ supAtoms, a.before args s = true)
    {a : Addr} {cX : ClassId} {kX : Class} {cell : Cell} (hfX : s.vm.findClass wrN = some cX) (hkX : s.vm.classes[cX]? = some kX) (hcell : W.heap[a]? = some cell) (hcc : cell.cls = cX) (hvm : cell.vm = .none) (hmo : cell.monitor.owner = none) (hmc : cell.monitor.count = 0)
    (hback : ∀ c k i f, s.fieldFound? Bundle.tN "backtrace" "Ljava/lang/Object;" = some (c, k, i, f) → cell.slots[f.slot]? = some .null)
    (hsz : ∀ c k i f nm, s.fieldFound? Bundle.tN nm.1 nm.2 = some (c, k, i, f) → (nm = ("cause", "Ljava/lang/Throwable;") ∨ nm = ("stackTrace", Bundle.steD) ∨ nm = ("suppressedExceptions", Bundle.listD)) → f.slot < cell.slots.size)
    {g : JFrame} (hg : g.method = m₀) (hsize : g.locals.size = c.maxLocals) {rest : List Value} (hstack : g.stack = .ref a :: rest) (hd6 : decode c.code g.pc = .ok (.invokespecial 1, 3))
    (hRframes : 3 < R.frames) (hRlocals : 2 * g.monitorRoom + (rest.map fun v => v.category).sum + 54 ≤ R.locals) :
    ∃ (V : State) (u0 sen : RefV) (f0 f1 f2 fu fn : Field) (cS : Cell) (aS : Addr) (L : List Loc), Stand p l e R s m₀ args below meth c (V.setCell a ((((cell.setSlot f0.slot (.ref a)).setSlot f1.slot u0.v).setSlot f2.slot sen.v).setSlot f1.slot u0.v)) L cells slots ∧ V.heap = W.heap ∧ (∀ y ∈ L, y.base = a) ∧
      (∃ cf kf i0 i1 i2 iu in_, s.fieldFound? Bundle.tN "cause" "Ljava/lang/Throwable;" = some (cf, kf, i0, f0) ∧ s.fieldFound? Bundle.tN "stackTrace" Bundle.steD = some (cf, kf, i1, f1) ∧ s.fieldFound? Bundle.tN "suppressedExceptions" Bundle.listD = some (cf, kf, i2, f2) ∧ s.fieldFound? Bundle.tN "UNASSIGNED_STACK" Bundle.steD = some (cf, kf, iu, fu) ∧ s.fieldFound? Bundle.tN "SUPPRESSED_SENTINEL" Bundle.listD = some (cf, kf, in_, fn) ∧ kf.statics = some aS) ∧
      s.heap[aS]? = some cS ∧ cS.slots[fu.slot]? = some u0.v ∧ cS.slots[fn.slot]? = some sen.v ∧
      ∀ target, Steps p.tables e below ((V.setCell a ((((cell.setSlot f0.slot (.ref a)).setSlot f1.slot u0.v).setSlot f2.slot sen.v).setSlot f1.slot u0.v)).setTop { g with stack := rest, pc := g.pc + 3 }) target → Steps p.tables e below (W.setTop g) target := by
  have howns : e.platform.frameOwnsMonitors = true := by rw [X.admits.platform]
  have hfin : e.platform.finalization = false := by rw [X.admits.platform]
  have hpl : e.platform.magicAccessors = ({} : Platform).magicAccessors := by rw [X.admits.platform]
  have a' : ∀ x, x ∈ supAtoms → x.holds args s none s [] = true := fun x hx => h x hx
  obtain ⟨T, Z, L, LZ, Y⟩ := ThrowableC.of_atoms (args := args) howns hfin hpl (fun x hx => h x (by simp [supAtoms, hx]))
  obtain ⟨P1, Ps, hlen, L1, hL, hP1m, hlink1, hlink⟩ := Bundle.chain0 (args := args) hpl Y.init0 [] exN (by decide) (fun x hx => nomatch hx) (fun x hx => h x (by simp [supAtoms, hx]))
  obtain ⟨c1, kX', hc1, hk, hord, -, -, hn6⟩ := Cond.instantiable_spec (a' (.instantiable wrN 8) (by simp [supAtoms, supL]))
  have e1 : c1 = cX := Option.some.inj (hc1.symm.trans hfX)
  rw [e1] at hk
  have e2 : kX' = kX := Option.some.inj (hk.symm.trans hkX)
  rw [e2] at hk hord
  have hsel0 : selectMethod e.platform s.vm cX T.fill0 = .method T.fill0 := by
    obtain ⟨c2, r2, m2, q1, q2, q3, q4, -⟩ := Cond.selects_spec (a' (.selects wrN Bundle.tFill0 Bundle.tFill0) (by simp [supAtoms, supL]))
    have e3 : c2 = cX := Option.some.inj (q1.symm.trans hfX)
    cases Option.some.inj (q2.symm.trans (State.methodFound?_of_named Y.fill0 (by decide)))
    cases Option.some.inj (q3.symm.trans Y.fill0)
    rw [Launch.admits_selectMethod X.admits, ← e3]; exact q4
  have hselF : selectMethod e.platform s.vm cX T.fill = .method T.fill := by
    obtain ⟨c2, r2, m2, q1, q2, q3, q4, -⟩ := Cond.selects_spec (a' (.selects wrN Bundle.tFill Bundle.tFill) (by simp [supAtoms, supL]))
    have e3 : c2 = cX := Option.some.inj (q1.symm.trans hfX)
    cases Option.some.inj (q2.symm.trans (State.methodFound?_of_named Y.fill (by decide)))
    cases Option.some.inj (q3.symm.trans Y.fill)
    rw [Launch.admits_selectMethod X.admits, ← e3]; exact q4
  obtain ⟨cellS0, hcS0, hiss⟩ := Y.statics
  obtain ⟨u0, hu0⟩ := Cond.staticRefV Y.unassigned L.unassignedStatic L.statics hcS0 hiss (a' (.isRef (.static Bundle.tN "UNASSIGNED_STACK" Bundle.steD)) (by simp [supAtoms, supL]))
  obtain ⟨sen, hsen⟩ := Cond.staticRefV Y.sentinel L.sentinelStatic L.statics hcS0 hiss (a' (.isRef (.static Bundle.tN "SUPPRESSED_SENTINEL" Bundle.listD)) (by simp [supAtoms, supL]))
  obtain ⟨ci198, i198, fB, hk198, hg198, ha198, hsB, -, hnB, htB, hffB⟩ := Cond.ownField (t := .object "java/lang/Object") Y.found L.cls (by decide +kernel) (a' (.fieldLink Bundle.tN 198 Bundle.tN "backtrace" "Ljava/lang/Object;") (by simp [supAtoms, supL])) (a' (.lays Bundle.tN Bundle.tN "backtrace" "Ljava/lang/Object;") (by simp [supAtoms, supL])) e.platform hpl
  obtain ⟨cellS, hcS', heS, -, hkeep⟩ := X.same.2.2.2.2.2 T.aS cellS0 hcS0
  have hcellS : W.heap[T.aS]? = some cellS := hcS'
  have hout' : ∀ i, (⟨T.aS, i⟩ : Loc) ∉ ([] : List Loc) := fun i hmem => nomatch hmem
  have hknownS : cellS.vm ≠ .unknown := by
    rw [heS]; intro hu
    rw [show cellS0.vm = .unknown from hu] at hiss
    cases hiss
  have hneS : T.aS ≠ a := by
    intro z
    have z1 : some cellS = some cell := hcellS.symm.trans (by rw [z]; exact hcell)
    have z2 : cellS = cell := Option.some.inj z1
    have z3 : cellS.vm = cellS0.vm := by rw [heS]
    rw [← z3, z2, hvm] at hiss
    cases hiss
  obtain ⟨iM, hffM⟩ := Y.msg
  obtain ⟨tyC, dC, hdC, hdnC⟩ := Cond.laysAt hfX hk Y.cause (a' (.lays wrN Bundle.tN "cause" "Ljava/lang/Throwable;") (by simp [supAtoms, supL]))
  obtain ⟨tyS, dS, hdS, hdnS⟩ := Cond.laysAt hfX hk Y.stack (a' (.lays wrN Bundle.tN "stackTrace" Bundle.steD) (by simp [supAtoms, supL]))
  obtain ⟨tyP, dP, hdP, hdnP⟩ := Cond.laysAt hfX hk Y.supp (a' (.lays wrN Bundle.tN "suppressedExceptions" Bundle.listD) (by simp [supAtoms, supL]))
  obtain ⟨tyB, dB, hdB, hdnB⟩ := Cond.laysAt hfX hk hffB (a' (.lays wrN Bundle.tN "backtrace" "Ljava/lang/Object;") (by simp [supAtoms, supL]))
  have bC := Cond.laysApart hdB hdC hdnB hdnC (by rw [hnB, Y.causeName]; decide)
  have bS := Cond.laysApart hdB hdS hdnB hdnS (by rw [hnB, Y.stackName]; decide)
  have bP := Cond.laysApart hdB hdP hdnB hdnP (by rw [hnB, Y.suppName]; decide)
  have hbk := hback _ _ _ _ hffB
  have hskip : SkipFacts T e.platform s (fun u => u) u0 ((preparedCellV T.toThrowableT cell a u0 sen).withEntry W.cur) :=
    ⟨{ ci198 := ci198, i198 := i198, fBack := fB }, ⟨hk198, hg198, ha198, hsB⟩, by
      simpa [preparedCellV, Cell.setSlot, Cell.withEntry, Array.getElem?_setIfInBounds, bC, bS, bP, bC.symm, bS.symm, bP.symm] using hbk, fun _ _ => rfl⟩
  obtain ⟨tm, methC, cdC, kC, vm₁, hnC, -, -, -, -, -, -, -, hW₁, st1⟩ := Steps.initCold (tb := p.tables) (e := e) (below := below) (s := s) (U := W) X.here hexec X.warmed hpl hown (t := Bundle.init0 exN) rfl rfl (Bundle.fit_spec (n := exN) (by decide)).2
    (a' (.methodLink wrN 1 (Bundle.init0 exN)) (by simp [supAtoms, supL])) (h (.instanceMethod (Bundle.init0 exN)) (by simp [supAtoms, Bundle.chain0Atoms, Bundle.passAtoms])) (bytes := Bundle.five) (maxL := 1) (h (.code (Bundle.init0 exN) Bundle.five 1 none) (by simp [supAtoms, Bundle.chain0Atoms, Bundle.passAtoms]))
    (f := g) hg (a := a) (rest := rest) hstack hd6
  cases Option.some.inj (hnC.symm.trans hP1m)
  have X₁ := X.noted hW₁
  have htak : ∀ {f : Field} {v : Value}, f.slot < cell.slots.size → kX.instanceTypes[f.slot]? = some f.type → fits f.type v = true → Takes s cell f v := fun h1 h2 h3 => ⟨h1, by
    have h4 := (Takes.of_laid hk hord h2 h3).2
    rw [hcc, hvm]; exact h4⟩
  obtain ⟨vm₂, X₂, st2⟩ := X₁.ctorPlainOffV hexec (g := { g with stack := rest }) hg hsize T L Z LZ (P1 :: Ps)
    (fun P hP => by rcases List.mem_cons.mp hP with rfl | hP; exact L1; exact hL P hP) ⟨hlink1, hlink⟩ (u0 := u0) (sen := sen) (self := a) (cell := cell) (cellS := cellS)
    hcell (fun k => by rw [hvm]; simp) (by rw [hvm]; simp) hmo hmc (by rw [hcc]; exact hsel0) (by rw [hcc]; exact hselF) hcellS hneS hknownS (by rw [hkeep _ (hout' _)]; exact hu0) (by rw [hkeep _ (hout' _)]; exact hsen)
    (htak (hsz _ _ _ _ ("cause", _) Y.cause (Or.inl rfl)) tyC (by rw [Y.causeType]; rfl)) (htak (hsz _ _ _ _ ("stackTrace", _) Y.stack (Or.inr (Or.inl rfl))) tyS (by rw [Y.stackType]; exact fits_refV_array _ u0)) (htak (hsz _ _ _ _ ("suppressedExceptions", _) Y.supp (Or.inr (Or.inr rfl))) tyP (by rw [Y.suppType]; exact fits_refV_object _ sen)) Y.objLocals hskip htr [] hd6
    (by simp only [List.length_cons, hlen]; exact hRframes) (by simp only [List.length_cons, hlen]; exact hRlocals)
  refine ⟨(W.setVm vm₁).setVm vm₂, u0, sen, T.fCause, T.fStack, T.fSupp, T.fUnassigned, T.fSentinel, cellS0, T.aS, _, X₂, rfl, fun y hy => ?_, ⟨_, _, _, _, _, _, _, Y.cause, Y.stack, Y.supp, Y.unassigned, Y.sentinel, L.statics⟩, hcS0, hu0, hsen, fun target hwalk => st1 _ (fun acts => ?_)⟩
  · simp only [List.nil_append, List.mem_cons, List.not_mem_nil, or_false] at hy
    rcases hy with rfl | rfl | rfl | rfl <;> rfl
  · rw [doInvoke_state]
    exact st2 _ hwalk
end SUPB
section SUPC
variable {d : Nat} {M : Mt} {h : AH} {pc pc2 : Nat} {ls : List (Option Value)} {st : List Value} {o : OR} {h2 : AH}
theorem rf_isRef (r : Option Nat) : (va_rf r).isRef = true := by cases r <;> rfl
set_option maxHeartbeats 1000000 in
theorem AW.superE {q : Nat} {x y : Int32} (hd : decode M.2.1 pc = .ok (.invokespecial 1, 3)) (hM : M.1.cls = wrN) (hq : 512 ≤ q) (hg : h.g q = some (.inr (5, [.null, .null, .null, .null, .null, .int 0, .int x, .int y]))) (hdd : 4 ≤ d) (hcat : (st.map fun v => v.category).sum ≤ 8) {h3 : AH} (hh : h.set q (.inr (5, [.ref q, .float 0, .float 1, .null, .null, .int 0, .int x, .int y])) = h3) (hp : pc + 3 = pc2) (k : AW d M h3 pc2 ls st o h2) : AW d M h pc ls (.ref q :: st) o h2 := by
  subst hp
  subst hh
  refine AW.liftH k (Nat.le_refl _) (Nat.le_refl _) rfl (fun E p e R s m args below meth c n0 H locs cells slots Q A C hR hS hL hz hroom kk => ?_)
  have z1 : (h.set q (.inr (5, [.ref q, .float 0, .float 1, .null, .null, .int 0, .int x, .int y]))).n - h.n = 0 := Nat.sub_self _
  have z2 : (h.set q (.inr (5, [.ref q, .float 0, .float 1, .null, .null, .int 0, .int x, .int y]))).u - h.u = 0 := Nat.sub_self _
  rw [z1, z2] at kk hroom
  have hts := C.2.2.2.2.2.1
  have hF := C.2.2.2.2.2.2.2.2.1
  have hcode := C.2.1
  obtain ⟨r0, cell, hr0, q1, qc, qv, qs, qn, q4⟩ := hR.2 q _ hg
  have hr' : r0 = (RX5, TX5, 8) := Option.some.inj (hr0.symm.trans ci5.1)
  subst hr'
  have hown : s.vm.findClass wrN = some m.cls := by rw [← hM]; exact C.2.2.2.2.1
  have hap := va_apart (own := M.1.cls) hts ci5.2.1 tyX5 ci5.2.2.1 ci5.2.2.2 hF.1 ci5.1
  obtain ⟨hSl, hfc, kC, hkC, hkind⟩ := hF.1.1 5 _ ci5.1
  intro T hT X
  subst hT
  have htr : e.platform.stackTraces = false := (show e.platform.stackTraces = (EL E).stackTraces by rw [X.admits.platform]).trans hF.2.2.2.1
  have Y := vx_rebase X (R' := { frames := R.frames, locals := R.locals, cells := 0, slots := 0 }) (Nat.le_refl _) (Nat.le_refl _) hroom.2.2.1 hroom.2.2.2
  obtain ⟨s', hA'⟩ : ∃ z, z = (T.setVm s.vm).setFrames (.invoking m args :: below) := ⟨_, rfl⟩
  rw [← hA'] at Y
  have hvm : s'.vm = s.vm := by rw [hA']; rfl
  have hhp : s'.heap = T.heap := by rw [hA']; rfl
  have hW0 : s.WarmedH s'.vm := by rw [hvm]; exact State.WarmedH.refl s
  have hts' : ∀ w ∈ lw_all, w.before args s' = true := fun w hw => word_at hW0 (good_of_word (List.mem_filter.mp hw).2) (hts w hw)
  have hdec : (Cond.declares (Bundle.init0 Bundle.tN)).before args s' = true := va_tabs rfl hvm.symm (va_Nw.use (A := args) rfl (hF.2.1 _ (List.mem_filter.mpr ⟨q464, rfl⟩)))
  have hU' : va_Z Bundle.tN "UNASSIGNED_STACK" Bundle.steD (va_rf (Eov E 0)) (EA E) s' s'.heap := by
    rw [hhp]
    exact va_Z.moved hW0.alike (va_Z.kept (hF.2.2.2.2.2.1 (zL.get ⟨6, by decide⟩) (List.get_mem _ _)) hS.2.1)
  have hN' : va_Z Bundle.tN "SUPPRESSED_SENTINEL" Bundle.listD (va_rf (Eov E 1)) (EA E) s' s'.heap := by
    rw [hhp]
    exact va_Z.moved hW0.alike (va_Z.kept (hF.2.2.2.2.2.1 (zL.get ⟨7, by decide⟩) (List.get_mem _ _)) hS.2.1)
  have hFz := hF.2.2.2.2.2.2.2.2
  have lU : vx_L Bundle.tN "UNASSIGNED_STACK" Bundle.steD (EA E) s' s'.heap := by
    rw [hhp]
    exact vx_L.moved hW0.alike (vx_L.kept hFz.2.2.1 hS.2.1)
  have lN_ : vx_L Bundle.tN "SUPPRESSED_SENTINEL" Bundle.listD (EA E) s' s'.heap := by
    rw [hhp]
    exact vx_L.moved hW0.alike (vx_L.kept hFz.2.2.2.1 hS.2.1)
  have hw := sup_words hts' hdec (vx_isRef hU' (rf_isRef _)) (vx_isRef hN' (rf_isRef _)) lU.word lN_.word
  have sl : ∀ j, j < 8 → SlotIs s' (TX5 j).1 (TX5 j).2.1 (TX5 j).2.2.1 ((ED E).2 5 j) := fun j hj => slotIs_moved hW0.alike (hSl j hj)
  have slq : ∀ j, j < 8 → ∀ c k i f, s'.fieldFound? (TX5 j).1 (TX5 j).2.1 (TX5 j).2.2.1 = some (c, k, i, f) → f.slot = (ED E).2 5 j := fun j hj c k i f hf => by
    obtain ⟨cf, kf, fi, fd, hi, hs⟩ := sl j hj
    rw [hf] at hi
    cases hi
    exact hs
  obtain ⟨V, u0, sen, f0, f1, f2, fu, fn, cS, aS, L, Z, hV, hLb, ⟨cf, kf, i0, i1, i2, iu, in_, g0, g1, g2, g3, g4, g5⟩, hcS, hu, hsn, st9⟩ := x_ctorSup Y C.1 htr (by rw [hvm]; exact hown) hw (a := tr E q) (by rw [hvm]; exact hfc) (by rw [hvm]; exact hkC) q1 qc (qn hq).1 (qn hq).2.1 (qn hq).2.2
    (fun c k i f hf => by rw [slq 4 (by decide) c k i f hf]; exact q4 4 (by decide))
    (fun c k i f nm hf hn => by
      rcases hn with rfl | rfl | rfl
      · rw [slq 0 (by decide) c k i f hf]; exact (Array.getElem?_eq_some_iff.mp (q4 0 (by decide))).1
      · rw [slq 1 (by decide) c k i f hf]; exact (Array.getElem?_eq_some_iff.mp (q4 1 (by decide))).1
      · rw [slq 2 (by decide) c k i f hf]; exact (Array.getElem?_eq_some_iff.mp (q4 2 (by decide))).1)
    (g := F0 m pc A (.ref (tr E q) :: st.map (cv E))) rfl (hz.trans C.2.2.2.1.symm) (rest := st.map (cv E)) rfl (by rw [hcode]; exact hd) (by rw [hroom.1]; omega) (by
      have := lv_room (m := m) (pc := pc) (ls := A) (rest := []) (st := st.map (cv E)) (by rw [cat_cv]; exact hcat)
      have h8 : 2 * (F0 m pc A ((Value.ref q :: st).map (cv E))).monitorRoom + ((st.map (cv E)).map fun v => v.category).sum ≤ 8 := this
      show 2 * (F0 m pc A (.ref (tr E q) :: st.map (cv E))).monitorRoom + ((st.map (cv E)).map fun v => v.category).sum + 54 ≤ R.locals
      rw [hroom.2.1]
      have h9 : 2 * (F0 m pc A (.ref (tr E q) :: st.map (cv E))).monitorRoom + ((st.map (cv E)).map fun v => v.category).sum ≤ 8 := h8
      omega)
  have s0 := slq 0 (by decide) _ _ _ _ g0
  have s1 := slq 1 (by decide) _ _ _ _ g1
  have s2 := slq 2 (by decide) _ _ _ _ g2
  have eu : u0.v = va_rf (Eov E 0) := by
    obtain ⟨cf', kf', fi', f', a', cell', e1, -, -, e4, e5, -, e7, -⟩ := hU'
    rw [g3] at e1
    cases e1
    rw [g5] at e4
    cases e4
    rw [hcS] at e5
    cases e5
    exact Option.some.inj (hu.symm.trans e7)
  have en : sen.v = va_rf (Eov E 1) := by
    obtain ⟨cf', kf', fi', f', a', cell', e1, -, -, e4, e5, -, e7, -⟩ := hN'
    rw [g4] at e1
    cases e1
    rw [g5] at e4
    cases e4
    rw [hcS] at e5
    cases e5
    exact Option.some.inj (hsn.symm.trans e7)
  rw [s0, s1, s2, eu, en] at Z st9
  have w0 := t_set q4 hap (k := 0) (by decide) (.ref (tr E q))
  have w1 := t_set w0 hap (k := 1) (by decide) (va_rf (Eov E 0))
  have w2 := t_set w1 hap (k := 2) (by decide) (va_rf (Eov E 1))
  have w3 := t_set w2 hap (k := 1) (by decide) (va_rf (Eov E 0))
  generalize hce : (((cell.setSlot ((ED E).2 5 0) (.ref (tr E q))).setSlot ((ED E).2 5 1) (va_rf (Eov E 0))).setSlot ((ED E).2 5 2) (va_rf (Eov E 1))).setSlot ((ED E).2 5 1) (va_rf (Eov E 0)) = ce at Z st9 w3
  have ce1 : ce.cls = cell.cls := by rw [← hce]; rfl
  have ce2 : ce.vm = cell.vm := by rw [← hce]; rfl
  have ce3 : ce.monitor = cell.monitor := by rw [← hce]; rfl
  have hlt : tr E q < V.heap.size := by rw [hV]; exact (Array.getElem?_eq_some_iff.mp q1).1
  have hh1 : (V.setCell (tr E q) ce).heap[tr E q]? = some ce := heapAt_setCell_self (s := V) ce hlt
  have hh2 : ∀ z : Nat, z ≠ tr E q → (V.setCell (tr E q) ce).heap[z]? = T.heap[z]? := fun z hz2 => (heapAt_setCell_ne (s := V) ce (Ne.symm hz2)).trans (by rw [hV])
  have hh3 : (V.setCell (tr E q) ce).heap.size = T.heap.size := by
    rw [← hV]
    exact Array.size_setIfInBounds ..
  subst hA'
  have X5 := x_back9 X Y Z
  have hR' : Rp E (h.set q (.inr (5, [.ref q, .float 0, .float 1, .null, .null, .int 0, .int x, .int y]))) (V.setCell (tr E q) ce).heap := by
    refine Rp.set hF hR hq ⟨_, ce, ci5.1, hh1, by rw [ce1]; exact qc, by rw [ce2]; exact qv, by rw [ce2]; exact qs, fun z => by rw [ce2, ce3]; exact qn z, fun j hj => ?_⟩ hh3 hh2
    rw [w3 j hj]
    have : j = 0 ∨ j = 1 ∨ j = 2 ∨ j = 3 ∨ j = 4 ∨ j = 5 ∨ j = 6 ∨ j = 7 := by
      have : j < 8 := hj
      omega
    rcases this with rfl | rfl | rfl | rfl | rfl | rfl | rfl | rfl <;> rfl
  have hS' : va_S (EA E) s.heap (V.setCell (tr E q) ce).heap (locs ++ L) := ⟨by rw [hh3]; exact hS.1, fun z h1 h2 => (hh2 z (fun w => h2 (by rw [w]; exact tr_A hq))).trans (hS.2.1 z h1 h2), fun z hz3 => by
    rcases List.mem_append.mp hz3 with w | w
    · exact hS.2.2 z w
    · rw [hLb z w]; exact tr_A hq⟩
  obtain ⟨t, a1, b1⟩ := kk _ _ A hR' hS' hL _ rfl X5
  exact ⟨t, st9 _ a1, b1⟩
end SUPC
