/-! HEAP: rows that read and write cells -/
set_option maxRecDepth 100000
def CI (ci : Nat) (C : String) (T : u_T) (N : Nat) (ty : Nat → FieldType) : Prop := clL[ci]? = some (C, T, N) ∧ (∀ w ∈ u_ws C T N, w ∈ lw_all) ∧ (∀ k, k < N → parseFieldDescriptor (T k).2.2.1 = some (ty k)) ∧ (∀ a, a < N → ∀ b, b < N → a ≠ b → (T a).2.1 ≠ (T b).2.1)
theorem ci0 : CI 0 RX0 TX0 12 tyX0 := ⟨rfl, in_X0, tyX0_ok, nmX0⟩
theorem ci1 : CI 1 RX1 TX1 6 tyX1 := ⟨rfl, in_X1, tyX1_ok, nmX1⟩
theorem ci2 : CI 2 RX2 TX2 36 tyX2 := ⟨rfl, in_X2, tyX2_ok, nmX2⟩
theorem ci3 : CI 3 RX3 TX3 8 tyX3 := ⟨rfl, in_X3, tyX3_ok, nmX3⟩
theorem ci4 : CI 4 RX4 TX4 5 tyX4 := ⟨rfl, in_X4, tyX4_ok, nmX4⟩
theorem ci5 : CI 5 RX5 TX5 8 tyX5 := ⟨rfl, in_X5, tyX5_ok, nmX5⟩
theorem ci6 : CI 6 RX6 TX6 3 tyX6 := ⟨rfl, in_X6, tyX6_ok, nmX6⟩
theorem ci7 : CI 7 RX7 TX7 1 tyX7 := ⟨rfl, in_X7, tyX7_ok, nmX7⟩
theorem ci8 : CI 8 RX8 TX8 2 tyX8 := ⟨rfl, in_X8, tyX8_ok, nmX8⟩
theorem ci9 : CI 9 RX9 TX9 1 tyX9 := ⟨rfl, in_X9, tyX9_ok, nmX9⟩
theorem ci10 : CI 10 RX10 TX10 1 tyX10 := ⟨rfl, in_X10, tyX10_ok, nmX10⟩
theorem ci11 : CI 11 RX11 TX11 1 tyX11 := ⟨rfl, in_X11, tyX11_ok, nmX11⟩
theorem ci12 : CI 12 RX12 TX12 2 tyX12 := ⟨rfl, in_X12, tyX12_ok, nmX12⟩
theorem ci13 : CI 13 RX13 TX13 3 tyX13 := ⟨rfl, in_X13, tyX13_ok, nmX13⟩
theorem ci14 : CI 14 RX14 TX14 2 tyX14 := ⟨rfl, in_X14, tyX14_ok, nmX14⟩
theorem ci15 : CI 15 RX15 TX15 5 tyX15 := ⟨rfl, in_X15, tyX15_ok, nmX15⟩
theorem ci16 : CI 16 RJ2 TJ2 3 tyJ2 := ⟨rfl, in_J2, tyJ2_ok, nmJ2⟩
theorem ci17 : CI 17 RJ12 TJ12 1 tyJ12 := ⟨rfl, in_J12, tyJ12_ok, nmJ12⟩
theorem ao_moved {u U : State} (hvm : u.vm.Alike U.vm) (h : (Cond.arrayOver (.array .int)).before #[] u = true) : (Cond.arrayOver (.array .int)).before #[] U = true := by
  obtain ⟨comp, c, k, h1, h2, h3, h4, h5⟩ := arrayOverA_spec h
  obtain ⟨k', hk', he⟩ := hvm.2.2 _ _ h3
  have hi : (U.vm.classes.findIdx? fun (x : Class) => match x.kind with | .array component _ => component == comp | _ => false) = some c := by
    have e1 := va_idx_bare U.vm comp
    have e2 := va_idx_bare u.vm comp
    have e3 : U.vm.bare = u.vm.bare := by first | exact hvm.bare_eq | exact hvm.bare_eq.symm
    refine e1.symm.trans (Eq.trans ?_ (e2.trans h2))
    rw [e3]
  have hkind : k'.kind = .array comp (.array .int) := by rw [he]; exact h4
  have f1 : U.vm.findClass (FieldType.array .int).toString = some comp := by rw [hvm.findClass]; exact h1
  have f2 : U.vm.findClass ("[" ++ (FieldType.array .int).toString) = some c := by rw [hvm.findClass]; exact h5
  unfold Cond.before Cond.holds
  simp only [Cond.value]
  rw [f1, Option.bind_some]
  refine (congrArg (fun o : Option Nat => (o.bind (fun c => (U.vm.classes[c]?).map fun (k : Class) => match k.kind with | .array _ ty => decide (ty = FieldType.array .int) && decide (U.vm.findClass ("[" ++ (FieldType.array .int).toString) = some c) | _ => false) == some true)) hi).trans ?_
  simp [hk', hkind, f2]
theorem va_Nw.go {w : Cond} {s U : State} (hW : s.WarmedH U.vm) (hw : w ∈ nwF) (hz : va_Nw w s) : va_Nw w U := by
  have hk := (List.mem_filter.mp hw).2
  cases w with
  | fieldLinkNest => exact va_Nw.warmF hW hz
  | methodLinkNest => exact va_Nw.warmM hW hz
  | castable => exact va_Nw.warmC hW hz
  | declares => exact va_Nw.warmD hW hz
  | arrayOver t =>
    cases t with
    | object C => exact va_AO.moved hW.alike hz
    | _ => cases hk
  | _ => cases hk
theorem Fz.go {E : EE} {s U : State} (hW : s.WarmedH U.vm) (hz : EB E ≤ s.heap.size) (hq : ∀ q : Nat, q < EB E → U.heap[q]? = s.heap[q]?) (h : Fz E s) : Fz E U := by
  have hk : ∀ a : Nat, a < s.heap.size → ¬ EA E a → U.heap[a]? = s.heap[a]? := fun a _ ha => hq a (by unfold EA at ha; omega)
  obtain ⟨h1, h2, h3, h4, mi, h5, h6⟩ := h
  exact ⟨fun i hi => ⟨((h1 i hi).1.kept hk).moved hW.alike, ((h1 i hi).2.1.kept hk).moved hW.alike, ((h1 i hi).2.2.kept hk).moved hW.alike⟩, h2.warm hW, (h3.kept hk).moved hW.alike, (h4.kept hk).moved hW.alike, mi, h5, h6.moved hW.alike⟩
theorem Fx.go {E : EE} {s U : State} (hW : s.WarmedH U.vm) (hz : EB E ≤ s.heap.size) (hq : ∀ q : Nat, q < EB E → U.heap[q]? = s.heap[q]?) (h : Fx E s) : Fx E U := by
  refine ⟨va_K.moved hW.alike h.1, fun w hw => va_Nw.go hW hw (h.2.1 w hw), h.2.2.1, h.2.2.2.1, fun t ty ht => arrOfT_moved hW.alike (h.2.2.2.2.1 t ty ht), fun q hq2 => ?_, fun q hq2 => ?_, ao_moved hW.alike h.2.2.2.2.2.2.2.1, Fz.go hW hz hq h.2.2.2.2.2.2.2.2⟩
  · exact ((h.2.2.2.2.2.1 q hq2).kept (fun a _ ha => hq a (by unfold EA at ha; omega))).moved hW.alike
  · refine va_Fw.moved ?_ hW.alike (h.2.2.2.2.2.2.1 q hq2)
    have : ∀ q ∈ fwL, q.2.1.cls ≠ "java/lang/invoke/MethodHandle" ∧ q.2.1.cls ≠ "java/lang/invoke/VarHandle" := by decide +kernel
    exact this q hq2
section LIFT
variable {d : Nat} {M : Mt} {h h1 : AH} {pc pc2 : Nat} {ls : List (Option Value)} {st : List Value} {o : OR} {h2 : AH}
/-- a row that changes the heap -/
theorem AW.liftH {ls' : List (Option Value)} {st' : List Value} (k : AW d M h1 pc2 ls' st' o h2) (hn1 : h.n ≤ h1.n) (hu1 : h.u ≤ h1.u) (hlen : ls.length = ls'.length)
    (f : ∀ (E : EE) (p : Program) (e : Env) (R : Room) (s : State) (m : MethodId) (args : Array Value) (below : List Frame) (meth : Method) (c : Code) (n0 : Nat) (H : Heap) (locs : List Loc) (cells slots : Nat) (Q : State → Prop) (A : Array Slot), Cx E d M p s m args meth c n0 → Rp E h H → va_S (EA E) s.heap H locs → LR E A ls → A.size = M.2.2.1 → (R.frames = d ∧ R.locals = 200 * d ∧ cells + (h1.n - h.n) ≤ R.cells ∧ slots + (h1.u - h.u) ≤ R.slots) →
      (∀ (H' : Heap) (locs' : List Loc) (A' : Array Slot), Rp E h1 H' → va_S (EA E) s.heap H' locs' → LR E A' ls' → W p (EL E) e R s m args below meth c H' locs' (cells + (h1.n - h.n)) (slots + (h1.u - h.u)) Q (F0 m pc2 A' (st'.map (cv E)))) → W p (EL E) e R s m args below meth c H locs cells slots Q (F0 m pc A (st.map (cv E)))) : AW d M h pc ls st o h2 := by
  have q1 := k.1
  have q2 := k.2.1
  refine ⟨Nat.le_trans hn1 q1, Nat.le_trans hu1 q2, hlen.trans k.2.2.1, ?_⟩
  intro E p e s m args below meth c n0 u0 H locs A C hn hu hS hR hL
  refine f E p e _ s m args below meth c n0 H locs _ _ _ A C hR hS hL (hL.1.trans (hlen.trans k.2.2.1)) ⟨rfl, rfl, ?_, ?_⟩ (fun H' locs' A' hR' hS' hA' => ?_)
  · show h.n - n0 + (h1.n - h.n) ≤ h2.n - n0
    omega
  · show h.u - u0 + (h1.u - h.u) ≤ h2.u - u0
    omega
  · have := k.2.2.2 E p e s m args below meth c n0 u0 H' locs' A' C (Nat.le_trans hn hn1) (Nat.le_trans hu hu1) hS' hR' hA'
    rw [show h.n - n0 + (h1.n - h.n) = h1.n - n0 by omega, show h.u - u0 + (h1.u - h.u) = h1.u - u0 by omega]
    exact this
theorem AW.liftS {ls' : List (Option Value)} {st' : List Value} (k : AW d M h1 pc2 ls' st' o h2) (hn1 : h1.n = h.n) (hu1 : h1.u = h.u) (hlen : ls.length = ls'.length)
    (f : ∀ (E : EE) (p : Program) (e : Env) (R : Room) (s : State) (m : MethodId) (args : Array Value) (below : List Frame) (meth : Method) (c : Code) (n0 : Nat) (H : Heap) (locs : List Loc) (cells slots : Nat) (Q : State → Prop) (A : Array Slot), Cx E d M p s m args meth c n0 → Rp E h H → va_S (EA E) s.heap H locs → LR E A ls → A.size = M.2.2.1 →
      (∀ (H' : Heap) (locs' : List Loc) (A' : Array Slot), Rp E h1 H' → va_S (EA E) s.heap H' locs' → LR E A' ls' → W p (EL E) e R s m args below meth c H' locs' cells slots Q (F0 m pc2 A' (st'.map (cv E)))) → W p (EL E) e R s m args below meth c H locs cells slots Q (F0 m pc A (st.map (cv E)))) : AW d M h pc ls st o h2 := by
  refine AW.liftH k (Nat.le_of_eq hn1.symm) (Nat.le_of_eq hu1.symm) hlen (fun E p e R s m args below meth c n0 H locs cells slots Q A C hR hS hL hz hroom kk => ?_)
  rw [hn1, hu1, Nat.sub_self, Nat.sub_self] at kk
  exact f E p e R s m args below meth c n0 H locs cells slots Q A C hR hS hL hz kk
end LIFT
theorem tr_ne {E : EE} {s : State} (hF : Fx E s) {a k : Nat} (ha : 512 ≤ a) (hne : k ≠ a) : tr E k ≠ tr E a := by
  unfold tr
  rw [if_neg (by omega : ¬ a < 512)]
  by_cases hk : k < 512
  · rw [if_pos hk]
    have := hF.2.2.1 k hk
    omega
  · rw [if_neg hk]
    omega
theorem tr_A {E : EE} {a : Nat} (ha : 512 ≤ a) : EA E (tr E a) := by
  unfold tr EA
  rw [if_neg (by omega : ¬ a < 512)]
  omega
/-- the abstract heap behind a write of one cell -/
theorem Rp.set {E : EE} {s : State} {h : AH} {H H1 : Heap} {a : Nat} {c : AC} (hF : Fx E s) (hR : Rp E h H) (ha : 512 ≤ a) (hc : AtC E a c H1) (hz : H1.size = H.size) (oq : ∀ q : Nat, q ≠ tr E a → H1[q]? = H[q]?) : Rp E (h.set a c) H1 := by
  refine ⟨hz.trans hR.1, fun k c1 hk => ?_⟩
  by_cases hka : k = a
  · subst hka
    have : (h.set k c).g k = some c := by simp [AH.set, AH.g]
    rw [this] at hk
    cases hk
    exact hc
  · have e : (h.set a c).g k = h.g k := by simp [AH.set, AH.g, hka]
    rw [e] at hk
    have h1 := hR.2 k c1 hk
    have h2 := oq (tr E k) (tr_ne hF ha hka)
    cases c1 with
    | inl x =>
      obtain ⟨cell, q1, q2⟩ := h1
      exact ⟨cell, h2.trans q1, q2⟩
    | inr x =>
      obtain ⟨r, cell, q0, q1, q2⟩ := h1
      exact ⟨r, cell, q0, h2.trans q1, q2⟩
theorem Rp.push {E : EE} {s : State} {h : AH} {H H1 : Heap} {c : AC} {w : Nat} (hF : Fx E s) (hR : Rp E h H) (hc : AtC E (512 + h.n) c H1) (hz : H1.size = H.size + 1) (oq : ∀ q : Nat, q < H.size → H1[q]? = H[q]?) : Rp E (h.push c w) H1 := by
  refine ⟨by rw [hz, hR.1]; rfl, fun k c1 hk => ?_⟩
  by_cases hka : k = 512 + h.n
  · subst hka
    have : (h.push c w).g (512 + h.n) = some c := by simp [AH.push, AH.g]
    rw [this] at hk
    cases hk
    exact hc
  · have e : (h.push c w).g k = h.g k := by simp [AH.push, AH.g, hka]
    rw [e] at hk
    have h1 := hR.2 k c1 hk
    cases c1 with
    | inl x =>
      obtain ⟨cell, q1, q2⟩ := h1
      exact ⟨cell, (oq _ (Array.getElem?_eq_some_iff.mp q1).1).trans q1, q2⟩
    | inr x =>
      obtain ⟨r, cell, q0, q1, q2⟩ := h1
      exact ⟨r, cell, q0, (oq _ (Array.getElem?_eq_some_iff.mp q1).1).trans q1, q2⟩
theorem tr_new {E : EE} {h : AH} {H : Heap} (hR : Rp E h H) : tr E (512 + h.n) = H.size := by
  unfold tr
  rw [if_neg (by omega), hR.1]
  omega
theorem va_S.push {A : Nat → Prop} {H0 H H1 : Heap} {locs : List Loc} (h : va_S A H0 H locs) (z : H1.size = H.size + 1) (oq : ∀ q : Nat, q < H.size → H1[q]? = H[q]?) : va_S A H0 H1 locs := ⟨Nat.le_trans h.1 (by omega), fun q h1 h2 => (oq q (Nat.lt_of_lt_of_le h1 h.1)).trans (h.2.1 q h1 h2), h.2.2⟩
def atAll : List FieldType := atL ++ atS
theorem isArr {E : EE} {s : State} (hF : Fx E s) {t : Nat} {ty : FieldType} (ht : atAll[t]? = some ty) {cell : Cell} (hc : cell.cls = Etc E t) (hv : ∀ z, cell.vm ≠ .statics z) : s.isArrayOf cell ty := by
  have h : ArrOfT s (Etc E t) ty := by
    by_cases h7 : t < 7
    · have hk : (tysL E)[t]? = some (Etc E t, ty) := by
        unfold atAll at ht
        rw [List.getElem?_append_left (by exact h7)] at ht
        match t, h7, ht with
        | 0, _, ht => cases ht; rfl
        | 1, _, ht => cases ht; rfl
        | 2, _, ht => cases ht; rfl
        | 3, _, ht => cases ht; rfl
        | 4, _, ht => cases ht; rfl
        | 5, _, ht => cases ht; rfl
        | 6, _, ht => cases ht; rfl
      exact (hF.1.2 t _ hk).1
    · unfold atAll at ht
      rw [List.getElem?_append_right (by show 7 ≤ t; omega)] at ht
      have h2 := hF.2.2.2.2.1 (t - 7) ty ht
      rw [show 7 + (t - 7) = t by omega] at h2
      exact h2
  obtain ⟨k, hk, q⟩ := (h 0 (fun _ => .null)).2
  exact ⟨hv, k, by rw [hc]; exact hk, q⟩
def up {α : Type} (f : Nat → α) (k : Nat) (x : α) : Nat → α := fun j => if j = k then x else f j
def ia (n : Nat) (f : Nat → Int32) : AC := .inl (0, n, fun j => .int (f j))
def ba (n : Nat) (f : Nat → Int32) : AC := .inl (1, n, fun j => .int (f j))
def za (n : Nat) (f : Nat → Int32) : AC := .inl (2, n, fun j => .int (f j))
def la (n : Nat) (f : Nat → Int64) : AC := .inl (3, n, fun j => .long (f j))
theorem up_int (f : Nat → Int32) (k : Nat) (x : Int32) : up (fun j => Value.int (f j)) k (.int x) = fun j => .int (up f k x j) := by
  funext j
  unfold up
  by_cases h : j = k <;> simp [h]
theorem up_long (f : Nat → Int64) (k : Nat) (x : Int64) : up (fun j => Value.long (f j)) k (.long x) = fun j => .long (up f k x j) := by
  funext j
  unfold up
  by_cases h : j = k <;> simp [h]
theorem AtC.setA {E : EE} {k t n : Nat} {f : Nat → Value} {H' : Heap} {cell : Cell} {j : Nat} {v : Value} (e1 : H'[tr E k]? = some (cell.setSlot j (cv E v))) (hj : j < n) (q2 : cell.cls = Etc E t) (q3 : cell.vm ≠ .unknown) (q4 : ∀ z, cell.vm ≠ .statics z) (q5 : 512 ≤ k → cell.vm = .none) (q6 : n ≤ cell.slots.size) (q7 : cell.slots.size.toInt32 = Int32.ofNat n) (q8 : ∀ j, j < n → cell.slots[j]? = some (cv E (f j))) : AtC E k (.inl (t, n, up f j v)) H' := by
  have hsz : (cell.setSlot j (cv E v)).slots.size = cell.slots.size := by simp [Cell.setSlot]
  refine ⟨_, e1, q2, q3, q4, q5, by rw [hsz]; exact q6, by rw [hsz]; exact q7, fun i hi => ?_⟩
  show ((cell.setSlot j (cv E v)).slots)[i]? = some (cv E (up f j v i))
  by_cases hij : i = j
  · subst hij
    simp only [up, if_true]
    simp only [Cell.setSlot]
    rw [Array.getElem?_setIfInBounds, if_pos rfl, if_pos (by omega)]
  · simp only [up, if_neg hij]
    simp only [Cell.setSlot]
    rw [Array.getElem?_setIfInBounds, if_neg (Ne.symm hij)]
    exact q8 i hi
theorem in_sz {i : Int32} {n m : Nat} (h : vp_in i n) (hm : n ≤ m) : ¬ (i < 0 ∨ m ≤ i.toNatClampNeg) := by
  rintro (q | q)
  · exact h (Or.inl q)
  · exact h (Or.inr (Nat.le_trans hm q))
theorem in_lt {i : Int32} {n : Nat} (h : vp_in i n) : i.toNatClampNeg < n := Nat.not_le.mp fun q => h (Or.inr q)
section HEAP
variable {d : Nat} {M : Mt} {h : AH} {pc pc2 : Nat} {ls : List (Option Value)} {st : List Value} {o : OR} {h2 : AH}
theorem AW.get {ci : Nat} {C0 : String} {T : u_T} {N : Nat} {ty : Nat → FieldType} (hI : CI ci C0 T N ty) (k0 : Nat) {i a : Nat} {fs : List Value} {v : Value} (hk : k0 < N) (hl : Cond.fieldLink M.1.cls i (T k0).1 (T k0).2.1 (T k0).2.2.1 ∈ lw_all) (hd : decode M.2.1 pc = .ok (.getfield i, 3)) (hg : h.g a = some (.inr (ci, fs))) (hv : fs[k0]? = some v) (hp : pc + 3 = pc2) (k : AW d M h pc2 ls (v :: st) o h2) : AW d M h pc ls (.ref a :: st) o h2 := by
  subst hp
  refine AW.lift k rfl (fun E p e R s m args below meth c n0 H locs cells slots Q A C hR hS hL hz kk => ?_)
  obtain ⟨r, cell, hr, q1, qc, qv, qs, qn, q4⟩ := hR.2 a _ hg
  have hr' : r = (C0, T, N) := Option.some.inj (hr.symm.trans hI.1)
  subst hr'
  obtain ⟨hSl, hfc, kC, hkC, hkind⟩ := C.2.2.2.2.2.2.2.2.1.1.1 ci _ hI.1
  obtain ⟨cf, kf, fi, f, hi, hsl⟩ := hSl k0 hk
  refine W.getf C.1 C.2.1 C.2.2.2.2.1 (C.2.2.2.2.2.1 _ hl) hi (u_facts hfc hkC (u_lays C.2.2.2.2.2.1 hI.2.1 hk) hi).1 q1 qv (v := cv E v) ?_ rfl rfl hd (kk A hL)
  rw [hsl, q4 k0 hk]
  simp [vp_V, hv]
theorem AW.put {ci : Nat} {C0 : String} {T : u_T} {N : Nat} {ty : Nat → FieldType} (hI : CI ci C0 T N ty) (k0 : Nat) {i a : Nat} {fs : List Value} {v : Value} (hk : k0 < N) (hl : Cond.fieldLink M.1.cls i (T k0).1 (T k0).2.1 (T k0).2.2.1 ∈ lw_all) (hd : decode M.2.1 pc = .ok (.putfield i, 3)) (ha : 512 ≤ a) (hg : h.g a = some (.inr (ci, fs))) (hfin : (T k0).2.2.2 = false) (hn : ∀ E, narrow (ty k0) (cv E v) = cv E v) (hfit : ∀ E, fits (ty k0) (cv E v) = true) (hlen : k0 < fs.length) {h3 : AH} (hh : h.set a (.inr (ci, fs.set k0 v)) = h3) (hp : pc + 3 = pc2) (k : AW d M h3 pc2 ls st o h2) : AW d M h pc ls (v :: .ref a :: st) o h2 := by
  subst hp
  subst hh
  refine AW.liftS k rfl rfl rfl (fun E p e R s m args below meth c n0 H locs cells slots Q A C hR hS hL hz kk => ?_)
  obtain ⟨r, cell, hr, q1, qc, qv, qs, qn, q4⟩ := hR.2 a _ hg
  have hr' : r = (C0, T, N) := Option.some.inj (hr.symm.trans hI.1)
  subst hr'
  have hF := C.2.2.2.2.2.2.2.2.1
  have hts := C.2.2.2.2.2.1
  have hap := va_apart (own := M.1.cls) hts hI.2.1 ty hI.2.2.1 hI.2.2.2 hF.1 hI.1
  obtain ⟨hSl, hfc, kC, hkC, hkind⟩ := hF.1.1 ci _ hI.1
  obtain ⟨cf, kf, fi, f, hi, hsl⟩ := hSl k0 hk
  have hlay := hts _ (hI.2.1 _ (u_in_lay hk))
  unfold u_lay at hlay
  rw [if_neg (by rw [hfin]; decide)] at hlay
  have hst := (u_facts hfc hkC (u_lays hts hI.2.1 hk) hi).1
  have h6 := u_store hfc hkC hkind hlay hi (hI.2.2.1 k0 hk) (hn E) (hfit E)
  refine W.putK C.1 C.2.1 (f := f) ⟨C.2.2.2.2.1, hts _ hl, ⟨_, _, _, hi⟩, hst⟩ (by rw [qc]; exact h6) q1 (qn ha).1 (by rw [hsl]; exact k2_hasslot (q4 k0 hk)) rfl rfl hd fun H' e1 e2 e3 => ?_
  rw [hsl] at e1 ⊢
  have hR' : Rp E (h.set a (.inr (ci, fs.set k0 v))) H' := by
    refine Rp.set hF hR ha ⟨_, _, hI.1, e1, qc, qv, qs, qn, fun j hj => ?_⟩ e2 e3
    have h7 := t_set (v := cv E v) q4 hap hk j hj
    rw [h7]
    by_cases hjk : j = k0
    · subst hjk
      simp [updV, vp_V, hlen]
    · simp [updV, vp_V, hjk, Ne.symm hjk]
  exact kk H' _ A hR' (hS.put (k := (ED E).2 ci k0) e2 e3 (tr_A ha)) hL
theorem AW.putF {ci : Nat} {C0 : String} {T : u_T} {N : Nat} {ty : Nat → FieldType} (hI : CI ci C0 T N ty) (k0 : Nat) {i a : Nat} {fs : List Value} {v : Value} (hk : k0 < N) (hl : Cond.fieldLink M.1.cls i (T k0).1 (T k0).2.1 (T k0).2.2.1 ∈ lw_all) (hd : decode M.2.1 pc = .ok (.putfield i, 3)) (ha : 512 ≤ a) (hg : h.g a = some (.inr (ci, fs))) (hfin : (T k0).2.2.2 = true) (hin2 : M.1.name = "<init>") (hdecl : (T k0).1 = M.1.cls) (hn : ∀ E, narrow (ty k0) (cv E v) = cv E v) (hfit : ∀ E, fits (ty k0) (cv E v) = true) (hlen : k0 < fs.length) {h3 : AH} (hh : h.set a (.inr (ci, fs.set k0 v)) = h3) (hp : pc + 3 = pc2) (k : AW d M h3 pc2 ls st o h2) : AW d M h pc ls (v :: .ref a :: st) o h2 := by
  subst hp
  subst hh
  refine AW.liftS k rfl rfl rfl (fun E p e R s m args below meth c n0 H locs cells slots Q A C hR hS hL hz kk => ?_)
  obtain ⟨r, cell, hr, q1, qc, qv, qs, qn, q4⟩ := hR.2 a _ hg
  have hr' : r = (C0, T, N) := Option.some.inj (hr.symm.trans hI.1)
  subst hr'
  have hF := C.2.2.2.2.2.2.2.2.1
  have hts := C.2.2.2.2.2.1
  have hown := C.2.2.2.2.1
  have hap := va_apart (own := M.1.cls) hts hI.2.1 ty hI.2.2.1 hI.2.2.2 hF.1 hI.1
  obtain ⟨hSl, hfc, kC, hkC, hkind⟩ := hF.1.1 ci _ hI.1
  obtain ⟨cf, kf, fi, f, hi, hsl⟩ := hSl k0 hk
  have hlay := hts _ (hI.2.1 _ (u_in_lay hk))
  unfold u_lay at hlay
  rw [if_pos hfin] at hlay
  have hst := (u_facts hfc hkC (u_lays hts hI.2.1 hk) hi).1
  have hcf : m.cls = cf := by
    obtain ⟨_, _, c', _, _, _, -, -, hf', -, -, -, hown2, -⟩ := Cond.laysFinal_spec hlay
    have e1 : c' = cf := by have := hi.symm.trans hf'; simp at this; exact this.1.symm
    rw [hdecl] at hown2
    rw [← e1]; exact Option.some.inj (hown.symm.trans hown2)
  have h6 := u_fits hfc hkC hkind (Or.inr hlay) hi (hI.2.2.1 k0 hk) (hn E) (hfit E)
  refine W.putFinK C.1 C.2.1 hown (hts _ hl) hi hst hcf (C.2.2.2.2.2.2.2.1.trans hin2) (by rw [qc]; exact h6) q1 (qn ha).1 (by rw [hsl]; exact k2_hasslot (q4 k0 hk)) rfl rfl hd fun H' e1 e2 e3 => ?_
  rw [hsl] at e1 ⊢
  have hR' : Rp E (h.set a (.inr (ci, fs.set k0 v))) H' := by
    refine Rp.set hF hR ha ⟨_, _, hI.1, e1, qc, qv, qs, qn, fun j hj => ?_⟩ e2 e3
    have h7 := t_set (v := cv E v) q4 hap hk j hj
    rw [h7]
    by_cases hjk : j = k0
    · subst hjk
      simp [updV, vp_V, hlen]
    · simp [updV, vp_V, hjk, Ne.symm hjk]
  exact kk H' _ A hR' (hS.put (k := (ED E).2 ci k0) e2 e3 (tr_A ha)) hL
theorem AW.iald {a n : Nat} {f : Nat → Int32} {i : Int32} (hd : decode M.2.1 pc = .ok (.iaload, 1)) (hg : h.g a = some (ia n f)) (hin : vp_in i n) {j : Nat} (hj : i.toNatClampNeg = j) (hp : pc + 1 = pc2) (k : AW d M h pc2 ls (.int (f j) :: st) o h2) : AW d M h pc ls (.int i :: .ref a :: st) o h2 := by
  subst hp
  subst hj
  refine AW.lift k rfl (fun E p e R s m args below meth c n0 H locs cells slots Q A C hR hS hL hz kk => ?_)
  obtain ⟨cell, q1, q2, q3, q4, q5, q6, q7, q8⟩ := hR.2 a _ hg
  exact W.iald C.1 C.2.1 q1 (isArr C.2.2.2.2.2.2.2.2.1 (t := 0) rfl q2 q4) q3 (in_sz hin q6) (q8 _ (in_lt hin)) rfl rfl hd (kk A hL)
theorem AW.bald {a n : Nat} {f : Nat → Int32} {i : Int32} (hd : decode M.2.1 pc = .ok (.baload, 1)) (hg : h.g a = some (ba n f)) (hin : vp_in i n) {j : Nat} (hj : i.toNatClampNeg = j) (hp : pc + 1 = pc2) (k : AW d M h pc2 ls (.int (f j) :: st) o h2) : AW d M h pc ls (.int i :: .ref a :: st) o h2 := by
  subst hp
  subst hj
  refine AW.lift k rfl (fun E p e R s m args below meth c n0 H locs cells slots Q A C hR hS hL hz kk => ?_)
  obtain ⟨cell, q1, q2, q3, q4, q5, q6, q7, q8⟩ := hR.2 a _ hg
  exact W.bald C.1 C.2.1 q1 (isArr C.2.2.2.2.2.2.2.2.1 (t := 1) rfl q2 q4) q3 (in_sz hin q6) (q8 _ (in_lt hin)) rfl rfl hd (kk A hL)
theorem AW.zald {a n : Nat} {f : Nat → Int32} {i : Int32} (hd : decode M.2.1 pc = .ok (.baload, 1)) (hg : h.g a = some (za n f)) (hin : vp_in i n) {j : Nat} (hj : i.toNatClampNeg = j) (hp : pc + 1 = pc2) (k : AW d M h pc2 ls (.int (f j) :: st) o h2) : AW d M h pc ls (.int i :: .ref a :: st) o h2 := by
  subst hp
  subst hj
  refine AW.lift k rfl (fun E p e R s m args below meth c n0 H locs cells slots Q A C hR hS hL hz kk => ?_)
  obtain ⟨cell, q1, q2, q3, q4, q5, q6, q7, q8⟩ := hR.2 a _ hg
  exact W.zald C.1 C.2.1 q1 (isArr C.2.2.2.2.2.2.2.2.1 (t := 2) rfl q2 q4) q3 (in_sz hin q6) (q8 _ (in_lt hin)) rfl rfl hd (kk A hL)
theorem AW.lald {a n : Nat} {f : Nat → Int64} {i : Int32} (hd : decode M.2.1 pc = .ok (.laload, 1)) (hg : h.g a = some (la n f)) (hin : vp_in i n) {j : Nat} (hj : i.toNatClampNeg = j) (hp : pc + 1 = pc2) (k : AW d M h pc2 ls (.long (f j) :: st) o h2) : AW d M h pc ls (.int i :: .ref a :: st) o h2 := by
  subst hp
  subst hj
  refine AW.lift k rfl (fun E p e R s m args below meth c n0 H locs cells slots Q A C hR hS hL hz kk => ?_)
  obtain ⟨cell, q1, q2, q3, q4, q5, q6, q7, q8⟩ := hR.2 a _ hg
  exact W.lald C.1 C.2.1 q1 (isArr C.2.2.2.2.2.2.2.2.1 (t := 3) rfl q2 q4) q3 (in_sz hin q6) (q8 _ (in_lt hin)) rfl rfl hd (kk A hL)
theorem AW.iast {a n : Nat} {f : Nat → Int32} {i : Int32} {x : Int32} (hd : decode M.2.1 pc = .ok (.iastore, 1)) (ha : 512 ≤ a) (hg : h.g a = some (ia n f)) (hin : vp_in i n) {j : Nat} (hj : i.toNatClampNeg = j) {h3 : AH} (hh : h.set a (ia n (up f j x)) = h3) (hp : pc + 1 = pc2) (k : AW d M h3 pc2 ls st o h2) : AW d M h pc ls (.int x :: .int i :: .ref a :: st) o h2 := by
  subst hp
  subst hj
  subst hh
  refine AW.liftS k rfl rfl rfl (fun E p e R s m args below meth c n0 H locs cells slots Q A C hR hS hL hz kk => ?_)
  obtain ⟨cell, q1, q2, q3, q4, q5, q6, q7, q8⟩ := hR.2 a _ hg
  refine W.iast C.1 C.2.1 q1 (isArr C.2.2.2.2.2.2.2.2.1 (t := 0) rfl q2 q4) q3 (in_sz hin q6) rfl rfl hd (fun H' e1 e2 e3 => kk H' _ A (Rp.set C.2.2.2.2.2.2.2.2.1 hR ha ?_ e2 e3) (hS.put e2 e3 (tr_A ha)) hL)
  have := AtC.setA (v := .int x) (j := i.toNatClampNeg) e1 (in_lt hin) q2 q3 q4 q5 q6 q7 q8
  dsimp only at this
  rw [up_int] at this
  exact this
theorem AW.last {a n : Nat} {f : Nat → Int64} {i : Int32} {x : Int64} (hd : decode M.2.1 pc = .ok (.lastore, 1)) (ha : 512 ≤ a) (hg : h.g a = some (la n f)) (hin : vp_in i n) {j : Nat} (hj : i.toNatClampNeg = j) {h3 : AH} (hh : h.set a (la n (up f j x)) = h3) (hp : pc + 1 = pc2) (k : AW d M h3 pc2 ls st o h2) : AW d M h pc ls (.long x :: .int i :: .ref a :: st) o h2 := by
  subst hp
  subst hj
  subst hh
  refine AW.liftS k rfl rfl rfl (fun E p e R s m args below meth c n0 H locs cells slots Q A C hR hS hL hz kk => ?_)
  obtain ⟨cell, q1, q2, q3, q4, q5, q6, q7, q8⟩ := hR.2 a _ hg
  refine W.last C.1 C.2.1 q1 (isArr C.2.2.2.2.2.2.2.2.1 (t := 3) rfl q2 q4) q3 (in_sz hin q6) rfl rfl hd (fun H' e1 e2 e3 => kk H' _ A (Rp.set C.2.2.2.2.2.2.2.2.1 hR ha ?_ e2 e3) (hS.put e2 e3 (tr_A ha)) hL)
  have := AtC.setA (v := .long x) (j := i.toNatClampNeg) e1 (in_lt hin) q2 q3 q4 q5 q6 q7 q8
  dsimp only at this
  rw [up_long] at this
  exact this
theorem AW.bast {a n : Nat} {f : Nat → Int32} {i : Int32} {x : Int32} (hd : decode M.2.1 pc = .ok (.bastore, 1)) (ha : 512 ≤ a) (hg : h.g a = some (ba n f)) (hin : vp_in i n) {j : Nat} (hj : i.toNatClampNeg = j) {h3 : AH} (hh : h.set a (ba n (up f j x.toInt8.toInt32)) = h3) (hp : pc + 1 = pc2) (k : AW d M h3 pc2 ls st o h2) : AW d M h pc ls (.int x :: .int i :: .ref a :: st) o h2 := by
  subst hp
  subst hj
  subst hh
  refine AW.liftS k rfl rfl rfl (fun E p e R s m args below meth c n0 H locs cells slots Q A C hR hS hL hz kk => ?_)
  obtain ⟨cell, q1, q2, q3, q4, q5, q6, q7, q8⟩ := hR.2 a _ hg
  refine W.bast C.1 C.2.1 q1 (isArr C.2.2.2.2.2.2.2.2.1 (t := 1) rfl q2 q4) q3 (in_sz hin q6) rfl rfl hd (fun H' e1 e2 e3 => kk H' _ A (Rp.set C.2.2.2.2.2.2.2.2.1 hR ha ?_ e2 e3) (hS.put e2 e3 (tr_A ha)) hL)
  have := AtC.setA (v := .int x.toInt8.toInt32) (j := i.toNatClampNeg) e1 (in_lt hin) q2 q3 q4 q5 q6 q7 q8
  dsimp only at this
  rw [up_int] at this
  exact this
theorem AW.zast {a n : Nat} {f : Nat → Int32} {i : Int32} {x : Int32} (hd : decode M.2.1 pc = .ok (.bastore, 1)) (ha : 512 ≤ a) (hg : h.g a = some (za n f)) (hin : vp_in i n) {j : Nat} (hj : i.toNatClampNeg = j) (hx : x = 0 ∨ x = 1) {h3 : AH} (hh : h.set a (za n (up f j x)) = h3) (hp : pc + 1 = pc2) (k : AW d M h3 pc2 ls st o h2) : AW d M h pc ls (.int x :: .int i :: .ref a :: st) o h2 := by
  subst hp
  subst hj
  subst hh
  refine AW.liftS k rfl rfl rfl (fun E p e R s m args below meth c n0 H locs cells slots Q A C hR hS hL hz kk => ?_)
  obtain ⟨cell, q1, q2, q3, q4, q5, q6, q7, q8⟩ := hR.2 a _ hg
  refine W.zast C.1 C.2.1 q1 (isArr C.2.2.2.2.2.2.2.2.1 (t := 2) rfl q2 q4) q3 (in_sz hin q6) rfl rfl hd (fun H' e1 e2 e3 => kk H' _ A (Rp.set C.2.2.2.2.2.2.2.2.1 hR ha ?_ e2 e3) (hS.put e2 e3 (tr_A ha)) hL)
  have := AtC.setA (v := .int x) (j := i.toNatClampNeg) (by rw [e1]; rcases hx with rfl | rfl <;> rfl) (in_lt hin) q2 q3 q4 q5 q6 q7 q8
  dsimp only at this
  rw [up_int] at this
  exact this
theorem AW.aald {a t n : Nat} {f : Nat → Value} {i : Int32} {ty : FieldType} (hd : decode M.2.1 pc = .ok (.aaload, 1)) (hg : h.g a = some (.inl (t, n, f))) (ht : atAll[t]? = some ty) (hty : ty.isReference = true) (hin : vp_in i n) {j : Nat} (hj : i.toNatClampNeg = j) (hp : pc + 1 = pc2) (k : AW d M h pc2 ls (f j :: st) o h2) : AW d M h pc ls (.int i :: .ref a :: st) o h2 := by
  subst hp
  subst hj
  refine AW.lift k rfl (fun E p e R s m args below meth c n0 H locs cells slots Q A C hR hS hL hz kk => ?_)
  obtain ⟨cell, q1, q2, q3, q4, q5, q6, q7, q8⟩ := hR.2 a _ hg
  exact W.aald C.1 C.2.1 q1 (isArr C.2.2.2.2.2.2.2.2.1 ht q2 q4) hty q3 (in_sz hin q6) (q8 _ (in_lt hin)) rfl rfl hd (kk A hL)
theorem AW.alen {a t n : Nat} {f : Nat → Value} {ty : FieldType} (hd : decode M.2.1 pc = .ok (.arraylength, 1)) (hg : h.g a = some (.inl (t, n, f))) (ht : atAll[t]? = some ty) (hp : pc + 1 = pc2) (k : AW d M h pc2 ls (.int (Int32.ofNat n) :: st) o h2) : AW d M h pc ls (.ref a :: st) o h2 := by
  subst hp
  refine AW.lift k rfl (fun E p e R s m args below meth c n0 H locs cells slots Q A C hR hS hL hz kk => ?_)
  obtain ⟨cell, q1, q2, q3, q4, q5, q6, q7, q8⟩ := hR.2 a _ hg
  exact W.alen C.1 C.2.1 q1 (isArr C.2.2.2.2.2.2.2.2.1 ht q2 q4) q7 rfl rfl hd (kk A hL)
theorem AW.newa {atype : ArrayType} {t : Nat} {ty : FieldType} {dv : Value} {n : Int32} {N : Nat} (hd : decode M.2.1 pc = .ok (.newarray atype, 2)) (hty : newarray.typeOf atype = ty) (ht : ∀ E, (tysL E)[t]? = some (Etc E t, ty)) (hra : ∀ U c, va_RA U c ty → U.vm.findClass ("[" ++ ty.toString) = some c) (hdv : defaultValue ty = dv) (hcv : ∀ E, cv E dv = dv) (hw : Cond.arrayClass ty ∈ lw_all) (hn : ¬ n < 0) (hN : n.toNatClampNeg = N) (hbytes : N * componentBytes ty ≤ 536870912) {h3 : AH} (hh : h.push (.inl (t, N, fun _ => dv)) N = h3) (hp : pc + 2 = pc2) (k : AW d M h3 pc2 ls (.ref (512 + h.n) :: st) o h2) : AW d M h pc ls (.int n :: st) o h2 := by
  subst hp
  subst hh
  subst hty
  refine AW.liftH k (Nat.le_succ _) (Nat.le_add_right _ _) rfl (fun E p e R s m args below meth c n0 H locs cells slots Q A C hR hS hL hz hroom kk => ?_)
  have e1 : (h.push (.inl (t, N, fun _ => dv)) N).n - h.n = 1 := by show h.n + 1 - h.n = 1; omega
  have e2 : (h.push (.inl (t, N, fun _ => dv)) N).u - h.u = N := by show h.u + N - h.u = N; omega
  rw [e1, e2] at kk
  rw [e1, e2] at hroom
  refine va_newaK C.1 C.2.1 (C.2.2.2.2.2.1 _ hw) rfl hd rfl hn hN hbytes hroom.2.2.1 hroom.2.2.2 rfl (fun H' cA g1 g2 g3 g4 g5 => ?_)
  have hcA : cA = Etc E t := by
    have h7 := hra s _ ((C.2.2.2.2.2.2.2.2.1.1.2 t _ (ht E)).2)
    rw [g5] at h7
    exact Option.some.inj h7
  subst hcA
  have hR' : Rp E (h.push (.inl (t, N, fun _ => dv)) N) H' := by
    refine Rp.push C.2.2.2.2.2.2.2.2.1 hR ⟨arrV (Etc E t) N (fun _ => defaultValue (newarray.typeOf atype)), by rw [tr_new hR]; exact g1, rfl, fun q => (by cases q), fun z q => (by cases q), fun _ => rfl, Nat.le_of_eq (arrV_size _ _ _).symm, (by rw [arrV_size] <;> rfl), fun j hj => ?_⟩ g2 g3
    rw [arrV_read _ _ hj, hdv]
    show some dv = some (cv E dv)
    rw [hcv]
  have := kk H' _ A hR' (hS.push g2 g3) hL
  rw [List.map_cons] at this
  rw [show cv E (.ref (512 + h.n)) = .ref H.size from congrArg Value.ref (tr_new hR)] at this
  exact this
theorem AW.new {ci : Nat} {C0 : String} {T : u_T} {N : Nat} {ty : Nat → FieldType} (hI : CI ci C0 T N ty) {i : Nat} {fs : List Value} (hd : decode M.2.1 pc = .ok (.new i, 3)) (hcl : Cond.classLink M.1.cls i C0 ∈ lw_all) (hins : Cond.instantiable C0 N ∈ lw_all) (hini : Cond.initialized C0 ∈ lw_all) (hfs : ∀ E j, j < N → defaultValue (ty j) = cv E (vp_V fs j)) {h3 : AH} (hh : h.push (.inr (ci, fs)) N = h3) (hp : pc + 3 = pc2) (k : AW d M h3 pc2 ls (.ref (512 + h.n) :: st) o h2) : AW d M h pc ls st o h2 := by
  subst hp
  subst hh
  refine AW.liftH k (Nat.le_succ _) (Nat.le_add_right _ _) rfl (fun E p e R s m args below meth c n0 H locs cells slots Q A C hR hS hL hz hroom kk => ?_)
  have e1 : (h.push (.inr (ci, fs)) N).n - h.n = 1 := by show h.n + 1 - h.n = 1; omega
  have e2 : (h.push (.inr (ci, fs)) N).u - h.u = N := by show h.u + N - h.u = N; omega
  rw [e1, e2] at kk
  rw [e1, e2] at hroom
  have hts := C.2.2.2.2.2.1
  have hKn := C.2.2.2.2.2.2.2.2.1.1.1 ci _ hI.1
  refine W.newcK C.1 C.2.1 C.2.2.2.2.1 (hts _ hcl) (hts _ hins) (hts _ hini) rfl hd hroom.2.2.1 hroom.2.2.2 hKn.2.1 rfl (fun H' kC hkC g1 g2 g3 => ?_)
  obtain ⟨cell, b1, b2, b3, b4⟩ := u_born ty hts hI.2.1 hKn hkC g1 hI.2.2.1
  have hR' : Rp E (h.push (.inr (ci, fs)) N) H' := by
    refine Rp.push C.2.2.2.2.2.2.2.2.1 hR ⟨_, cell, hI.1, by rw [tr_new hR]; exact b1, b2, by rw [b3]; exact fun q => (by cases q), by rw [b3]; rfl, fun _ => ⟨b3, by rw [← Option.some.inj (g1.symm.trans b1)]; rfl, by rw [← Option.some.inj (g1.symm.trans b1)]; rfl⟩, fun j hj => ?_⟩ g2 g3
    exact (b4 j hj).trans (congrArg some (hfs E j hj))
  have := kk H' _ A hR' (hS.push g2 g3) hL
  rw [List.map_cons] at this
  rw [show cv E (.ref (512 + h.n)) = .ref H.size from congrArg Value.ref (tr_new hR)] at this
  exact this
end HEAP
