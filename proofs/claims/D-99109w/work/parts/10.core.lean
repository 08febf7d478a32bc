/-! CORE: a heap of numbered cells, and what it means that a method, or the rest of a method from a place on, runs over it -/
set_option maxRecDepth 100000
abbrev AC : Type := (Nat × Nat × (Nat → Value)) ⊕ (Nat × List Value)
def AH : Type := Nat × Nat × (Nat → Option AC)
def AH.n (h : AH) : Nat := h.1
def AH.u (h : AH) : Nat := h.2.1
def AH.g (h : AH) : Nat → Option AC := h.2.2
def AH.set (h : AH) (k : Nat) (c : AC) : AH := (h.n, h.u, fun j => if j = k then some c else h.g j)
def AH.push (h : AH) (c : AC) (w : Nat) : AH := (h.n + 1, h.u + w, fun j => if j = 512 + h.n then some c else h.g j)
abbrev EE : Type := Launch × va_G × (Nat → ClassId) × (Nat → Nat) × (Nat → Option Nat) × Nat
def EL (E : EE) : Launch := E.1
def ED (E : EE) : va_G := E.2.1
def Etc (E : EE) : Nat → ClassId := E.2.2.1
def Est (E : EE) : Nat → Nat := E.2.2.2.1
def Eov (E : EE) : Nat → Option Nat := E.2.2.2.2.1
def EB (E : EE) : Nat := E.2.2.2.2.2
def tr (E : EE) (k : Nat) : Nat := if k < 512 then Est E k else EB E + (k - 512)
def EA (E : EE) : Nat → Prop := fun q => EB E ≤ q
/-- a float stands for a reference or null that nobody looks at -/
def cv (E : EE) (v : Value) : Value := match v with
  | .ref k => .ref (tr E k)
  | .float w => va_rf (Eov E w.toNat)
  | w => w
theorem cv_int (E : EE) (x : Int32) : cv E (.int x) = .int x := rfl
theorem cv_long (E : EE) (x : Int64) : cv E (.long x) = .long x := rfl
theorem cv_cat (E : EE) (v : Value) : (cv E v).category = v.category := by
  cases v with
  | float w =>
    show (va_rf (Eov E w.toNat)).category = 1
    cases Eov E w.toNat <;> rfl
  | _ => rfl
/-- the classes, by their numbers -/
def clL : List vw_C := [(RX0, TX0, 12), (RX1, TX1, 6), (RX2, TX2, 36), (RX3, TX3, 8), (RX4, TX4, 5), (RX5, TX5, 8), (RX6, TX6, 3), (RX7, TX7, 1), (RX8, TX8, 2), (RX9, TX9, 1), (RX10, TX10, 1), (RX11, TX11, 1), (RX12, TX12, 2), (RX13, TX13, 3), (RX14, TX14, 2), (RX15, TX15, 5), (RJ2, TJ2, 3), (RJ12, TJ12, 1)]
/-- the array types, by their numbers; from 7 on: those of cells that were there before -/
def atL : List FieldType := [.int, .byte, .boolean, .long, .array .int, .object "ShutDays$Text", .object "java/lang/Object"]
def atS : List FieldType := [.object "java/lang/Object", .object "java/lang/String", .object "java/lang/Integer", .byte, .byte, .byte, .byte, .byte, .byte, .byte, .byte, .byte, .byte, .byte, .byte, .byte, .byte, .byte, .byte, .byte, .byte, .byte, .byte, .byte, .byte, .byte, .int]
def tysL (E : EE) : List (ClassId × FieldType) := [(Etc E 0, .int), (Etc E 1, .byte), (Etc E 2, .boolean), (Etc E 3, .long), (Etc E 4, .array .int), (Etc E 5, .object "ShutDays$Text"), (Etc E 6, .object "java/lang/Object")]
def AtC (E : EE) (k : Nat) (c : AC) (H : Heap) : Prop := match c with
  | .inl a => ∃ cell : Cell, H[tr E k]? = some cell ∧ cell.cls = Etc E a.1 ∧ cell.vm ≠ .unknown ∧ (∀ z, cell.vm ≠ .statics z) ∧ (512 ≤ k → cell.vm = .none) ∧ a.2.1 ≤ cell.slots.size ∧ cell.slots.size.toInt32 = Int32.ofNat a.2.1 ∧ ∀ j, j < a.2.1 → cell.slots[j]? = some (cv E (a.2.2 j))
  | .inr o => ∃ (r : vw_C) (cell : Cell), clL[o.1]? = some r ∧ H[tr E k]? = some cell ∧ cell.cls = (ED E).1 o.1 ∧ cell.vm ≠ .unknown ∧ cell.vm.isStatics = false ∧ (512 ≤ k → cell.vm = .none ∧ cell.monitor.owner = none ∧ cell.monitor.count = 0) ∧ ∀ j, j < r.2.2 → cell.slots[(ED E).2 o.1 j]? = some (cv E (vp_V o.2 j))
def Rp (E : EE) (h : AH) (H : Heap) : Prop := H.size = EB E + h.n ∧ ∀ (k : Nat) (c : AC), h.g k = some c → AtC E k c H
/-- the words of the tables that don't ride in lw_all -/
def nwF : List Cond := lw_tbl.filter fun w => match w with | .fieldLinkNest .. => true | .methodLinkNest .. => true | .castable .. => true | .arrayOver (.object _) => true | .declares .. => true | _ => false
def yzSum : MethodName := ⟨"ShutDays$Sum", "of", "([I)J"⟩
def yzAsk : MethodName := ⟨"ShutDays$Asked", "is", "([I)Z"⟩
/-- the interface's calls: receiver's class, method named, method run -/
def fwL : List (String × MethodName × MethodName) := [(RX6, yzSum, yX6_of), (RX7, yzSum, yX7_of), (RX8, yzSum, yX8_of), (RX9, yzSum, yX9_of), (RX10, yzSum, yX10_of), (RX11, yzAsk, yX11_is), (RX12, yzAsk, yX12_is), (RX13, yzAsk, yX13_is), (RX14, yzAsk, yX14_is)]
/-- the static fields that are read, and what they hold -/
def zL : List (String × String × String × Value) := [("ShutDays", "NOTHING", "LShutDays$Text;", .ref 0), ("ShutDays$Tokens", "WORDS", "[Ljava/lang/String;", .ref 1), ("java/util/ArrayList", "DEFAULTCAPACITY_EMPTY_ELEMENTDATA", "[Ljava/lang/Object;", .ref 2), ("java/lang/Integer$IntegerCache", "cache", "[Ljava/lang/Integer;", .ref 3), ("java/lang/Integer$IntegerCache", "high", "I", .int 127), ("java/lang/String", "COMPACT_STRINGS", "Z", .int 1), ("java/lang/Throwable", "UNASSIGNED_STACK", "[Ljava/lang/StackTraceElement;", .float 0), ("java/lang/Throwable", "SUPPRESSED_SENTINEL", "Ljava/util/List;", .float 1), ("jdk/internal/util/Preconditions", "SIOOBE_FORMATTER", "Ljava/util/function/BiFunction;", .float 2)]
/-- what else holds: the texts that are constants (the words, the signs), Throwable's statics, the class object of arrays of objects -/
def Fz (E : EE) (U : State) : Prop := (∀ i, i < 23 → va_O "java/lang/String" (Est E (100 + i)) (EA E) U U.heap ∧ va_OF "java/lang/String" "coder" "B" (.int 0) (Est E (100 + i)) (EA E) U U.heap ∧ va_OF "java/lang/String" "value" "[B" (.ref (Est E (130 + i))) (Est E (100 + i)) (EA E) U U.heap) ∧ vk_R "ShutDays$Tokens" 53 "<>=#+-*/();" (Est E 122) U ∧ vx_L "java/lang/Throwable" "UNASSIGNED_STACK" "[Ljava/lang/StackTraceElement;" (EA E) U U.heap ∧ vx_L "java/lang/Throwable" "SUPPRESSED_SENTINEL" "Ljava/util/List;" (EA E) U U.heap ∧ ∃ mi, Eov E 3 = some mi ∧ va_Mi "[Ljava/lang/Object;" mi U
/-- what holds of the machine all through the run -/
def Fx (E : EE) (U : State) : Prop := va_K (ED E) clL (tysL E) U ∧ (∀ w ∈ nwF, va_Nw w U) ∧ (∀ k, k < 512 → Est E k < EB E) ∧ (EL E).stackTraces = false ∧ (∀ (t : Nat) (ty : FieldType), atS[t]? = some ty → ArrOfT U (Etc E (7 + t)) ty) ∧ (∀ q ∈ zL, va_Z q.1 q.2.1 q.2.2.1 (cv E q.2.2.2) (EA E) U U.heap) ∧ (∀ q ∈ fwL, va_Fw q.1 q.2.1 q.2.2 U) ∧ (Cond.arrayOver (.array .int)).before #[] U = true ∧ Fz E U
abbrev Mt : Type := MethodName × ByteArray × Nat × Option FieldType
abbrev OR : Type := Option Value ⊕ Nat
def rmF (d mc ms : Nat) : Room := { frames := d, cells := mc, slots := ms, locals := 200 * d }
def Qx (E : EE) (r : Option Value) (h' : AH) : Array Value → State → Outcome → State → Prop := fun _ st o t => o = .returned (r.map (cv E)) ∧ Fx E t ∧ Rp E h' t.heap ∧ va_F (EA E) st t
/-- a throw of the cell q, over h' -/
def XQE (E : EE) (q : Nat) (h' : AH) : Addr → State → State → Prop := fun a st t => a = tr E q ∧ Fx E t ∧ Rp E h' t.heap ∧ va_F (EA E) st t
def FQ (E : EE) (o : OR) (h' : AH) (below : List Frame) (args : Array Value) (s : State) (mc ms : Nat) : State → Prop := match o with
  | .inl r => MQ below (Qx E r h') args s mc ms (EA E)
  | .inr q => xMQ below (XQE E q h') args s mc ms (EA E)
def Pw (E : EE) (av : List Value) (h : AH) : Array Value → State → Prop := va_Pc (av.map (cv E)) (fun U => Fx E U ∧ Rp E h U.heap)
/-- METHOD M, called with av over the heap h, d frames left, ends with o over h' -/
def Run (d : Nat) (M : Mt) (av : List Value) (h : AH) (o : OR) (h' : AH) : Prop := h.n ≤ h'.n ∧ h.u ≤ h'.u ∧ ∀ E : EE, match o with
  | .inl r => Met (EL E) M.1 (ws_ M.1 M.2.1 M.2.2.1 M.2.2.2) (rmF d (h'.n - h.n) (h'.u - h.u)) (Pw E av h) (Qx E r h') (h'.n - h.n) (h'.u - h.u) (EA E)
  | .inr q => xMet (EL E) M.1 (ws_ M.1 M.2.1 M.2.2.1 M.2.2.2) (rmF d (h'.n - h.n) (h'.u - h.u)) (Pw E av h) (XQE E q h') (h'.n - h.n) (h'.u - h.u) (EA E)
/-- the locals -/
def LR (E : EE) (A : Array Slot) (ls : List (Option Value)) : Prop := A.size = ls.length ∧ lv_wf A ∧ ∀ (k : Nat) (v : Value), ls[k]? = some (some v) → A[k]? = some (.val (cv E v))
def Cx (E : EE) (d : Nat) (M : Mt) (p : Program) (s : State) (m : MethodId) (args : Array Value) (meth : Method) (c : Code) (n0 : Nat) : Prop :=
  p.tables.exec = Jvm.exec ∧ c.code = M.2.1 ∧ meth.sig.returnType = M.2.2.2 ∧ c.maxLocals = M.2.2.1 ∧ s.vm.findClass M.1.cls = some m.cls ∧ (∀ w ∈ lw_all, w.before args s = true) ∧ meth.locks = false ∧ meth.name = M.1.name ∧ Fx E s ∧ s.heap.size = EB E + n0 ∧ (Cond.code M.1 M.2.1 M.2.2.1 M.2.2.2 ∈ lw_all → c.exceptionTable.toList = []) ∧ ∀ hh, Cond.codeWith M.1 M.2.1 M.2.2.1 M.2.2.2 hh ∈ lw_all → c.exceptionTable.toList = tableOf hh
/-- METHOD M, at pc with these locals and this stack over the heap h, comes to its end o over h' -/
def AW (d : Nat) (M : Mt) (h : AH) (pc : Nat) (ls : List (Option Value)) (st : List Value) (o : OR) (h' : AH) : Prop := h.n ≤ h'.n ∧ h.u ≤ h'.u ∧ ls.length = M.2.2.1 ∧
  ∀ (E : EE) (p : Program) (e : Env) (s : State) (m : MethodId) (args : Array Value) (below : List Frame) (meth : Method) (c : Code) (n0 u0 : Nat) (H : Heap) (locs : List Loc) (A : Array Slot), Cx E d M p s m args meth c n0 → n0 ≤ h.n → u0 ≤ h.u → va_S (EA E) s.heap H locs → Rp E h H → LR E A ls →
    W p (EL E) e (rmF d (h'.n - n0) (h'.u - u0)) s m args below meth c H locs (h.n - n0) (h.u - u0) (FQ E o h' below args s (h'.n - n0) (h'.u - u0)) (F0 m pc A (st.map (cv E)))
theorem LR.at {E : EE} {A : Array Slot} {ls : List (Option Value)} (h : LR E A ls) {k : Nat} {v : Value} (hk : ls[k]? = some (some v)) : A[k]? = some (.val (cv E v)) := h.2.2 k v hk
/-- a row that leaves the heap as it is -/
theorem AW.lift {d : Nat} {M : Mt} {h : AH} {pc pc' : Nat} {ls ls' : List (Option Value)} {st st' : List Value} {o : OR} {h' : AH} (k : AW d M h pc' ls' st' o h') (hlen : ls.length = ls'.length)
    (f : ∀ (E : EE) (p : Program) (e : Env) (R : Room) (s : State) (m : MethodId) (args : Array Value) (below : List Frame) (meth : Method) (c : Code) (n0 : Nat) (H : Heap) (locs : List Loc) (cells slots : Nat) (Q : State → Prop) (A : Array Slot), Cx E d M p s m args meth c n0 → Rp E h H → va_S (EA E) s.heap H locs → LR E A ls → A.size = M.2.2.1 →
      (∀ A' : Array Slot, LR E A' ls' → W p (EL E) e R s m args below meth c H locs cells slots Q (F0 m pc' A' (st'.map (cv E)))) → W p (EL E) e R s m args below meth c H locs cells slots Q (F0 m pc A (st.map (cv E)))) : AW d M h pc ls st o h' := by
  refine ⟨k.1, k.2.1, hlen.trans k.2.2.1, ?_⟩
  intro E p e s m args below meth c n0 u0 H locs A C hn hu hS hR hL
  exact f E p e _ s m args below meth c n0 H locs _ _ _ A C hR hS hL (hL.1.trans (hlen.trans k.2.2.1)) (fun A' hA' => k.2.2.2 E p e s m args below meth c n0 u0 H locs A' C hn hu hS hR hA')
/-- what has been said of a value otherwise -/
theorem AW.st {d : Nat} {M : Mt} {h : AH} {pc : Nat} {ls : List (Option Value)} {st st' : List Value} {o : OR} {h' : AH} (e : st = st') (k : AW d M h pc ls st' o h') : AW d M h pc ls st o h' := e ▸ k
theorem AW.ls {d : Nat} {M : Mt} {h : AH} {pc : Nat} {ls ls' : List (Option Value)} {st : List Value} {o : OR} {h' : AH} (e : ls = ls') (k : AW d M h pc ls' st o h') : AW d M h pc ls st o h' := e ▸ k
theorem AW.hp {d : Nat} {M : Mt} {h h2 : AH} {pc : Nat} {ls : List (Option Value)} {st : List Value} {o : OR} {h' : AH} (e : h = h2) (k : AW d M h2 pc ls st o h') : AW d M h pc ls st o h' := e ▸ k
def okst (ls : List (Option Value)) : Nat → Bool
  | 0 => true
  | i + 1 => match ls[i]? with
    | some (some v) => v.category == 1
    | _ => true
def loL : Nat → List (Option Value) → List (Nat × Value)
  | _, [] => []
  | k, some v :: r => (k, v) :: loL (k + 1) r
  | k, none :: r => loL (k + 1) r
theorem loL_mem {ls : List (Option Value)} : ∀ (k0 k : Nat) (v : Value), ls[k]? = some (some v) → (k0 + k, v) ∈ loL k0 ls := by
  induction ls with
  | nil => intro k0 k v h; simp at h
  | cons a r ih =>
    intro k0 k v h
    cases k with
    | zero =>
      rw [List.getElem?_cons_zero] at h
      cases h
      exact List.mem_cons_self
    | succ k =>
      rw [List.getElem?_cons_succ] at h
      have h2 := ih (k0 + 1) k v h
      rw [show k0 + 1 + k = k0 + (k + 1) by omega] at h2
      cases a with
      | none => exact h2
      | some w => exact List.mem_cons_of_mem _ h2
theorem loL_of {ls : List (Option Value)} : ∀ (k0 : Nat) (q : Nat × Value), q ∈ loL k0 ls → k0 ≤ q.1 ∧ ls[q.1 - k0]? = some (some q.2) := by
  induction ls with
  | nil => intro k0 q h; cases h
  | cons a r ih =>
    intro k0 q h
    cases a with
    | none =>
      obtain ⟨h1, h2⟩ := ih (k0 + 1) q h
      refine ⟨by omega, ?_⟩
      rw [show q.1 - k0 = (q.1 - (k0 + 1)) + 1 by omega, List.getElem?_cons_succ]
      exact h2
    | some w =>
      rcases List.mem_cons.mp h with rfl | h
      · exact ⟨Nat.le_refl _, by simp⟩
      · obtain ⟨h1, h2⟩ := ih (k0 + 1) q h
        refine ⟨by omega, ?_⟩
        rw [show q.1 - k0 = (q.1 - (k0 + 1)) + 1 by omega, List.getElem?_cons_succ]
        exact h2
theorem LR.has {E : EE} {A : Array Slot} {ls : List (Option Value)} (h : LR E A ls) : lv_has A ls.length ((loL 0 ls).map fun q => (q.1, cv E q.2)) := by
  refine ⟨h.1, h.2.1, fun q hq => ?_⟩
  obtain ⟨q0, h0, rfl⟩ := List.mem_map.mp hq
  obtain ⟨-, h2⟩ := loL_of 0 q0 h0
  exact h.2.2 _ _ h2
/-- storing a value of one slot -/
theorem LR.store1 {E : EE} {A' : Array Slot} {ls : List (Option Value)} {i : Nat} {v : Value} (ho : okst ls i = true) (hi : i < ls.length) (h : lv_has A' ls.length ((i, cv E v) :: ((loL 0 ls).map fun q => (q.1, cv E q.2)).filter (fun q => !(q.1 == i) && !(q.1 + 1 == i && q.2.category == 2)))) : LR E A' (ls.set i (some v)) := by
  refine ⟨by rw [List.length_set]; exact h.1, h.2.1, fun k w hk => ?_⟩
  by_cases hki : k = i
  · subst hki
    rw [List.getElem?_set_self hi] at hk
    cases hk
    exact h.2.2 (k, cv E v) List.mem_cons_self
  · rw [List.getElem?_set_ne (Ne.symm hki)] at hk
    refine h.2.2 (k, cv E w) (List.mem_cons_of_mem _ (List.mem_filter.mpr ⟨List.mem_map.mpr ⟨(k, w), ?_, rfl⟩, ?_⟩))
    · have := loL_mem 0 k w hk
      rwa [Nat.zero_add] at this
    · have hc : ¬ (k + 1 = i ∧ w.category = 2) := by
        rintro ⟨e, e2⟩
        subst e
        simp only [okst, hk, beq_iff_eq] at ho
        omega
      simp only [Bool.and_eq_true, Bool.not_eq_true', beq_eq_false_iff_ne, ne_eq, Bool.and_eq_false_iff, cv_cat]
      refine ⟨hki, ?_⟩
      by_cases e : k + 1 = i
      · exact Or.inr (fun q => hc ⟨e, q⟩)
      · exact Or.inl e
theorem LR.store2 {E : EE} {A' : Array Slot} {ls : List (Option Value)} {i : Nat} {v : Value} (ho : okst ls i = true) (hi : i + 1 < ls.length) (h : lv_has A' ls.length ((i, cv E v) :: ((loL 0 ls).map fun q => (q.1, cv E q.2)).filter (fun q => !(q.1 == i) && (!(q.1 == i + 1) && !(q.1 + 1 == i && q.2.category == 2))))) : LR E A' ((ls.set i (some v)).set (i + 1) none) := by
  refine ⟨by rw [List.length_set, List.length_set]; exact h.1, h.2.1, fun k w hk => ?_⟩
  by_cases hk2 : k = i + 1
  · subst hk2
    rw [List.getElem?_set_self (by rw [List.length_set]; exact hi)] at hk
    cases hk
  rw [List.getElem?_set_ne (Ne.symm hk2)] at hk
  by_cases hki : k = i
  · subst hki
    rw [List.getElem?_set_self (by omega)] at hk
    cases hk
    exact h.2.2 (k, cv E v) List.mem_cons_self
  · rw [List.getElem?_set_ne (Ne.symm hki)] at hk
    refine h.2.2 (k, cv E w) (List.mem_cons_of_mem _ (List.mem_filter.mpr ⟨List.mem_map.mpr ⟨(k, w), ?_, rfl⟩, ?_⟩))
    · have := loL_mem 0 k w hk
      rwa [Nat.zero_add] at this
    · have hc : ¬ (k + 1 = i ∧ w.category = 2) := by
        rintro ⟨e, e2⟩
        subst e
        simp only [okst, hk, beq_iff_eq] at ho
        omega
      simp only [Bool.and_eq_true, Bool.not_eq_true', beq_eq_false_iff_ne, ne_eq, Bool.and_eq_false_iff, cv_cat]
      refine ⟨hki, hk2, ?_⟩
      by_cases e : k + 1 = i
      · exact Or.inr (fun q => hc ⟨e, q⟩)
      · exact Or.inl e
theorem lrem_eq_mod (x y : Int64) : x - (x / y) * y = x % y := by
  apply Int64.toInt_inj.mp
  have h1 := Int64.le_toInt (x % y)
  have h2 := Int64.toInt_lt (x % y)
  rw [Int64.toInt_sub, Int64.toInt_mul, Int64.toInt_div, Int.bmod_mul_bmod, Int.sub_bmod_bmod, Int.mul_comm (x.toInt.tdiv y.toInt), ← Int.tmod_def, ← Int64.toInt_mod]
  exact Int.bmod_eq_of_le_mul_two (by omega) (by omega)
