/-! START 3: what the old objects hold (by hand) -/
set_option maxRecDepth 100000
theorem slot_of {b : Nat} {s : State} {idx : List Nat} {t : Jvm.Term} {o n d : String} {a i : Nat} {v : Value} (hs : SlotIs s o n d i) (ht : t.eval #[Value.ref b] s none idx s = some (.ref a)) (hv : (Jvm.Term.field t o n d).eval #[Value.ref b] s none idx s = some v) {cell : Cell} (hc : s.heap[a]? = some cell) : cell.vm ≠ .unknown ∧ cell.vm.isStatics = false ∧ cell.slots[i]? = some v := by
  obtain ⟨cf, kf, fi, fd, h1, rfl⟩ := hs
  obtain ⟨-, cell2, h2, h3, h4, -, h5⟩ := Term.field_spec h1 ht hv
  cases hc.symm.trans h2
  exact ⟨h3, h4, h5⟩
theorem and_split {G X : Jvm.Cond} {args : Array Value} {first s : State} {o : Option Outcome} {idx : List Nat} (h : (Jvm.Cond.and G X).value args first o s idx = some true) : G.value args first o s idx = some true ∧ X.value args first o s idx = some true := by
  have hG : G.value args first o s idx = some true := by
    cases e : G.value args first o s idx with
    | none => simp [Cond.value, e] at h
    | some g =>
      cases g with
      | false => simp [Cond.value, e] at h
      | true => rfl
  exact ⟨hG, (Cond.and_of_left hG).symm.trans h⟩
theorem holds_of {c : Jvm.Cond} {args : Array Value} {first s : State} {o : Option Outcome} {idx : List Nat} (h : c.value args first o s idx = some true) : c.holds args first o s idx = true := by
  unfold Cond.holds
  rw [h]
  rfl
abbrev nothingT : Jvm.Term := .static "ShutDays" "NOTHING" "LShutDays$Text;"
theorem fx_nothing {b : Nat} {s : State} (hg : (Jvm.Cond.and given_1 narrow_1).before #[Value.ref b] s = true) {c : ClassId} {f : Nat → Nat} (hk : u_Kn s RX4 TX4 5 c f) : ∃ (a aD : Nat) (cell : Cell), nothingT.eval #[Value.ref b] s none [] s = some (.ref a) ∧ s.heap[a]? = some cell ∧ cell.cls = c ∧ cell.vm ≠ .unknown ∧ cell.vm.isStatics = false ∧ cell.slots[f 0]? = some .null ∧ cell.slots[f 1]? = some .null ∧ cell.slots[f 2]? = some .null ∧ cell.slots[f 3]? = some (.int 0) ∧ cell.slots[f 4]? = some (.ref aD) := by
  obtain ⟨a, c1, cell, k, q1, q2, q3, q4, q5, q6, -⟩ := Cond.exactly_spec (args := #[Value.ref b]) (first := s) (o := none) (s := s) (idx := []) (nw45 hg)
  obtain ⟨aD, c2, cell2, k2, d1, -⟩ := Cond.exactly_spec (args := #[Value.ref b]) (first := s) (o := none) (s := s) (idx := []) (nw50 hg)
  obtain ⟨hS, hfc, -⟩ := hk
  have hc : cell.cls = c := q6.trans (Option.some.inj (q2.symm.trans hfc))
  have e0 := Cond.eq_plain (args := #[Value.ref b]) (first := s) (out := none) (idx := []) (t := s) (y := .null) (nw46 hg) rfl (Or.inr (Or.inr rfl))
  have e1 := Cond.eq_plain (args := #[Value.ref b]) (first := s) (out := none) (idx := []) (t := s) (y := .null) (nw47 hg) rfl (Or.inr (Or.inr rfl))
  have e2 := Cond.eq_plain (args := #[Value.ref b]) (first := s) (out := none) (idx := []) (t := s) (y := .null) (nw48 hg) rfl (Or.inr (Or.inr rfl))
  have e3 := va_eqt (nw49 hg)
  have s0 := slot_of (hS 0 (by decide)) q1 e0 q3
  have s1 := slot_of (hS 1 (by decide)) q1 e1 q3
  have s2 := slot_of (hS 2 (by decide)) q1 e2 q3
  have s3 := slot_of (hS 3 (by decide)) q1 e3 q3
  have s4 := slot_of (hS 4 (by decide)) q1 d1 q3
  exact ⟨a, aD, cell, q1, q3, hc, s0.1, s0.2.1, s0.2.2, s1.2.2, s2.2.2, s3.2.2, s4.2.2⟩
abbrev cacheT : Jvm.Term := .static "java/lang/Integer$IntegerCache" "cache" "[Ljava/lang/Integer;"
theorem i32_sz {n : Nat} (h : (256 : Int32) = n.toInt32) : 256 ≤ n := by
  have h2 : (256 : Int32).toBitVec.toNat = n.toInt32.toBitVec.toNat := congrArg (fun x : Int32 => x.toBitVec.toNat) h
  have h3 : n.toInt32.toBitVec.toNat = n % 2 ^ 32 := by
    show (BitVec.ofNat 32 n).toNat = _
    exact BitVec.toNat_ofNat 32 n
  have h4 : (256 : Int32).toBitVec.toNat = 256 := by decide
  rw [h3, h4] at h2
  omega
theorem fx_cache {b : Nat} {s : State} (hg : (Jvm.Cond.and given_1 narrow_1).before #[Value.ref b] s = true) {c : ClassId} {f : Nat → Nat} (hk : u_Kn s RJ12 TJ12 1 c f) : ∃ (t : Nat) (ig : Nat → Nat), cacheT.eval #[Value.ref b] s none [] s = some (.ref t) ∧ va_T (.object "java/lang/Integer") t 256 (fun j => .ref (ig j)) (AS s) s s.heap ∧ ∀ j, j < 256 → ∃ cell : Cell, s.heap[ig j]? = some cell ∧ cell.cls = c ∧ cell.vm ≠ .unknown ∧ cell.vm.isStatics = false ∧ cell.slots[f 0]? = some (.int (nI j - 128)) := by
  obtain ⟨t0, arr, h1, h2, h3⟩ := Term.length_spec (va_eqt (nw43 hg))
  have hsz : 256 ≤ arr.slots.size := i32_sz (Value.int.inj h3)
  have hall := Cond.before_iff.mp (nw44 hg)
  obtain ⟨hS, hfc, -⟩ := hk
  have key : ∀ j, ∃ a : Nat, j < 256 → (Jvm.Term.elem cacheT (.int (Int32.ofNat j))).eval #[Value.ref b] s none [] s = some (.ref a) ∧ ∃ cell : Cell, s.heap[a]? = some cell ∧ cell.cls = c ∧ cell.vm ≠ .unknown ∧ cell.vm.isStatics = false ∧ cell.slots[f 0]? = some (.int (nI j - 128)) := by
    intro j
    by_cases hj : j < 256
    · have hv := Cond.all_elim h1 h2 hall j (Nat.lt_of_lt_of_le hj hsz)
      obtain ⟨k1, k2⟩ := and_split hv
      obtain ⟨a, c1, cell, kk, q1, q2, q3, q4, q5, q6, -⟩ := Cond.exactly_spec (holds_of k1)
      have e1 : (Jvm.Term.sub (.index 0) (.int 128)).eval #[Value.ref b] s none [j] s = some (.int (j.toInt32 - 128)) := Term.sub_int (Term.index_eval j) rfl
      have e2 := Cond.eq_int (holds_of k2) e1
      have s0 := slot_of (hS 0 (by decide)) q1 e2 q3
      exact ⟨a, fun _ => ⟨q1, cell, q3, q6.trans (Option.some.inj (q2.symm.trans hfc)), s0.1, s0.2.1, s0.2.2⟩⟩
    · exact ⟨0, fun h => absurd h hj⟩
  obtain ⟨ig, hig⟩ := Classical.axiomOfChoice key
  obtain ⟨t, ht, hT⟩ := va_Tof (f := fun j => .ref (ig j)) (A := AS s) (by decide) (nw42 hg) (va_eqt (nw43 hg)) (fun j hj => (hig j hj).1) AS_no
  exact ⟨t, ig, ht, hT, fun j hj => (hig j hj).2⟩
theorem fx_empty {b : Nat} {s : State} (hg : (Jvm.Cond.and given_1 narrow_1).before #[Value.ref b] s = true) : ∃ t : Nat, (Jvm.Term.static "java/util/ArrayList" "DEFAULTCAPACITY_EMPTY_ELEMENTDATA" "[Ljava/lang/Object;").eval #[Value.ref b] s none [] s = some (.ref t) ∧ va_T (.object "java/lang/Object") t 0 (fun _ => .null) (AS s) s s.heap :=
  va_Tof (f := fun _ => .null) (A := AS s) (by decide) (nw5 hg) (va_eqt (nw7 hg)) (fun j hj => absurd hj (Nat.not_lt_zero j)) AS_no
