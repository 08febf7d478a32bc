/-! GRIDS: new arrays of rows of ints (by hand) -/
set_option maxRecDepth 100000
def AH.grid (h : AH) (N K : Nat) : AH := (h.n + (1 + N), h.u + (N + N * K), fun j => if j = 512 + h.n then some (.inl (4, N, fun i => .ref (513 + h.n + i))) else if 512 + h.n < j ∧ j ≤ 512 + h.n + N then some (.inl (0, K, fun _ => .int 0)) else h.g j)
theorem W.grid {p : Program} {l : Launch} {e : Env} {R : Room} {s : State} {m : MethodId} {args : Array Value} {below : List Frame} {meth : Method} {c : Code} {H : Heap} {locs : List Loc} {cells slots : Nat} {Q : State → Prop} {cc : ByteArray} (hexec : p.tables.exec = Jvm.exec) (hb : c.code = cc) {own : String} {index : Nat} (hown : s.vm.findClass own = some m.cls) (hclink : (Cond.classLink own index "[[I").before args s = true) (hover : (Cond.arrayOver (.array .int)).before args s = true) (harr : (Cond.arrayClass .int).before args s = true)
    {g : JFrame} (hg : g.method = m) (hdg : decode cc g.pc = .ok (.multianewarray index 2, 4)) {n k : Int32} {rest : List Value} (hstack : g.stack = .int k :: .int n :: rest) (hn : ¬ n < 0) (hk : ¬ k < 0) {N K : Nat} (hN : n.toNatClampNeg = N) (hK : k.toNatClampNeg = K) (hb1 : N * 4 ≤ 536870912) (hb2 : K * 4 ≤ 536870912) (hcells : cells + (1 + N) ≤ R.cells) (hslots : slots + (N + N * K) ≤ R.slots)
    (kk : ∀ (H' : Heap) (cA comp : ClassId), s.vm.findClass "[[I" = some cA → s.vm.findClass "[I" = some comp → H'.size = H.size + (1 + N) → H'[H.size]? = some (Jvm.Free.Multi.outerC cA N H.size N) → (∀ j, j < N → H'[H.size + 1 + j]? = some (Jvm.Free.Multi.innerC comp K (.int 0))) → (∀ q : Nat, q < H.size → H'[q]? = H[q]?) →
      W p l e R s m args below meth c H' locs (cells + (1 + N)) (slots + (N + N * K)) Q { g with pc := g.pc + 4, stack := .ref H.size :: rest }) : W p l e R s m args below meth c H locs cells slots Q g := by
  intro T hT X
  subst hT; subst hb; subst hN; subst hK
  obtain ⟨vm₁, cA, comp, hW, hfA, hfC, hO, hI, X1, st⟩ := X.multianewarray2F hexec hown (ty := .int) hclink hover harr hg hdg hstack hn hk hb1 (show k.toNatClampNeg * 4 ≤ _ from hb2) (by omega) rfl rfl hcells hslots
  obtain ⟨f1, f2, f3, f4⟩ := Jvm.Free.Multi.fill_facts (T.setVm vm₁) cA comp n.toNatClampNeg k.toNatClampNeg (defaultValue .int) n.toNatClampNeg
  have fo := fun (a : Addr) (ha : a < T.heap.size) => Jvm.Free.Multi.fill_old (T.setVm vm₁) cA comp n.toNatClampNeg k.toNatClampNeg (defaultValue .int) (a := a) ha n.toNatClampNeg
  have fi := fun (j : Nat) (hj : j < n.toNatClampNeg) => Jvm.Free.Multi.fill_inner (T.setVm vm₁) cA comp n.toNatClampNeg k.toNatClampNeg (defaultValue .int) n.toNatClampNeg j hj
  have X2 := X1
  rw [show cells + 1 + n.toNatClampNeg = cells + (1 + n.toNatClampNeg) by omega, show slots + n.toNatClampNeg + n.toNatClampNeg * k.toNatClampNeg = slots + (n.toNatClampNeg + n.toNatClampNeg * k.toNatClampNeg) by omega] at X2
  obtain ⟨t, a1, b1⟩ := kk _ cA comp hfA hfC (f1.trans (Nat.add_assoc _ _ _)) f2 fi fo _ (by rfl) X2
  exact ⟨t, st t a1, b1⟩
section GRID
variable {d : Nat} {M : Mt} {h : AH} {pc pc2 : Nat} {ls : List (Option Value)} {st : List Value} {o : OR} {h2 : AH}
theorem AW.grid {i : Nat} {n k : Int32} {N K : Nat} (hd : decode M.2.1 pc = .ok (.multianewarray i 2, 4)) (hcl : Cond.classLink M.1.cls i "[[I" ∈ lw_all) (hw : Cond.arrayClass .int ∈ lw_all) (hn : ¬ n < 0) (hk : ¬ k < 0) (hN : n.toNatClampNeg = N) (hK : k.toNatClampNeg = K) (hb1 : N * 4 ≤ 536870912) (hb2 : K * 4 ≤ 536870912) {h3 : AH} (hh : h.grid N K = h3) (hp : pc + 4 = pc2) (kk : AW d M h3 pc2 ls (.ref (512 + h.n) :: st) o h2) : AW d M h pc ls (.int k :: .int n :: st) o h2 := by
  subst hp
  subst hh
  refine AW.liftH kk (Nat.le_add_right _ _) (Nat.le_add_right _ _) rfl (fun E p e R s m args below meth c n0 H locs cells slots Q A C hR hS hL hz hroom kk => ?_)
  have e1 : (h.grid N K).n - h.n = 1 + N := by show h.n + (1 + N) - h.n = _; omega
  have e2 : (h.grid N K).u - h.u = N + N * K := by show h.u + (N + N * K) - h.u = _; omega
  rw [e1, e2] at kk
  rw [e1, e2] at hroom
  have hF := C.2.2.2.2.2.2.2.2.1
  have hts := C.2.2.2.2.2.1
  refine W.grid C.1 C.2.1 C.2.2.2.2.1 (hts _ hcl) hF.2.2.2.2.2.2.2.1 (hts _ hw) rfl hd rfl hn hk hN hK hb1 hb2 hroom.2.2.1 hroom.2.2.2 fun H' cA comp f1 f2 z g1 g2 g3 => ?_
  have hA : cA = Etc E 4 := Option.some.inj (f1.symm.trans (hF.1.2 4 _ rfl).2)
  have hC : comp = Etc E 0 := Option.some.inj (f2.symm.trans (hF.1.2 0 _ rfl).2)
  subst hA; subst hC
  obtain ⟨o1, o2, o3⟩ := Jvm.Free.Multi.outerC_facts (Etc E 4) N H.size N
  have os := fun (j : Nat) (hj : j < N) => Jvm.Free.Multi.outerC_slot (Etc E 4) N H.size N j hj
  have tro := tr_new hR
  have trn : ∀ j, tr E (513 + h.n + j) = H.size + 1 + j := fun j => by
    unfold tr
    rw [if_neg (by omega), hR.1]
    omega
  have hR' : Rp E (h.grid N K) H' := by
    refine ⟨by rw [z, hR.1]; show _ = EB E + (h.n + (1 + N)); omega, fun q c1 hq => ?_⟩
    have hq : (if q = 512 + h.n then some (Sum.inl (4, N, fun i => .ref (513 + h.n + i))) else if 512 + h.n < q ∧ q ≤ 512 + h.n + N then some (.inl (0, K, fun _ => .int 0)) else h.g q : Option AC) = some c1 := hq
    by_cases hq1 : q = 512 + h.n
    · rw [if_pos hq1] at hq
      cases hq
      subst hq1
      refine ⟨_, by rw [tro]; exact g1, o1, by rw [o2]; exact fun q => (by cases q), fun z q => (by rw [o2] at q; cases q), fun _ => o2, Nat.le_of_eq o3.symm, by rw [o3], fun j hj => ?_⟩
      rw [os j hj, if_pos hj]
      show _ = some (Value.ref (tr E (513 + h.n + j)))
      rw [trn]
    · rw [if_neg hq1] at hq
      by_cases hq2 : 512 + h.n < q ∧ q ≤ 512 + h.n + N
      · rw [if_pos hq2] at hq
        cases hq
        obtain ⟨j, rfl⟩ : ∃ j, q = 513 + h.n + j := ⟨q - (513 + h.n), by omega⟩
        refine ⟨_, by rw [trn]; exact g2 j (by omega), rfl, fun q => (by cases q), fun z q => (by cases q), fun _ => rfl, by simp [Jvm.Free.Multi.innerC], by simp [Jvm.Free.Multi.innerC] <;> rfl, fun j hj => ?_⟩
        simp [Jvm.Free.Multi.innerC, Array.getElem?_replicate, hj]
        rfl
      · rw [if_neg hq2] at hq
        have h1 := hR.2 q c1 hq
        cases c1 with
        | inl x =>
          obtain ⟨cell, q1, q2⟩ := h1
          exact ⟨cell, (g3 _ (Array.getElem?_eq_some_iff.mp q1).1).trans q1, q2⟩
        | inr x =>
          obtain ⟨r, cell, q0, q1, q2⟩ := h1
          exact ⟨r, cell, q0, (g3 _ (Array.getElem?_eq_some_iff.mp q1).1).trans q1, q2⟩
  have hS' : va_S (EA E) s.heap H' locs := ⟨Nat.le_trans hS.1 (by omega), fun q h1 h2 => (g3 q (Nat.lt_of_lt_of_le h1 hS.1)).trans (hS.2.1 q h1 h2), hS.2.2⟩
  have := kk H' _ A hR' hS' hL
  rw [List.map_cons] at this
  rw [show cv E (.ref (512 + h.n)) = .ref H.size from congrArg Value.ref (tr_new hR)] at this
  exact this
end GRID
