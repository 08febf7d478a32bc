/-! COPY T: System.arraycopy of references to objects -/
set_option maxRecDepth 100000
section COPYT
variable {d : Nat} {M : Mt} {h : AH} {pc pc2 : Nat} {ls : List (Option Value)} {st : List Value} {o : OR} {h2 : AH}
theorem asg_of {E : EE} {s : State} {ci comp : Nat} {r0 : vw_C} {Cn : String} (hF : Fx E s) (hc : clL[ci]? = some r0) (hcast : Cond.castable r0.1 Cn ∈ lw_tbl ∨ r0.1 = Cn) (k3 : s.vm.findClass Cn = some comp) : s.vm.assignable ((ED E).1 ci) comp = true := by
  rcases hcast with hcast | e
  · obtain ⟨c3, c4, hc3, hc4, hasg⟩ := Cond.castable_spec (va_Nw.use (A := #[]) rfl (hF.2.1 _ (List.mem_filter.mpr ⟨hcast, rfl⟩)))
    cases hc3.symm.trans (hF.1.1 ci _ hc).2.1
    cases hc4.symm.trans k3
    exact hasg
  · exact vb_asgS (C := Cn) comp _ k3 (by rw [← e]; exact (hF.1.1 ci _ hc).2.1)
/-- no object, or one of the class rC -/
def OrNull (h : AH) (ok : String → Prop) (v : Value) : Prop := v = .null ∨ ∃ (a ci : Nat) (fs : List Value) (rC : vw_C), v = .ref a ∧ h.g a = some (.inr (ci, fs)) ∧ clL[ci]? = some rC ∧ ok rC.1
theorem AW.copyT {i a0 a1 t n0 n1 : Nat} {Cn : String} {f g : Nat → Value} {sp dp n : Int32} (hd : decode M.2.1 pc = .ok (.invokestatic i, 3)) (w1 : Cond.methodLink M.1.cls i arraycopyName ∈ lw_all) (w2 : Cond.native arraycopyName ∈ lw_all) (w3 : Cond.static arraycopyName ∈ lw_all) (w4 : Cond.initialized "java/lang/System" ∈ lw_all) (h0 : h.g a0 = some (.inl (t, n0, f))) (ha : 512 ≤ a1) (h1 : h.g a1 = some (.inl (t, n1, g))) (ht : atAll[t]? = some (.object Cn)) (ht2 : ∀ E, (tysL E)[t]? = some (Etc E t, .object Cn))
    (p1 : ¬ sp < 0) (p2 : ¬ dp < 0) (p3 : ¬ n < 0) (p4 : sp.toNatClampNeg + n.toNatClampNeg ≤ n0) (p5 : dp.toNatClampNeg + n.toNatClampNeg ≤ n1)
    (hval : ∀ j, j < n.toNatClampNeg → OrNull h (fun c => Cond.castable c Cn ∈ lw_tbl ∨ c = Cn) (f (sp.toNatClampNeg + j)))
    (hdd : 1 ≤ d) (hcat : (st.map fun v => v.category).sum ≤ 8) {h3 : AH} (hh : h.set a1 (.inl (t, n1, va_cpy f g sp.toNatClampNeg dp.toNatClampNeg n.toNatClampNeg)) = h3) (hp : pc + 3 = pc2) (k : AW d M h3 pc2 ls st o h2) : AW d M h pc ls (.int n :: .int dp :: .ref a1 :: .int sp :: .ref a0 :: st) o h2 := by
  refine AW.copy (t := t) (ty := .object Cn) hd w1 w2 w3 w4 h0 ha h1 ht p1 p2 p3 p4 p5 (fun E s H vm' T dComp kd hF hR hT hal hkd hkk j hj => ?_) hdd hcat hh hp k
  rcases hval j hj with e | ⟨a, ci, fs, rC, e, hg, hc, hcast⟩
  · rw [e]
    exact ⟨rfl, trivial⟩
  · rw [e]
    obtain ⟨r0, cV, hr0, v1, vc, vv, vs, vn, v4⟩ := hR.2 a _ hg
    have hr' : r0 = rC := Option.some.inj (hr0.symm.trans hc)
    subst hr'
    obtain ⟨kA, comp, k1, k2, k3, -⟩ := (hF.1.2 t _ (ht2 E)).2
    obtain ⟨kE, hkE, -⟩ := Vm.findClass_spec k3
    obtain ⟨-, kV, hkV, -⟩ := (hF.1.1 ci _ hc).2
    have hasg : s.vm.assignable ((ED E).1 ci) comp = true := asg_of hF hc hcast k3
    cases k1.symm.trans hkd
    cases k2.symm.trans hkk
    obtain ⟨kV', hkV', -⟩ := hal.2.2 _ _ hkV
    obtain ⟨kE', hkE', -⟩ := hal.2.2 _ _ hkE
    refine ⟨rfl, cV, (show T.heap[tr E a]? = some cV by rw [hT]; exact v1), (fun z w => by rw [w] at vs; cases vs), ⟨kV', by rw [vc]; exact hkV'⟩, ⟨kE', hkE'⟩, ?_⟩
    show vm'.assignable _ _ = true
    rw [Vm.Alike.assignable hal, vc]
    exact hasg
theorem AW.aastS {a t n v ci : Nat} {f : Nat → Value} {fs : List Value} {i : Int32} {rC : vw_C} {Cn : String} (hd : decode M.2.1 pc = .ok (.aastore, 1)) (ha : 512 ≤ a) (hg : h.g a = some (.inl (t, n, f))) (ht : ∀ E, (tysL E)[t]? = some (Etc E t, .object Cn)) (hv : h.g v = some (.inr (ci, fs))) (hc : clL[ci]? = some rC) (hcast : rC.1 = Cn) (hin : vp_in i n) {j : Nat} (hj : i.toNatClampNeg = j) {h3 : AH} (hh : h.set a (.inl (t, n, up f j (.ref v))) = h3) (hp : pc + 1 = pc2) (k : AW d M h3 pc2 ls st o h2) : AW d M h pc ls (.ref v :: .int i :: .ref a :: st) o h2 := by
  subst hp
  subst hj
  subst hh
  refine AW.liftS k rfl rfl rfl (fun E p e R s m args below meth c n0 H locs cells slots Q A C hR hS hL hz kk => ?_)
  have hF := C.2.2.2.2.2.2.2.2.1
  obtain ⟨cell, q1, q2, q3, q4, q5, q6, q7, q8⟩ := hR.2 a _ hg
  obtain ⟨r0, cv0, hr0, v1, vc, vv, vs, vn, v4⟩ := hR.2 v _ hv
  have hr' : r0 = rC := Option.some.inj (hr0.symm.trans hc)
  subst hr'
  obtain ⟨kA, comp, k1, k2, k3, -⟩ := (hF.1.2 t _ (ht E)).2
  obtain ⟨kE, hkE, -⟩ := Vm.findClass_spec k3
  obtain ⟨-, kV, hkV, -⟩ := (hF.1.1 ci _ hc).2
  have hasg := asg_of hF hc (Or.inr hcast) k3
  refine W.aast C.1 C.2.1 q1 q4 q3 (by rw [q2]; exact k1) k2 rfl hkE ⟨fun z => hin (Or.inl z), Nat.lt_of_lt_of_le (in_lt hin) q6⟩ v1 (fun z w => by rw [w] at vs; cases vs) (by rw [vc]; exact hkV) (by rw [vc]; exact hasg) rfl rfl hd (fun H' e1 e2 e3 => kk H' _ A (Rp.set hF hR ha ?_ e2 e3) (hS.put e2 e3 (tr_A ha)) hL)
  exact AtC.setA (v := .ref v) (j := i.toNatClampNeg) e1 (in_lt hin) q2 q3 q4 q5 q6 q7 q8
end COPYT
