/-! MATH: calls of java.lang.Math (run by the machine itself), over the kit's rows -/
set_option maxRecDepth 100000
def maxI (a b : Int32) : Int32 := if a < b then b else a
def minI (a b : Int32) : Int32 := if b < a then b else a
def absI (a : Int32) : Int32 := if 0 ≤ a then a else 0 - a
def maxL (a b : Int64) : Int64 := if b < a then a else b
def minL (a b : Int64) : Int64 := if b < a then b else a
def absL (a : Int64) : Int64 := if 0 < a then a else -a
section MATH
variable {d : Nat} {M : Mt} {h : AH} {pc pc2 : Nat} {ls : List (Option Value)} {st : List Value} {o : OR} {h2 : AH}
theorem AW.mmax {i : Nat} {x y : Int32} (hd : decode M.2.1 pc = .ok (.invokestatic i, 3)) (w1 : Cond.methodLink M.1.cls i Lib.Math.max.name ∈ lw_all) (w2 : Cond.static Lib.Math.max.name ∈ lw_all) (w3 : Cond.initialized "java/lang/Math" ∈ lw_all) (w4 : Cond.code Lib.Math.max.name Lib.Math.max.code 2 (some .int) ∈ lw_all) (hdd : 1 ≤ d) (hcat : (st.map fun v => v.category).sum ≤ 8) (hp : pc + 3 = pc2) (k : AW d M h pc2 ls (.int (maxI x y) :: st) o h2) : AW d M h pc ls (.int y :: .int x :: st) o h2 := by
  subst hp
  refine AW.liftH k (Nat.le_refl _) (Nat.le_refl _) rfl (fun E p e R s m args below meth c n9 H locs cells slots Q A C hR hS hL hz hroom kk => ?_)
  have hts := C.2.2.2.2.2.1
  rw [Nat.sub_self, Nat.sub_self] at kk
  exact va_mmax C.1 C.2.1 (hz.trans C.2.2.2.1.symm).symm C.2.2.2.2.1 (hts _ w1) (hts _ w2) (hts _ w3) (hts _ w4) (by rw [hroom.1]; exact hdd) (by rw [hroom.2.1, cat_cv]; omega) (by have := hroom.2.2.1; omega) (by have := hroom.2.2.2; omega) hd (kk H locs A hR hS hL)
theorem AW.mmin {i : Nat} {x y : Int32} (hd : decode M.2.1 pc = .ok (.invokestatic i, 3)) (w1 : Cond.methodLink M.1.cls i Lib.Math.min.name ∈ lw_all) (w2 : Cond.static Lib.Math.min.name ∈ lw_all) (w3 : Cond.initialized "java/lang/Math" ∈ lw_all) (w4 : Cond.code Lib.Math.min.name Lib.Math.min.code 2 (some .int) ∈ lw_all) (hdd : 1 ≤ d) (hcat : (st.map fun v => v.category).sum ≤ 8) (hp : pc + 3 = pc2) (k : AW d M h pc2 ls (.int (minI x y) :: st) o h2) : AW d M h pc ls (.int y :: .int x :: st) o h2 := by
  subst hp
  refine AW.liftH k (Nat.le_refl _) (Nat.le_refl _) rfl (fun E p e R s m args below meth c n9 H locs cells slots Q A C hR hS hL hz hroom kk => ?_)
  have hts := C.2.2.2.2.2.1
  rw [Nat.sub_self, Nat.sub_self] at kk
  exact va_mmin C.1 C.2.1 (hz.trans C.2.2.2.1.symm).symm C.2.2.2.2.1 (hts _ w1) (hts _ w2) (hts _ w3) (hts _ w4) (by rw [hroom.1]; exact hdd) (by rw [hroom.2.1, cat_cv]; omega) (by have := hroom.2.2.1; omega) (by have := hroom.2.2.2; omega) hd (kk H locs A hR hS hL)
theorem AW.mabs {i : Nat} {x : Int32} (hd : decode M.2.1 pc = .ok (.invokestatic i, 3)) (w1 : Cond.methodLink M.1.cls i Lib.Math.abs.name ∈ lw_all) (w2 : Cond.static Lib.Math.abs.name ∈ lw_all) (w3 : Cond.initialized "java/lang/Math" ∈ lw_all) (w4 : Cond.code Lib.Math.abs.name Lib.Math.abs.code 1 (some .int) ∈ lw_all) (hdd : 1 ≤ d) (hcat : (st.map fun v => v.category).sum ≤ 8) (hp : pc + 3 = pc2) (k : AW d M h pc2 ls (.int (absI x) :: st) o h2) : AW d M h pc ls (.int x :: st) o h2 := by
  subst hp
  refine AW.liftH k (Nat.le_refl _) (Nat.le_refl _) rfl (fun E p e R s m args below meth c n9 H locs cells slots Q A C hR hS hL hz hroom kk => ?_)
  have hts := C.2.2.2.2.2.1
  rw [Nat.sub_self, Nat.sub_self] at kk
  exact va_mabs C.1 C.2.1 (hz.trans C.2.2.2.1.symm).symm C.2.2.2.2.1 (hts _ w1) (hts _ w2) (hts _ w3) (hts _ w4) (by rw [hroom.1]; exact hdd) (by rw [hroom.2.1, cat_cv]; omega) (by have := hroom.2.2.1; omega) (by have := hroom.2.2.2; omega) hd (kk H locs A hR hS hL)
theorem AW.mmaxL {i : Nat} {x y : Int64} (hd : decode M.2.1 pc = .ok (.invokestatic i, 3)) (w1 : Cond.methodLink M.1.cls i Lib.MathLoose.max_long.x ∈ lw_all) (w2 : Cond.static Lib.MathLoose.max_long.x ∈ lw_all) (w3 : Cond.initialized "java/lang/Math" ∈ lw_all) (w4 : Cond.code Lib.MathLoose.max_long.x Lib.MathLoose.max_long.code 4 (some .long) ∈ lw_all) (hdd : 1 ≤ d) (hcat : (st.map fun v => v.category).sum ≤ 8) (hp : pc + 3 = pc2) (k : AW d M h pc2 ls (.long (maxL x y) :: st) o h2) : AW d M h pc ls (.long y :: .long x :: st) o h2 := by
  subst hp
  refine AW.liftH k (Nat.le_refl _) (Nat.le_refl _) rfl (fun E p e R s m args below meth c n9 H locs cells slots Q A C hR hS hL hz hroom kk => ?_)
  have hts := C.2.2.2.2.2.1
  rw [Nat.sub_self, Nat.sub_self] at kk
  exact va_mmax_long C.1 C.2.1 (hz.trans C.2.2.2.1.symm).symm C.2.2.2.2.1 (hts _ w1) (hts _ w2) (hts _ w3) (hts _ w4) (by rw [hroom.1]; exact hdd) (by rw [hroom.2.1, cat_cv]; omega) (by have := hroom.2.2.1; omega) (by have := hroom.2.2.2; omega) hd (kk H locs A hR hS hL)
theorem AW.mminL {i : Nat} {x y : Int64} (hd : decode M.2.1 pc = .ok (.invokestatic i, 3)) (w1 : Cond.methodLink M.1.cls i Lib.MathLoose.min_long.x ∈ lw_all) (w2 : Cond.static Lib.MathLoose.min_long.x ∈ lw_all) (w3 : Cond.initialized "java/lang/Math" ∈ lw_all) (w4 : Cond.code Lib.MathLoose.min_long.x Lib.MathLoose.min_long.code 4 (some .long) ∈ lw_all) (hdd : 1 ≤ d) (hcat : (st.map fun v => v.category).sum ≤ 8) (hp : pc + 3 = pc2) (k : AW d M h pc2 ls (.long (minL x y) :: st) o h2) : AW d M h pc ls (.long y :: .long x :: st) o h2 := by
  subst hp
  refine AW.liftH k (Nat.le_refl _) (Nat.le_refl _) rfl (fun E p e R s m args below meth c n9 H locs cells slots Q A C hR hS hL hz hroom kk => ?_)
  have hts := C.2.2.2.2.2.1
  rw [Nat.sub_self, Nat.sub_self] at kk
  exact va_mmin_long C.1 C.2.1 (hz.trans C.2.2.2.1.symm).symm C.2.2.2.2.1 (hts _ w1) (hts _ w2) (hts _ w3) (hts _ w4) (by rw [hroom.1]; exact hdd) (by rw [hroom.2.1, cat_cv]; omega) (by have := hroom.2.2.1; omega) (by have := hroom.2.2.2; omega) hd (kk H locs A hR hS hL)
theorem AW.mabsL {i : Nat} {x : Int64} (hd : decode M.2.1 pc = .ok (.invokestatic i, 3)) (w1 : Cond.methodLink M.1.cls i Lib.MathLoose.abs_long.x ∈ lw_all) (w2 : Cond.static Lib.MathLoose.abs_long.x ∈ lw_all) (w3 : Cond.initialized "java/lang/Math" ∈ lw_all) (w4 : Cond.code Lib.MathLoose.abs_long.x Lib.MathLoose.abs_long.code 2 (some .long) ∈ lw_all) (hdd : 1 ≤ d) (hcat : (st.map fun v => v.category).sum ≤ 8) (hp : pc + 3 = pc2) (k : AW d M h pc2 ls (.long (absL x) :: st) o h2) : AW d M h pc ls (.long x :: st) o h2 := by
  subst hp
  refine AW.liftH k (Nat.le_refl _) (Nat.le_refl _) rfl (fun E p e R s m args below meth c n9 H locs cells slots Q A C hR hS hL hz hroom kk => ?_)
  have hts := C.2.2.2.2.2.1
  rw [Nat.sub_self, Nat.sub_self] at kk
  exact va_mabs_long C.1 C.2.1 (hz.trans C.2.2.2.1.symm).symm C.2.2.2.2.1 (hts _ w1) (hts _ w2) (hts _ w3) (hts _ w4) (by rw [hroom.1]; exact hdd) (by rw [hroom.2.1, cat_cv]; omega) (by have := hroom.2.2.1; omega) (by have := hroom.2.2.2; omega) hd (kk H locs A hR hS hL)
end MATH
