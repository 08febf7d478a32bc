/-! SYSTEM 34: a doing's parts (printed by tools/x34.py) -/
set_option maxRecDepth 100000
theorem r_X15_sort {h : AH} {o : Nat} {v0 v1 v2 v3 v4 : Int32} (ga : h.g o = some (.inr (15, [.int v0, .int v1, .int v2, .int v3, .int v4]))) : Run 1 mX15_sort [.ref o] h (.inl (some (.int v0))) h := by
  refine Run.of rfl (Nat.le_of_ble_eq_true rfl) rfl ?_
  refine AW.aload_n dX15_sort_0 rfl rfl ?_
  refine AW.get ci15 0 (by decide) q818 dX15_sort_1 ga rfl rfl ?_
  exact AW.iretE dX15_sort_4 rfl rfl rfl rfl
theorem r_X15_a {h : AH} {o : Nat} {v0 v1 v2 v3 v4 : Int32} (ga : h.g o = some (.inr (15, [.int v0, .int v1, .int v2, .int v3, .int v4]))) : Run 1 mX15_a [.ref o] h (.inl (some (.int v1))) h := by
  refine Run.of rfl (Nat.le_of_ble_eq_true rfl) rfl ?_
  refine AW.aload_n dX15_a_0 rfl rfl ?_
  refine AW.get ci15 1 (by decide) q819 dX15_a_1 ga rfl rfl ?_
  exact AW.iretE dX15_a_4 rfl rfl rfl rfl
theorem r_X15_b {h : AH} {o : Nat} {v0 v1 v2 v3 v4 : Int32} (ga : h.g o = some (.inr (15, [.int v0, .int v1, .int v2, .int v3, .int v4]))) : Run 1 mX15_b [.ref o] h (.inl (some (.int v2))) h := by
  refine Run.of rfl (Nat.le_of_ble_eq_true rfl) rfl ?_
  refine AW.aload_n dX15_b_0 rfl rfl ?_
  refine AW.get ci15 2 (by decide) q820 dX15_b_1 ga rfl rfl ?_
  exact AW.iretE dX15_b_4 rfl rfl rfl rfl
theorem r_X15_c {h : AH} {o : Nat} {v0 v1 v2 v3 v4 : Int32} (ga : h.g o = some (.inr (15, [.int v0, .int v1, .int v2, .int v3, .int v4]))) : Run 1 mX15_c [.ref o] h (.inl (some (.int v3))) h := by
  refine Run.of rfl (Nat.le_of_ble_eq_true rfl) rfl ?_
  refine AW.aload_n dX15_c_0 rfl rfl ?_
  refine AW.get ci15 3 (by decide) q821 dX15_c_1 ga rfl rfl ?_
  exact AW.iretE dX15_c_4 rfl rfl rfl rfl
theorem r_X15_number {h : AH} {o : Nat} {v0 v1 v2 v3 v4 : Int32} (ga : h.g o = some (.inr (15, [.int v0, .int v1, .int v2, .int v3, .int v4]))) : Run 1 mX15_number [.ref o] h (.inl (some (.int v4))) h := by
  refine Run.of rfl (Nat.le_of_ble_eq_true rfl) rfl ?_
  refine AW.aload_n dX15_number_0 rfl rfl ?_
  refine AW.get ci15 4 (by decide) q822 dX15_number_1 ga rfl rfl ?_
  exact AW.iretE dX15_number_4 rfl rfl rfl rfl
