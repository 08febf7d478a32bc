/-! SYSTEM 20: objects made anew; the reader's small ones (printed by tools/x20.py) -/
set_option maxRecDepth 100000
theorem dfX3 : ∀ (E : EE) (j : Nat), j < 8 → defaultValue (tyX3 j) = cv E (vp_V [.null, .int 0, .int 0, .int 0, .int 0, .int 0, .int 0, .int 0] j) := fun E j hj => by
  have : j = 0 ∨ j = 1 ∨ j = 2 ∨ j = 3 ∨ j = 4 ∨ j = 5 ∨ j = 6 ∨ j = 7 := by omega
  rcases this with rfl | rfl | rfl | rfl | rfl | rfl | rfl | rfl <;> rfl
theorem dfX4 : ∀ (E : EE) (j : Nat), j < 5 → defaultValue (tyX4 j) = cv E (vp_V [.null, .null, .null, .int 0, .null] j) := fun E j hj => by
  have : j = 0 ∨ j = 1 ∨ j = 2 ∨ j = 3 ∨ j = 4 := by omega
  rcases this with rfl | rfl | rfl | rfl | rfl <;> rfl
theorem dfX5 : ∀ (E : EE) (j : Nat), j < 8 → defaultValue (tyX5 j) = cv E (vp_V [.null, .null, .null, .null, .null, .int 0, .int 0, .int 0] j) := fun E j hj => by
  have : j = 0 ∨ j = 1 ∨ j = 2 ∨ j = 3 ∨ j = 4 ∨ j = 5 ∨ j = 6 ∨ j = 7 := by omega
  rcases this with rfl | rfl | rfl | rfl | rfl | rfl | rfl | rfl <;> rfl
theorem dfX6 : ∀ (E : EE) (j : Nat), j < 3 → defaultValue (tyX6 j) = cv E (vp_V [.null, .null, .null] j) := fun E j hj => by
  have : j = 0 ∨ j = 1 ∨ j = 2 := by omega
  rcases this with rfl | rfl | rfl <;> rfl
theorem dfX7 : ∀ (E : EE) (j : Nat), j < 1 → defaultValue (tyX7 j) = cv E (vp_V [.int 0] j) := fun E j hj => by
  have : j = 0 := by omega
  subst this; rfl
theorem dfX8 : ∀ (E : EE) (j : Nat), j < 2 → defaultValue (tyX8 j) = cv E (vp_V [.null, .null] j) := fun E j hj => by
  have : j = 0 ∨ j = 1 := by omega
  rcases this with rfl | rfl <;> rfl
theorem dfX9 : ∀ (E : EE) (j : Nat), j < 1 → defaultValue (tyX9 j) = cv E (vp_V [.int 0] j) := fun E j hj => by
  have : j = 0 := by omega
  subst this; rfl
theorem dfX10 : ∀ (E : EE) (j : Nat), j < 1 → defaultValue (tyX10 j) = cv E (vp_V [.null] j) := fun E j hj => by
  have : j = 0 := by omega
  subst this; rfl
theorem dfX11 : ∀ (E : EE) (j : Nat), j < 1 → defaultValue (tyX11 j) = cv E (vp_V [.null] j) := fun E j hj => by
  have : j = 0 := by omega
  subst this; rfl
theorem dfX12 : ∀ (E : EE) (j : Nat), j < 2 → defaultValue (tyX12 j) = cv E (vp_V [.null, .null] j) := fun E j hj => by
  have : j = 0 ∨ j = 1 := by omega
  rcases this with rfl | rfl <;> rfl
theorem dfX13 : ∀ (E : EE) (j : Nat), j < 3 → defaultValue (tyX13 j) = cv E (vp_V [.int 0, .null, .null] j) := fun E j hj => by
  have : j = 0 ∨ j = 1 ∨ j = 2 := by omega
  rcases this with rfl | rfl | rfl <;> rfl
theorem dfX14 : ∀ (E : EE) (j : Nat), j < 2 → defaultValue (tyX14 j) = cv E (vp_V [.int 0, .null] j) := fun E j hj => by
  have : j = 0 ∨ j = 1 := by omega
  rcases this with rfl | rfl <;> rfl
theorem dfX15 : ∀ (E : EE) (j : Nat), j < 5 → defaultValue (tyX15 j) = cv E (vp_V [.int 0, .int 0, .int 0, .int 0, .int 0] j) := fun E j hj => by
  have : j = 0 ∨ j = 1 ∨ j = 2 ∨ j = 3 ∨ j = 4 := by omega
  rcases this with rfl | rfl | rfl | rfl | rfl <;> rfl
theorem dfJ2 : ∀ (E : EE) (j : Nat), j < 3 → defaultValue (tyJ2 j) = cv E (vp_V [.int 0, .null, .int 0] j) := fun E j hj => by
  have : j = 0 ∨ j = 1 ∨ j = 2 := by omega
  rcases this with rfl | rfl | rfl <;> rfl
theorem sset_push {b : AH} {k : Nat} {c c1 : AC} {w : Nat} (h : k < 512 + b.n) : (b.set k c).push c1 w = (b.push c1 w).set k c := by
  refine congrArg (fun z => (b.n + 1, b.u + w, z)) (funext fun j => ?_)
  show (if j = 512 + b.n then some c1 else if j = k then some c else b.g j) = (if j = k then some c else if j = 512 + b.n then some c1 else b.g j)
  by_cases e : j = k
  · rw [if_pos e, if_neg (by omega), if_pos e]
  · rw [if_neg e, if_neg e]
theorem sset_set {b : AH} {k k2 : Nat} {c c1 : AC} (h : k ≠ k2) : (b.set k c).set k2 c1 = (b.set k2 c1).set k c := by
  refine congrArg (fun z => (b.n, b.u, z)) (funext fun j => ?_)
  show (if j = k2 then some c1 else if j = k then some c else b.g j) = (if j = k then some c else if j = k2 then some c1 else b.g j)
  by_cases e : j = k
  · rw [if_pos e, if_neg (by omega), if_pos e]
  · rw [if_neg e, if_neg e]
theorem hsb {s : Sg} {b b2 : AH} (h : b = b2) : hp (s.setb b) = hp (s.setb b2) := congrArg (fun z => hp (s.setb z)) h
theorem r_J10_init {h : AH} {a : Nat} : Run 2 mJ10_init [.ref a] h (.inl none) h := by
  refine Run.of rfl (Nat.le_of_ble_eq_true rfl) rfl ?_
  refine AW.aload_n dJ10_init_0 rfl rfl ?_
  refine AW.obj dJ10_init_1 q549 q178 q179 (by decide) rfl (by decide) rfl ?_
  exact AW.vretE dJ10_init_4 rfl rfl rfl
theorem r_X7_init {s : Sg} {a : Nat} (ha : 640 ≤ a) (ga : s.b.g a = some (.inr (7, [.int 0]))) (v0 : Int32) : Run 3 mX7_init [.ref a, .int v0] (hp s) (.inl none) (hp (s.setb (s.b.set a (.inr (7, [.int v0]))))) := by
  refine Run.of rfl (Nat.le_of_ble_eq_true rfl) rfl ?_
  refine AW.aload_n dX7_init_0 rfl rfl ?_
  refine AW.callI (Y := mJ10_init) (n := 0) (r_J10_init) (by decide) (by decide) rfl q546 q547 q156 q548 dX7_init_1 rfl (by decide +kernel) rfl rfl (Nat.le_of_ble_eq_true rfl) rfl ?_
  refine AW.aload_n dX7_init_4 rfl rfl ?_
  refine AW.iload_n dX7_init_5 rfl rfl ?_
  refine AW.putF ci7 0 (by decide) q550 dX7_init_6 (by omega) (by first | exact (hp_gb (nfx ha)).trans ga | exact (hp_gb (nfx ha)).trans set_g) rfl rfl rfl (fun _ => rfl) (fun _ => rfl) (Nat.le_of_ble_eq_true rfl) (hp_set6 ha) rfl ?_
  exact AW.vretE dX7_init_9 rfl rfl rfl
theorem r_X8_init {s : Sg} {a : Nat} (ha : 640 ≤ a) (ga : s.b.g a = some (.inr (8, [.null, .null]))) (v0 : Nat) (v1 : Nat) : Run 3 mX8_init [.ref a, .ref v0, .ref v1] (hp s) (.inl none) (hp (s.setb (s.b.set a (.inr (8, [.ref v0, .ref v1]))))) := by
  refine Run.of rfl (Nat.le_of_ble_eq_true rfl) rfl ?_
  refine AW.aload_n dX8_init_0 rfl rfl ?_
  refine AW.callI (Y := mJ10_init) (n := 0) (r_J10_init) (by decide) (by decide) rfl q571 q547 q156 q548 dX8_init_1 rfl (by decide +kernel) rfl rfl (Nat.le_of_ble_eq_true rfl) rfl ?_
  refine AW.aload_n dX8_init_4 rfl rfl ?_
  refine AW.aload_n dX8_init_5 rfl rfl ?_
  refine AW.putF ci8 0 (by decide) q572 dX8_init_6 (by omega) (by first | exact (hp_gb (nfx ha)).trans ga | exact (hp_gb (nfx ha)).trans set_g) rfl rfl rfl (fun _ => rfl) (fun _ => rfl) (Nat.le_of_ble_eq_true rfl) (hp_set6 ha) rfl ?_
  refine AW.aload_n dX8_init_9 rfl rfl ?_
  refine AW.aload_n dX8_init_10 rfl rfl ?_
  refine AW.putF ci8 1 (by decide) q573 dX8_init_11 (by omega) (by first | exact (hp_gb (nfx ha)).trans ga | exact (hp_gb (nfx ha)).trans set_g) rfl rfl rfl (fun _ => rfl) (fun _ => rfl) (Nat.le_of_ble_eq_true rfl) ((hp_set6 ha).trans (hsb (s := s) set_set)) rfl ?_
  exact AW.vretE dX8_init_14 rfl rfl rfl
theorem r_X9_init {s : Sg} {a : Nat} (ha : 640 ≤ a) (ga : s.b.g a = some (.inr (9, [.int 0]))) (v0 : Int32) : Run 3 mX9_init [.ref a, .int v0] (hp s) (.inl none) (hp (s.setb (s.b.set a (.inr (9, [.int v0]))))) := by
  refine Run.of rfl (Nat.le_of_ble_eq_true rfl) rfl ?_
  refine AW.aload_n dX9_init_0 rfl rfl ?_
  refine AW.callI (Y := mJ10_init) (n := 0) (r_J10_init) (by decide) (by decide) rfl q592 q547 q156 q548 dX9_init_1 rfl (by decide +kernel) rfl rfl (Nat.le_of_ble_eq_true rfl) rfl ?_
  refine AW.aload_n dX9_init_4 rfl rfl ?_
  refine AW.iload_n dX9_init_5 rfl rfl ?_
  refine AW.putF ci9 0 (by decide) q593 dX9_init_6 (by omega) (by first | exact (hp_gb (nfx ha)).trans ga | exact (hp_gb (nfx ha)).trans set_g) rfl rfl rfl (fun _ => rfl) (fun _ => rfl) (Nat.le_of_ble_eq_true rfl) (hp_set6 ha) rfl ?_
  exact AW.vretE dX9_init_9 rfl rfl rfl
theorem r_X10_init {s : Sg} {a : Nat} (ha : 640 ≤ a) (ga : s.b.g a = some (.inr (10, [.null]))) (v0 : Nat) : Run 3 mX10_init [.ref a, .ref v0] (hp s) (.inl none) (hp (s.setb (s.b.set a (.inr (10, [.ref v0]))))) := by
  refine Run.of rfl (Nat.le_of_ble_eq_true rfl) rfl ?_
  refine AW.aload_n dX10_init_0 rfl rfl ?_
  refine AW.callI (Y := mJ10_init) (n := 0) (r_J10_init) (by decide) (by decide) rfl q602 q547 q156 q548 dX10_init_1 rfl (by decide +kernel) rfl rfl (Nat.le_of_ble_eq_true rfl) rfl ?_
  refine AW.aload_n dX10_init_4 rfl rfl ?_
  refine AW.aload_n dX10_init_5 rfl rfl ?_
  refine AW.putF ci10 0 (by decide) q603 dX10_init_6 (by omega) (by first | exact (hp_gb (nfx ha)).trans ga | exact (hp_gb (nfx ha)).trans set_g) rfl rfl rfl (fun _ => rfl) (fun _ => rfl) (Nat.le_of_ble_eq_true rfl) (hp_set6 ha) rfl ?_
  exact AW.vretE dX10_init_9 rfl rfl rfl
theorem r_X11_init {s : Sg} {a : Nat} (ha : 640 ≤ a) (ga : s.b.g a = some (.inr (11, [.null]))) (v0 : Nat) : Run 3 mX11_init [.ref a, .ref v0] (hp s) (.inl none) (hp (s.setb (s.b.set a (.inr (11, [.ref v0]))))) := by
  refine Run.of rfl (Nat.le_of_ble_eq_true rfl) rfl ?_
  refine AW.aload_n dX11_init_0 rfl rfl ?_
  refine AW.callI (Y := mJ10_init) (n := 0) (r_J10_init) (by decide) (by decide) rfl q735 q547 q156 q548 dX11_init_1 rfl (by decide +kernel) rfl rfl (Nat.le_of_ble_eq_true rfl) rfl ?_
  refine AW.aload_n dX11_init_4 rfl rfl ?_
  refine AW.aload_n dX11_init_5 rfl rfl ?_
  refine AW.putF ci11 0 (by decide) q736 dX11_init_6 (by omega) (by first | exact (hp_gb (nfx ha)).trans ga | exact (hp_gb (nfx ha)).trans set_g) rfl rfl rfl (fun _ => rfl) (fun _ => rfl) (Nat.le_of_ble_eq_true rfl) (hp_set6 ha) rfl ?_
  exact AW.vretE dX11_init_9 rfl rfl rfl
theorem r_X12_init {s : Sg} {a : Nat} (ha : 640 ≤ a) (ga : s.b.g a = some (.inr (12, [.null, .null]))) (v0 : Nat) (v1 : Nat) : Run 3 mX12_init [.ref a, .ref v0, .ref v1] (hp s) (.inl none) (hp (s.setb (s.b.set a (.inr (12, [.ref v0, .ref v1]))))) := by
  refine Run.of rfl (Nat.le_of_ble_eq_true rfl) rfl ?_
  refine AW.aload_n dX12_init_0 rfl rfl ?_
  refine AW.callI (Y := mJ10_init) (n := 0) (r_J10_init) (by decide) (by decide) rfl q749 q547 q156 q548 dX12_init_1 rfl (by decide +kernel) rfl rfl (Nat.le_of_ble_eq_true rfl) rfl ?_
  refine AW.aload_n dX12_init_4 rfl rfl ?_
  refine AW.aload_n dX12_init_5 rfl rfl ?_
  refine AW.putF ci12 0 (by decide) q750 dX12_init_6 (by omega) (by first | exact (hp_gb (nfx ha)).trans ga | exact (hp_gb (nfx ha)).trans set_g) rfl rfl rfl (fun _ => rfl) (fun _ => rfl) (Nat.le_of_ble_eq_true rfl) (hp_set6 ha) rfl ?_
  refine AW.aload_n dX12_init_9 rfl rfl ?_
  refine AW.aload_n dX12_init_10 rfl rfl ?_
  refine AW.putF ci12 1 (by decide) q751 dX12_init_11 (by omega) (by first | exact (hp_gb (nfx ha)).trans ga | exact (hp_gb (nfx ha)).trans set_g) rfl rfl rfl (fun _ => rfl) (fun _ => rfl) (Nat.le_of_ble_eq_true rfl) ((hp_set6 ha).trans (hsb (s := s) set_set)) rfl ?_
  exact AW.vretE dX12_init_14 rfl rfl rfl
theorem r_X13_init {s : Sg} {a : Nat} (ha : 640 ≤ a) (ga : s.b.g a = some (.inr (13, [.int 0, .null, .null]))) (v0 : Int32) (v1 : Nat) (v2 : Nat) : Run 3 mX13_init [.ref a, .int v0, .ref v1, .ref v2] (hp s) (.inl none) (hp (s.setb (s.b.set a (.inr (13, [.int v0, .ref v1, .ref v2]))))) := by
  refine Run.of rfl (Nat.le_of_ble_eq_true rfl) rfl ?_
  refine AW.aload_n dX13_init_0 rfl rfl ?_
  refine AW.callI (Y := mJ10_init) (n := 0) (r_J10_init) (by decide) (by decide) rfl q762 q547 q156 q548 dX13_init_1 rfl (by decide +kernel) rfl rfl (Nat.le_of_ble_eq_true rfl) rfl ?_
  refine AW.aload_n dX13_init_4 rfl rfl ?_
  refine AW.iload_n dX13_init_5 rfl rfl ?_
  refine AW.putF ci13 0 (by decide) q763 dX13_init_6 (by omega) (by first | exact (hp_gb (nfx ha)).trans ga | exact (hp_gb (nfx ha)).trans set_g) rfl rfl rfl (fun _ => rfl) (fun _ => rfl) (Nat.le_of_ble_eq_true rfl) (hp_set6 ha) rfl ?_
  refine AW.aload_n dX13_init_9 rfl rfl ?_
  refine AW.aload_n dX13_init_10 rfl rfl ?_
  refine AW.putF ci13 1 (by decide) q764 dX13_init_11 (by omega) (by first | exact (hp_gb (nfx ha)).trans ga | exact (hp_gb (nfx ha)).trans set_g) rfl rfl rfl (fun _ => rfl) (fun _ => rfl) (Nat.le_of_ble_eq_true rfl) ((hp_set6 ha).trans (hsb (s := s) set_set)) rfl ?_
  refine AW.aload_n dX13_init_14 rfl rfl ?_
  refine AW.aload_n dX13_init_15 rfl rfl ?_
  refine AW.putF ci13 2 (by decide) q765 dX13_init_16 (by omega) (by first | exact (hp_gb (nfx ha)).trans ga | exact (hp_gb (nfx ha)).trans set_g) rfl rfl rfl (fun _ => rfl) (fun _ => rfl) (Nat.le_of_ble_eq_true rfl) ((hp_set6 ha).trans (hsb (s := s) set_set)) rfl ?_
  exact AW.vretE dX13_init_19 rfl rfl rfl
theorem r_X14_init {s : Sg} {a : Nat} (ha : 640 ≤ a) (ga : s.b.g a = some (.inr (14, [.int 0, .null]))) (v0 : Bool) (v1 : Nat) : Run 3 mX14_init [.ref a, .int (b2i v0), .ref v1] (hp s) (.inl none) (hp (s.setb (s.b.set a (.inr (14, [.int (b2i v0), .ref v1]))))) := by
  refine Run.of rfl (Nat.le_of_ble_eq_true rfl) rfl ?_
  refine AW.aload_n dX14_init_0 rfl rfl ?_
  refine AW.callI (Y := mJ10_init) (n := 0) (r_J10_init) (by decide) (by decide) rfl q796 q547 q156 q548 dX14_init_1 rfl (by decide +kernel) rfl rfl (Nat.le_of_ble_eq_true rfl) rfl ?_
  refine AW.aload_n dX14_init_4 rfl rfl ?_
  refine AW.iload_n dX14_init_5 rfl rfl ?_
  refine AW.putF ci14 0 (by decide) q797 dX14_init_6 (by omega) (by first | exact (hp_gb (nfx ha)).trans ga | exact (hp_gb (nfx ha)).trans set_g) rfl rfl rfl (fun _ => nz_b v0) (fun _ => by cases v0 <;> rfl) (Nat.le_of_ble_eq_true rfl) (hp_set6 ha) rfl ?_
  refine AW.aload_n dX14_init_9 rfl rfl ?_
  refine AW.aload_n dX14_init_10 rfl rfl ?_
  refine AW.putF ci14 1 (by decide) q798 dX14_init_11 (by omega) (by first | exact (hp_gb (nfx ha)).trans ga | exact (hp_gb (nfx ha)).trans set_g) rfl rfl rfl (fun _ => rfl) (fun _ => by cases v0 <;> rfl) (Nat.le_of_ble_eq_true rfl) ((hp_set6 ha).trans (hsb (s := s) set_set)) rfl ?_
  exact AW.vretE dX14_init_14 rfl rfl rfl
theorem r_X15_init {s : Sg} {a : Nat} (ha : 640 ≤ a) (ga : s.b.g a = some (.inr (15, [.int 0, .int 0, .int 0, .int 0, .int 0]))) (v0 : Int32) (v1 : Int32) (v2 : Int32) (v3 : Int32) (v4 : Int32) : Run 3 mX15_init [.ref a, .int v0, .int v1, .int v2, .int v3, .int v4] (hp s) (.inl none) (hp (s.setb (s.b.set a (.inr (15, [.int v0, .int v1, .int v2, .int v3, .int v4]))))) := by
  refine Run.of rfl (Nat.le_of_ble_eq_true rfl) rfl ?_
  refine AW.aload_n dX15_init_0 rfl rfl ?_
  refine AW.callI (Y := mJ10_init) (n := 0) (r_J10_init) (by decide) (by decide) rfl q817 q547 q156 q548 dX15_init_1 rfl (by decide +kernel) rfl rfl (Nat.le_of_ble_eq_true rfl) rfl ?_
  refine AW.aload_n dX15_init_4 rfl rfl ?_
  refine AW.iload_n dX15_init_5 rfl rfl ?_
  refine AW.putF ci15 0 (by decide) q818 dX15_init_6 (by omega) (by first | exact (hp_gb (nfx ha)).trans ga | exact (hp_gb (nfx ha)).trans set_g) rfl rfl rfl (fun _ => rfl) (fun _ => rfl) (Nat.le_of_ble_eq_true rfl) (hp_set6 ha) rfl ?_
  refine AW.aload_n dX15_init_9 rfl rfl ?_
  refine AW.iload_n dX15_init_10 rfl rfl ?_
  refine AW.putF ci15 1 (by decide) q819 dX15_init_11 (by omega) (by first | exact (hp_gb (nfx ha)).trans ga | exact (hp_gb (nfx ha)).trans set_g) rfl rfl rfl (fun _ => rfl) (fun _ => rfl) (Nat.le_of_ble_eq_true rfl) ((hp_set6 ha).trans (hsb (s := s) set_set)) rfl ?_
  refine AW.aload_n dX15_init_14 rfl rfl ?_
  refine AW.iload_n dX15_init_15 rfl rfl ?_
  refine AW.putF ci15 2 (by decide) q820 dX15_init_16 (by omega) (by first | exact (hp_gb (nfx ha)).trans ga | exact (hp_gb (nfx ha)).trans set_g) rfl rfl rfl (fun _ => rfl) (fun _ => rfl) (Nat.le_of_ble_eq_true rfl) ((hp_set6 ha).trans (hsb (s := s) set_set)) rfl ?_
  refine AW.aload_n dX15_init_19 rfl rfl ?_
  refine AW.iload dX15_init_20 rfl rfl ?_
  refine AW.putF ci15 3 (by decide) q821 dX15_init_22 (by omega) (by first | exact (hp_gb (nfx ha)).trans ga | exact (hp_gb (nfx ha)).trans set_g) rfl rfl rfl (fun _ => rfl) (fun _ => rfl) (Nat.le_of_ble_eq_true rfl) ((hp_set6 ha).trans (hsb (s := s) set_set)) rfl ?_
  refine AW.aload_n dX15_init_25 rfl rfl ?_
  refine AW.iload dX15_init_26 rfl rfl ?_
  refine AW.putF ci15 4 (by decide) q822 dX15_init_28 (by omega) (by first | exact (hp_gb (nfx ha)).trans ga | exact (hp_gb (nfx ha)).trans set_g) rfl rfl rfl (fun _ => rfl) (fun _ => rfl) (Nat.le_of_ble_eq_true rfl) ((hp_set6 ha).trans (hsb (s := s) set_set)) rfl ?_
  exact AW.vretE dX15_init_31 rfl rfl rfl
/-- an exception's cell -/
def wrC (q : Nat) (x y : Int32) : AC := .inr (5, [.ref q, .float 0, .float 1, .null, .null, .int 0, .int x, .int y])
theorem r_X5_init {s : Sg} {a : Nat} (ha : 640 ≤ a) (ga : s.b.g a = some (.inr (5, [.null, .null, .null, .null, .null, .int 0, .int 0, .int 0]))) (x y : Int32) : Run 6 mX5_init [.ref a, .int x, .int y] (hp s) (.inl none) (hp (s.setb (s.b.set a (wrC a x y)))) := by
  refine Run.of rfl (Nat.le_of_ble_eq_true rfl) rfl ?_
  refine AW.aload_n dX5_init_0 rfl rfl ?_
  refine AW.superE dX5_init_1 rfl (by omega) ((hp_gb (nfx ha)).trans ga) (by decide) (Nat.le_of_ble_eq_true rfl) (hp_set6 ha) rfl ?_
  refine AW.aload_n dX5_init_4 rfl rfl ?_
  refine AW.iload_n dX5_init_5 rfl rfl ?_
  refine AW.putF ci5 6 (by decide) q503 dX5_init_6 (by omega) (by first | exact (hp_gb (nfx ha)).trans set_g) rfl rfl rfl (fun _ => rfl) (fun _ => rfl) (Nat.le_of_ble_eq_true rfl) ((hp_set6 ha).trans (hsb (s := s) set_set)) rfl ?_
  refine AW.aload_n dX5_init_9 rfl rfl ?_
  refine AW.iload_n dX5_init_10 rfl rfl ?_
  refine AW.putF ci5 7 (by decide) q505 dX5_init_11 (by omega) (by first | exact (hp_gb (nfx ha)).trans set_g) rfl rfl rfl (fun _ => rfl) (fun _ => rfl) (Nat.le_of_ble_eq_true rfl) ((hp_set6 ha).trans (hsb (s := s) set_set)) rfl ?_
  exact AW.vretE dX5_init_14 rfl rfl rfl
section TKH
variable {s : Sg} {T n : Nat} {at_ tk so nu op kd : Int32}
theorem tk_push (hTl : T < 512 + s.b.n) (hb : 128 ≤ s.b.n) {c : AC} {w : Nat} : (hp (tkS s T n at_ tk so nu op kd)).push c w = hp (tkS (s.setb (s.b.push c w)) T n at_ tk so nu op kd) := (hp_push (s := tkS s T n at_ tk so nu op kd) hb).trans (hsb (s := s) (sset_push hTl))
theorem tk_set {q : Nat} (hq : 640 ≤ q) (hqT : T ≠ q) {c : AC} : (hp (tkS s T n at_ tk so nu op kd)).set q c = hp (tkS (s.setb (s.b.set q c)) T n at_ tk so nu op kd) := (hp_set6 hq).trans (hsb (s := s) (sset_set hqT))
theorem tk_g {q : Nat} (hq : isFx q = false) (hqT : q ≠ T) : (hp (tkS s T n at_ tk so nu op kd)).g q = s.b.g q := (hp_gb hq).trans (set_go hqT)
theorem tk_cm {q : Nat} (hqT : T ≠ q) {c : AC} : hp ((tkS s T n at_ tk so nu op kd).setb ((tkS s T n at_ tk so nu op kd).b.set q c)) = hp (tkS (s.setb (s.b.set q c)) T n at_ tk so nu op kd) := hsb (s := s) (sset_set hqT)
end TKH
theorem r_X3_wrong {s : Sg} {T n : Nat} (hT : 640 ≤ T) (hTl : T < 512 + s.b.n) (hb : 128 ≤ s.b.n) {at_ tk so nu op kd : Int32} (f : Int32) : Run 8 mX3_wrong [.ref T, .int f] (hp (tkS s T n (at_) (tk) (so) (nu) (op) (kd))) (.inl (some (.ref (512 + s.b.n)))) (hp (tkS (s.setb (s.b.push (wrC (512 + s.b.n) f tk) 8)) T n (at_) (tk) (so) (nu) (op) (kd))) := by
  refine Run.of rfl (Nat.le_of_ble_eq_true rfl) rfl ?_
  refine AW.new ci5 dX3_wrong_0 q459 q460 q154 dfX5 (tk_push hTl hb) rfl ?_
  refine AW.dup dX3_wrong_3 rfl rfl ?_
  refine AW.iload_n dX3_wrong_4 rfl rfl ?_
  refine AW.aload_n dX3_wrong_5 rfl rfl ?_
  refine AW.get ci3 3 (by decide) q307 dX3_wrong_6 (gTk hT) rfl rfl ?_
  have hi_ := r_X5_init (s := tkS (s.setb (s.b.push (.inr (5, [.null, .null, .null, .null, .null, .int 0, .int 0, .int 0])) 8)) T n at_ tk so nu op kd) (a := (512 + s.b.n)) (by omega) ((set_go (by omega)).trans push_g) f tk
  rw [tk_cm (by omega)] at hi_
  rw [show (s.setb (s.b.push (.inr (5, [.null, .null, .null, .null, .null, .int 0, .int 0, .int 0])) 8)).setb ((s.setb (s.b.push (.inr (5, [.null, .null, .null, .null, .null, .int 0, .int 0, .int 0])) 8)).b.set (512 + s.b.n) (wrC (512 + s.b.n) f tk)) = s.setb (s.b.push (wrC (512 + s.b.n) f tk) 8) from congrArg s.setb push_set] at hi_
  refine AW.callI (Y := mX5_init) (n := 2) (hi_) (by decide) (by decide) rfl q496 q497 q154 q498 dX3_wrong_9 rfl (by decide +kernel) rfl rfl (Nat.le_of_ble_eq_true rfl) rfl ?_
  exact AW.aretE dX3_wrong_12 rfl (Or.inl ⟨_, rfl⟩) (Or.inr ⟨_, rfl⟩) rfl rfl rfl
theorem r_X3_want_f {s : Sg} {T n : Nat} (hT : 640 ≤ T) (hTl : T < 512 + s.b.n) (hb : 128 ≤ s.b.n) {at_ tk so nu op kd : Int32} (w : Int32) (h : ¬ so = w) : Run 10 mX3_want [.ref T, .int w] (hp (tkS s T n (at_) (tk) (so) (nu) (op) (kd))) (.inr (512 + s.b.n)) (hp (tkS (s.setb (s.b.push (wrC (512 + s.b.n) 1 tk) 8)) T n (at_) (tk) (so) (nu) (op) (kd))) := by
  refine Run.ofX rfl (Nat.le_of_ble_eq_true rfl) rfl ?_
  refine AW.aload_n dX3_want_0 rfl rfl ?_
  refine AW.get ci3 4 (by decide) q308 dX3_want_1 (gTk hT) rfl rfl ?_
  refine AW.iload_n dX3_want_4 rfl rfl ?_
  refine AW.icmp_eq (tgt := 14) dX3_want_5 (by decide) rfl (fun c_ => by first | exact absurd c_ h | exact absurd h c_ | exact Bool.noConfusion (c_.symm.trans h)) (fun _ => ?_)
  refine AW.aload_n dX3_want_8 rfl rfl ?_
  refine AW.iconst (v := 1) dX3_want_9 (by decide) rfl ?_
  refine AW.callV (Y := mX3_wrong) (n := 1) (r_X3_wrong hT hTl hb 1) (by decide) (by decide) rfl (gTk hT) q455 q457 qs3 q142 q458 dX3_want_10 (by decide +kernel) rfl rfl (Nat.le_of_ble_eq_true rfl) rfl ?_
  exact AW.athrow dX3_want_13 q565 (by omega) ((tk_g (nfx (by omega)) (by omega)).trans push_g) rfl
theorem r_X3_number_1 {s : Sg} {T n : Nat} (hT : 640 ≤ T) (hTl : T < 512 + s.b.n) (hb : 128 ≤ s.b.n) {at_ tk so nu op kd : Int32} (lo hi : Int32) (h : ¬ so = 300) : Run 10 mX3_number [.ref T, .int lo, .int hi] (hp (tkS s T n (at_) (tk) (so) (nu) (op) (kd))) (.inr (512 + s.b.n)) (hp (tkS (s.setb (s.b.push (wrC (512 + s.b.n) 1 tk) 8)) T n (at_) (tk) (so) (nu) (op) (kd))) := by
  refine Run.ofX rfl (Nat.le_of_ble_eq_true rfl) rfl ?_
  refine AW.aload_n dX3_number_0 rfl rfl ?_
  refine AW.get ci3 4 (by decide) q308 dX3_number_1 (gTk hT) rfl rfl ?_
  refine AW.sipush (v := 300) dX3_number_4 (by decide) rfl ?_
  refine AW.icmp_eq (tgt := 16) dX3_number_7 (by decide) rfl (fun c_ => by first | exact absurd c_ h | exact absurd h c_ | exact Bool.noConfusion (c_.symm.trans h)) (fun _ => ?_)
  refine AW.aload_n dX3_number_10 rfl rfl ?_
  refine AW.iconst (v := 1) dX3_number_11 (by decide) rfl ?_
  refine AW.callV (Y := mX3_wrong) (n := 1) (r_X3_wrong hT hTl hb 1) (by decide) (by decide) rfl (gTk hT) q455 q457 qs3 q142 q458 dX3_number_12 (by decide +kernel) rfl rfl (Nat.le_of_ble_eq_true rfl) rfl ?_
  exact AW.athrow dX3_number_15 q542 (by omega) ((tk_g (nfx (by omega)) (by omega)).trans push_g) rfl
theorem r_X3_number_2 {s : Sg} {T n : Nat} (hT : 640 ≤ T) (hTl : T < 512 + s.b.n) (hb : 128 ≤ s.b.n) {at_ tk so nu op kd : Int32} (lo hi : Int32) (h : so = 300) (h2 : inI nu lo hi = false) : Run 10 mX3_number [.ref T, .int lo, .int hi] (hp (tkS s T n (at_) (tk) (so) (nu) (op) (kd))) (.inr (512 + s.b.n)) (hp (tkS (s.setb (s.b.push (wrC (512 + s.b.n) 2 tk) 8)) T n (at_) (tk) (so) (nu) (op) (kd))) := by
  refine Run.ofX rfl (Nat.le_of_ble_eq_true rfl) rfl ?_
  refine AW.aload_n dX3_number_0 rfl rfl ?_
  refine AW.get ci3 4 (by decide) q308 dX3_number_1 (gTk hT) rfl rfl ?_
  refine AW.sipush (v := 300) dX3_number_4 (by decide) rfl ?_
  refine AW.icmp_eq (tgt := 16) dX3_number_7 (by decide) rfl (fun _ => ?_) (fun c_ => by first | exact absurd c_ h | exact absurd h c_ | exact absurd c_ (not_not_intro h) | exact Bool.noConfusion (c_.symm.trans h))
  refine AW.aload_n dX3_number_16 rfl rfl ?_
  refine AW.get ci3 5 (by decide) q309 dX3_number_17 (gTk hT) rfl rfl ?_
  refine AW.iload_n dX3_number_20 rfl rfl ?_
  refine AW.icmp_lt (tgt := 32) dX3_number_21 (by decide) rfl (fun c21 => ?_) (fun c21 => ?_)
  · refine AW.aload_n dX3_number_32 rfl rfl ?_
    refine AW.iconst (v := 2) dX3_number_33 (by decide) rfl ?_
    refine AW.callV (Y := mX3_wrong) (n := 1) (r_X3_wrong hT hTl hb 2) (by decide) (by decide) rfl (gTk hT) q455 q457 qs3 q142 q458 dX3_number_34 (by decide +kernel) rfl rfl (Nat.le_of_ble_eq_true rfl) rfl ?_
    exact AW.athrow dX3_number_37 q542 (by omega) ((tk_g (nfx (by omega)) (by omega)).trans push_g) rfl
  · refine AW.aload_n dX3_number_24 rfl rfl ?_
    refine AW.get ci3 5 (by decide) q309 dX3_number_25 (gTk hT) rfl rfl ?_
    refine AW.iload_n dX3_number_28 rfl rfl ?_
    refine AW.icmp_le (tgt := 38) dX3_number_29 (by decide) rfl (fun c29 => ?_) (fun c29 => ?_)
    · exact absurd (show inI nu lo hi = true by unfold inI; rw [dec_t (Int32.not_lt.mp c21), dec_t c29]; rfl) (by rw [h2]; decide)
    · refine AW.aload_n dX3_number_32 rfl rfl ?_
      refine AW.iconst (v := 2) dX3_number_33 (by decide) rfl ?_
      refine AW.callV (Y := mX3_wrong) (n := 1) (r_X3_wrong hT hTl hb 2) (by decide) (by decide) rfl (gTk hT) q455 q457 qs3 q142 q458 dX3_number_34 (by decide +kernel) rfl rfl (Nat.le_of_ble_eq_true rfl) rfl ?_
      exact AW.athrow dX3_number_37 q542 (by omega) ((tk_g (nfx (by omega)) (by omega)).trans push_g) rfl
theorem r_X3_opens_f {s : Sg} {T n : Nat} (hT : 640 ≤ T) (hTl : T < 512 + s.b.n) (hb : 128 ≤ s.b.n) {at_ tk so nu op kd : Int32} (h : op = 8) : Run 10 mX3_opens [.ref T] (hp (tkS s T n (at_) (tk) (so) (nu) (op) (kd))) (.inr (512 + s.b.n)) (hp (tkS (s.setb (s.b.push (wrC (512 + s.b.n) 3 tk) 8)) T n (at_) (tk) (so) (nu) (op) (kd))) := by
  refine Run.ofX rfl (Nat.le_of_ble_eq_true rfl) rfl ?_
  refine AW.aload_n dX3_opens_0 rfl rfl ?_
  refine AW.get ci3 6 (by decide) q310 dX3_opens_1 (gTk hT) rfl rfl ?_
  refine AW.bipush (v := 8) dX3_opens_4 (by decide) rfl ?_
  refine AW.icmp_ne (tgt := 15) dX3_opens_6 (by decide) rfl (fun c_ => by first | exact absurd c_ h | exact absurd h c_ | exact Bool.noConfusion (c_.symm.trans h)) (fun _ => ?_)
  refine AW.aload_n dX3_opens_9 rfl rfl ?_
  refine AW.iconst (v := 3) dX3_opens_10 (by decide) rfl ?_
  refine AW.callV (Y := mX3_wrong) (n := 1) (r_X3_wrong hT hTl hb 3) (by decide) (by decide) rfl (gTk hT) q455 q457 qs3 q142 q458 dX3_opens_11 (by decide +kernel) rfl rfl (Nat.le_of_ble_eq_true rfl) rfl ?_
  exact AW.athrow dX3_opens_14 q561 (by omega) ((tk_g (nfx (by omega)) (by omega)).trans push_g) rfl
theorem r_X3_mayName {s : Sg} {T n : Nat} (hT : 640 ≤ T) {at_ tk so nu op kd : Int32} (w : Int32) : Run 1 mX3_mayName [.ref T, .int w] (hp (tkS s T n (at_) (tk) (so) (nu) (op) (kd))) (.inl (some (.int (b2i (decide (w < 7) || !decide (kd = 202)))))) (hp (tkS s T n (at_) (tk) (so) (nu) (op) (kd))) := by
  refine Run.of rfl (Nat.le_of_ble_eq_true rfl) rfl ?_
  refine AW.iload_n dX3_mayName_0 rfl rfl ?_
  refine AW.bipush (v := 7) dX3_mayName_1 (by decide) rfl ?_
  refine AW.icmp_lt (tgt := 16) dX3_mayName_3 (by decide) rfl (fun c3 => ?_) (fun c3 => ?_)
  · refine AW.iconst (v := 1) dX3_mayName_16 (by decide) rfl ?_
    refine AW.goto (tgt := 21) dX3_mayName_17 (by decide) ?_
    exact AW.bretE dX3_mayName_21 rfl rfl (by first | (rw [dec_t c3]; rfl) | (rw [dec_f c3, dec_t (Classical.not_not.mp c13)]; rfl) | (rw [dec_f c3, dec_t c13]; rfl) | (rw [dec_f c3, dec_f c13]; rfl)) rfl
  · refine AW.aload_n dX3_mayName_6 rfl rfl ?_
    refine AW.get ci3 7 (by decide) q311 dX3_mayName_7 (gTk hT) rfl rfl ?_
    refine AW.sipush (v := 202) dX3_mayName_10 (by decide) rfl ?_
    refine AW.icmp_eq (tgt := 20) dX3_mayName_13 (by decide) rfl (fun c13 => ?_) (fun c13 => ?_)
    · refine AW.iconst (v := 0) dX3_mayName_20 (by decide) rfl ?_
      exact AW.bretE dX3_mayName_21 rfl rfl (by first | (rw [dec_t c3]; rfl) | (rw [dec_f c3, dec_t (Classical.not_not.mp c13)]; rfl) | (rw [dec_f c3, dec_t c13]; rfl) | (rw [dec_f c3, dec_f c13]; rfl)) rfl
    · refine AW.iconst (v := 1) dX3_mayName_16 (by decide) rfl ?_
      refine AW.goto (tgt := 21) dX3_mayName_17 (by decide) ?_
      exact AW.bretE dX3_mayName_21 rfl rfl (by first | (rw [dec_t c3]; rfl) | (rw [dec_f c3, dec_t (Classical.not_not.mp c13)]; rfl) | (rw [dec_f c3, dec_t c13]; rfl) | (rw [dec_f c3, dec_f c13]; rfl)) rfl
def nmT (so : Int32) : Int32 := if so = 208 then 0 else if so = 218 then 1 else if so = 203 then 2 else if so = 209 then 3 else if so = 210 then 4 else if so = 219 then 5 else if so = 220 then 6 else if so = 221 then 7 else -1
theorem r_X3_nameNow {s : Sg} {T n : Nat} (hT : 640 ≤ T) {at_ tk so nu op kd : Int32} : Run 1 mX3_nameNow [.ref T] (hp (tkS s T n (at_) (tk) (so) (nu) (op) (kd))) (.inl (some (.int (nmT so)))) (hp (tkS s T n (at_) (tk) (so) (nu) (op) (kd))) := by
  refine Run.of rfl (Nat.le_of_ble_eq_true rfl) rfl ?_
  refine AW.aload_n dX3_nameNow_0 rfl rfl ?_
  refine AW.get ci3 4 (by decide) q308 dX3_nameNow_1 (gTk hT) rfl rfl ?_
  by_cases s4_0 : so = 203
  · refine AW.tableIn (off := 96) (tgt := 100) dX3_nameNow_4 (by rw [s4_0]; decide) (by rw [s4_0]; decide) (by rw [s4_0]; rfl) (by decide) ?_
    refine AW.iconst (v := 2) dX3_nameNow_100 (by decide) rfl ?_
    exact AW.iretE dX3_nameNow_101 rfl rfl (by unfold nmT; simp [*]) rfl
  by_cases s4_1 : so = 204
  · refine AW.tableIn (off := 110) (tgt := 114) dX3_nameNow_4 (by rw [s4_1]; decide) (by rw [s4_1]; decide) (by rw [s4_1]; rfl) (by decide) ?_
    refine AW.iconst (v := (-1)) dX3_nameNow_114 (by decide) rfl ?_
    exact AW.iretE dX3_nameNow_115 rfl rfl (by unfold nmT; simp [*]) rfl
  by_cases s4_2 : so = 205
  · refine AW.tableIn (off := 110) (tgt := 114) dX3_nameNow_4 (by rw [s4_2]; decide) (by rw [s4_2]; decide) (by rw [s4_2]; rfl) (by decide) ?_
    refine AW.iconst (v := (-1)) dX3_nameNow_114 (by decide) rfl ?_
    exact AW.iretE dX3_nameNow_115 rfl rfl (by unfold nmT; simp [*]) rfl
  by_cases s4_3 : so = 206
  · refine AW.tableIn (off := 110) (tgt := 114) dX3_nameNow_4 (by rw [s4_3]; decide) (by rw [s4_3]; decide) (by rw [s4_3]; rfl) (by decide) ?_
    refine AW.iconst (v := (-1)) dX3_nameNow_114 (by decide) rfl ?_
    exact AW.iretE dX3_nameNow_115 rfl rfl (by unfold nmT; simp [*]) rfl
  by_cases s4_4 : so = 207
  · refine AW.tableIn (off := 110) (tgt := 114) dX3_nameNow_4 (by rw [s4_4]; decide) (by rw [s4_4]; decide) (by rw [s4_4]; rfl) (by decide) ?_
    refine AW.iconst (v := (-1)) dX3_nameNow_114 (by decide) rfl ?_
    exact AW.iretE dX3_nameNow_115 rfl rfl (by unfold nmT; simp [*]) rfl
  by_cases s4_5 : so = 208
  · refine AW.tableIn (off := 92) (tgt := 96) dX3_nameNow_4 (by rw [s4_5]; decide) (by rw [s4_5]; decide) (by rw [s4_5]; rfl) (by decide) ?_
    refine AW.iconst (v := 0) dX3_nameNow_96 (by decide) rfl ?_
    exact AW.iretE dX3_nameNow_97 rfl rfl (by unfold nmT; simp [*]) rfl
  by_cases s4_6 : so = 209
  · refine AW.tableIn (off := 98) (tgt := 102) dX3_nameNow_4 (by rw [s4_6]; decide) (by rw [s4_6]; decide) (by rw [s4_6]; rfl) (by decide) ?_
    refine AW.iconst (v := 3) dX3_nameNow_102 (by decide) rfl ?_
    exact AW.iretE dX3_nameNow_103 rfl rfl (by unfold nmT; simp [*]) rfl
  by_cases s4_7 : so = 210
  · refine AW.tableIn (off := 100) (tgt := 104) dX3_nameNow_4 (by rw [s4_7]; decide) (by rw [s4_7]; decide) (by rw [s4_7]; rfl) (by decide) ?_
    refine AW.iconst (v := 4) dX3_nameNow_104 (by decide) rfl ?_
    exact AW.iretE dX3_nameNow_105 rfl rfl (by unfold nmT; simp [*]) rfl
  by_cases s4_8 : so = 211
  · refine AW.tableIn (off := 110) (tgt := 114) dX3_nameNow_4 (by rw [s4_8]; decide) (by rw [s4_8]; decide) (by rw [s4_8]; rfl) (by decide) ?_
    refine AW.iconst (v := (-1)) dX3_nameNow_114 (by decide) rfl ?_
    exact AW.iretE dX3_nameNow_115 rfl rfl (by unfold nmT; simp [*]) rfl
  by_cases s4_9 : so = 212
  · refine AW.tableIn (off := 110) (tgt := 114) dX3_nameNow_4 (by rw [s4_9]; decide) (by rw [s4_9]; decide) (by rw [s4_9]; rfl) (by decide) ?_
    refine AW.iconst (v := (-1)) dX3_nameNow_114 (by decide) rfl ?_
    exact AW.iretE dX3_nameNow_115 rfl rfl (by unfold nmT; simp [*]) rfl
  by_cases s4_10 : so = 213
  · refine AW.tableIn (off := 110) (tgt := 114) dX3_nameNow_4 (by rw [s4_10]; decide) (by rw [s4_10]; decide) (by rw [s4_10]; rfl) (by decide) ?_
    refine AW.iconst (v := (-1)) dX3_nameNow_114 (by decide) rfl ?_
    exact AW.iretE dX3_nameNow_115 rfl rfl (by unfold nmT; simp [*]) rfl
  by_cases s4_11 : so = 214
  · refine AW.tableIn (off := 110) (tgt := 114) dX3_nameNow_4 (by rw [s4_11]; decide) (by rw [s4_11]; decide) (by rw [s4_11]; rfl) (by decide) ?_
    refine AW.iconst (v := (-1)) dX3_nameNow_114 (by decide) rfl ?_
    exact AW.iretE dX3_nameNow_115 rfl rfl (by unfold nmT; simp [*]) rfl
  by_cases s4_12 : so = 215
  · refine AW.tableIn (off := 110) (tgt := 114) dX3_nameNow_4 (by rw [s4_12]; decide) (by rw [s4_12]; decide) (by rw [s4_12]; rfl) (by decide) ?_
    refine AW.iconst (v := (-1)) dX3_nameNow_114 (by decide) rfl ?_
    exact AW.iretE dX3_nameNow_115 rfl rfl (by unfold nmT; simp [*]) rfl
  by_cases s4_13 : so = 216
  · refine AW.tableIn (off := 110) (tgt := 114) dX3_nameNow_4 (by rw [s4_13]; decide) (by rw [s4_13]; decide) (by rw [s4_13]; rfl) (by decide) ?_
    refine AW.iconst (v := (-1)) dX3_nameNow_114 (by decide) rfl ?_
    exact AW.iretE dX3_nameNow_115 rfl rfl (by unfold nmT; simp [*]) rfl
  by_cases s4_14 : so = 217
  · refine AW.tableIn (off := 110) (tgt := 114) dX3_nameNow_4 (by rw [s4_14]; decide) (by rw [s4_14]; decide) (by rw [s4_14]; rfl) (by decide) ?_
    refine AW.iconst (v := (-1)) dX3_nameNow_114 (by decide) rfl ?_
    exact AW.iretE dX3_nameNow_115 rfl rfl (by unfold nmT; simp [*]) rfl
  by_cases s4_15 : so = 218
  · refine AW.tableIn (off := 94) (tgt := 98) dX3_nameNow_4 (by rw [s4_15]; decide) (by rw [s4_15]; decide) (by rw [s4_15]; rfl) (by decide) ?_
    refine AW.iconst (v := 1) dX3_nameNow_98 (by decide) rfl ?_
    exact AW.iretE dX3_nameNow_99 rfl rfl (by unfold nmT; simp [*]) rfl
  by_cases s4_16 : so = 219
  · refine AW.tableIn (off := 102) (tgt := 106) dX3_nameNow_4 (by rw [s4_16]; decide) (by rw [s4_16]; decide) (by rw [s4_16]; rfl) (by decide) ?_
    refine AW.iconst (v := 5) dX3_nameNow_106 (by decide) rfl ?_
    exact AW.iretE dX3_nameNow_107 rfl rfl (by unfold nmT; simp [*]) rfl
  by_cases s4_17 : so = 220
  · refine AW.tableIn (off := 104) (tgt := 108) dX3_nameNow_4 (by rw [s4_17]; decide) (by rw [s4_17]; decide) (by rw [s4_17]; rfl) (by decide) ?_
    refine AW.bipush (v := 6) dX3_nameNow_108 (by decide) rfl ?_
    exact AW.iretE dX3_nameNow_110 rfl rfl (by unfold nmT; simp [*]) rfl
  by_cases s4_18 : so = 221
  · refine AW.tableIn (off := 107) (tgt := 111) dX3_nameNow_4 (by rw [s4_18]; decide) (by rw [s4_18]; decide) (by rw [s4_18]; rfl) (by decide) ?_
    refine AW.bipush (v := 7) dX3_nameNow_111 (by decide) rfl ?_
    exact AW.iretE dX3_nameNow_113 rfl rfl (by unfold nmT; simp [*]) rfl
  refine AW.tableOut (tgt := 114) dX3_nameNow_4 (by have q0 : ¬ (so).toInt = 203 := fun q => s4_0 (Int32.toInt_inj.mp q); have q1 : ¬ (so).toInt = 204 := fun q => s4_1 (Int32.toInt_inj.mp q); have q2 : ¬ (so).toInt = 205 := fun q => s4_2 (Int32.toInt_inj.mp q); have q3 : ¬ (so).toInt = 206 := fun q => s4_3 (Int32.toInt_inj.mp q); have q4 : ¬ (so).toInt = 207 := fun q => s4_4 (Int32.toInt_inj.mp q); have q5 : ¬ (so).toInt = 208 := fun q => s4_5 (Int32.toInt_inj.mp q); have q6 : ¬ (so).toInt = 209 := fun q => s4_6 (Int32.toInt_inj.mp q); have q7 : ¬ (so).toInt = 210 := fun q => s4_7 (Int32.toInt_inj.mp q); have q8 : ¬ (so).toInt = 211 := fun q => s4_8 (Int32.toInt_inj.mp q); have q9 : ¬ (so).toInt = 212 := fun q => s4_9 (Int32.toInt_inj.mp q); have q10 : ¬ (so).toInt = 213 := fun q => s4_10 (Int32.toInt_inj.mp q); have q11 : ¬ (so).toInt = 214 := fun q => s4_11 (Int32.toInt_inj.mp q); have q12 : ¬ (so).toInt = 215 := fun q => s4_12 (Int32.toInt_inj.mp q); have q13 : ¬ (so).toInt = 216 := fun q => s4_13 (Int32.toInt_inj.mp q); have q14 : ¬ (so).toInt = 217 := fun q => s4_14 (Int32.toInt_inj.mp q); have q15 : ¬ (so).toInt = 218 := fun q => s4_15 (Int32.toInt_inj.mp q); have q16 : ¬ (so).toInt = 219 := fun q => s4_16 (Int32.toInt_inj.mp q); have q17 : ¬ (so).toInt = 220 := fun q => s4_17 (Int32.toInt_inj.mp q); have q18 : ¬ (so).toInt = 221 := fun q => s4_18 (Int32.toInt_inj.mp q); omega) (by decide) ?_
  refine AW.iconst (v := (-1)) dX3_nameNow_114 (by decide) rfl ?_
  exact AW.iretE dX3_nameNow_115 rfl rfl (by unfold nmT; simp [*]) rfl
