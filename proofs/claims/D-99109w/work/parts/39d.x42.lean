/-! CONSTRUCTORS 3: ShutDays and the model made (printed by tools/x42.py) -/
set_option maxRecDepth 100000
/-- a state as it is made: nothing drawn, the quarry of days at 131 -/
def ini1 (s : Sg) (a b : Nat) : Sg := (s.setA a (up (s.A a) 2 (-1))).setA b (up (s.A b) 1 131)
def ini (s : Sg) : Sg := ini1 (ini1 s 514 515) 567 568
theorem ini1_z {s : Sg} {a b lo hi : Nat} (h : Z0 s lo hi) (ha : a < lo) (hb : b < lo) : Z0 (ini1 s a b) lo hi := fun k h1 h2 => by
  unfold ini1
  rw [setA_ne (by omega), setA_ne (by omega)]
  exact h k h1 h2
theorem Z0.sub {s : Sg} {lo hi lo2 hi2 : Nat} (h : Z0 s lo hi) (h1 : lo ≤ lo2) (h2 : hi2 ≤ hi) : Z0 s lo2 hi2 := fun k a b => h k (by omega) (by omega)
theorem hc_0 {s : Sg} {m u : Nat} {c : AC} : hcs s (upP nP 512 c) m u = hcs s (upP nP 512 c) m u := rfl
theorem w512 {s : Sg} {u : Nat} : (hq 113 u s).g 512 = some (.inr (0, sfl s)) := hq_fx (by decide) (by decide) rfl
theorem r_X0_init {s : Sg} {u : Nat} (hz : Z0 s 513 625) (hT : ∀ j, s.T j = .null) (h100 : s.S 100 = 0) (h101 : s.S 101 = -1) (h102 : s.S 102 = -1) (h103 : s.S 103 = 0) : Run 5 mX0_init [.ref 512] (hcs s (upP nP 512 (.inr (0, [.null, .null, .null, .int 0, .int 0, .int 0, .null, .null, .null, .null, .null, .int 0]))) 1 u) (.inl none) (hq 113 (u + 9668) (imgS (ini s))) := by
  have hZ : Z0 (ini s) 569 625 := ini1_z (ini1_z (hz.sub (by decide) (Nat.le_refl _)) (by decide) (by decide)) (by decide) (by decide)
  refine Run.of rfl (Nat.le_of_ble_eq_true rfl) rfl ?_
  refine AW.aload_n dX0_init_0 rfl rfl ?_
  refine AW.obj dX0_init_1 q177 q178 q179 (by decide) rfl (by decide) rfl ?_
  refine AW.aload_n dX0_init_4 rfl rfl ?_
  refine AW.new ci1 dX0_init_5 q180 q181 q139 dfX1 hc_new rfl ?_
  refine AW.dup dX0_init_8 rfl rfl ?_
  refine AW.callI (Y := mX1_init) (n := 0) (r_X1_init_513 (P := upP nP 512 _) (s := s) (fun k hk => upP_ne (by omega)) (hz.sub (by decide) (by decide)) hT) (by decide) (by decide) rfl q182 q183 q139 q184 dX0_init_9 rfl (by decide +kernel) rfl rfl (Nat.le_of_ble_eq_true rfl) rfl ?_
  refine AW.putF ci0 0 (by decide) q229 dX0_init_12 (Nat.le_of_ble_eq_true rfl) hc_at rfl rfl rfl (fun _ => rfl) (fun _ => rfl) (Nat.le_of_ble_eq_true rfl) hc_set rfl ?_
  refine AW.aload_n dX0_init_15 rfl rfl ?_
  refine AW.new ci1 dX0_init_16 q180 q181 q139 dfX1 hc_new rfl ?_
  refine AW.dup dX0_init_19 rfl rfl ?_
  refine AW.callI (Y := mX1_init) (n := 0) (r_X1_init_566 (P := upP nP 512 _) (s := ini1 s 514 515) (fun k hk => upP_ne (by omega)) (ini1_z (hz.sub (by decide) (by decide)) (by decide) (by decide)) hT) (by decide) (by decide) rfl q182 q183 q139 q184 dX0_init_20 rfl (by decide +kernel) rfl rfl (Nat.le_of_ble_eq_true rfl) rfl ?_
  refine AW.putF ci0 1 (by decide) q230 dX0_init_23 (Nat.le_of_ble_eq_true rfl) hc_at rfl rfl rfl (fun _ => rfl) (fun _ => rfl) (Nat.le_of_ble_eq_true rfl) hc_set rfl ?_
  refine AW.aload_n dX0_init_26 rfl rfl ?_
  refine AW.sipush (v := 300) dX0_init_27 (by decide) rfl ?_
  refine AW.newa (t := 1) (ty := .byte) (dv := .int 0) (N := 300) dX0_init_30 rfl (fun _ => rfl) (fun _ _ q => q) rfl (fun _ => rfl) q266 (by decide) (by decide) (by decide) (hc_push rfl (show ba 300 ((ini s).A 619) = _ by rw [hZ 619 (by decide) (by decide)]; rfl)) rfl ?_
  refine AW.putF ci0 2 (by decide) q231 dX0_init_32 (Nat.le_of_ble_eq_true rfl) hc_at rfl rfl rfl (fun _ => rfl) (fun _ => rfl) (Nat.le_of_ble_eq_true rfl) hc_set rfl ?_
  refine AW.aload_n dX0_init_35 rfl rfl ?_
  refine AW.iconst (v := (-1)) dX0_init_36 (by decide) rfl ?_
  refine AW.put ci0 4 (by decide) q233 dX0_init_37 (Nat.le_of_ble_eq_true rfl) hc_at rfl (fun _ => rfl) (fun _ => rfl) (Nat.le_of_ble_eq_true rfl) hc_set rfl ?_
  refine AW.aload_n dX0_init_40 rfl rfl ?_
  refine AW.iconst (v := (-1)) dX0_init_41 (by decide) rfl ?_
  refine AW.put ci0 5 (by decide) q234 dX0_init_42 (Nat.le_of_ble_eq_true rfl) hc_at rfl (fun _ => rfl) (fun _ => rfl) (Nat.le_of_ble_eq_true rfl) hc_set rfl ?_
  refine AW.aload_n dX0_init_45 rfl rfl ?_
  refine AW.bipush (v := 8) dX0_init_46 (by decide) rfl ?_
  refine AW.newa (t := 0) (ty := .int) (dv := .int 0) (N := 8) dX0_init_48 rfl (fun _ => rfl) (fun _ _ q => q) rfl (fun _ => rfl) q215 (by decide) (by decide) (by decide) (hc_pushI rfl rfl rfl (hZ 620 (by decide) (by decide))) rfl ?_
  refine AW.putF ci0 6 (by decide) q235 dX0_init_50 (Nat.le_of_ble_eq_true rfl) hc_at rfl rfl rfl (fun _ => rfl) (fun _ => rfl) (Nat.le_of_ble_eq_true rfl) hc_set rfl ?_
  refine AW.aload_n dX0_init_53 rfl rfl ?_
  refine AW.sipush (v := 145) dX0_init_54 (by decide) rfl ?_
  refine AW.newa (t := 0) (ty := .int) (dv := .int 0) (N := 145) dX0_init_57 rfl (fun _ => rfl) (fun _ _ q => q) rfl (fun _ => rfl) q215 (by decide) (by decide) (by decide) (hc_pushI rfl rfl rfl (hZ 621 (by decide) (by decide))) rfl ?_
  refine AW.putF ci0 7 (by decide) q236 dX0_init_59 (Nat.le_of_ble_eq_true rfl) hc_at rfl rfl rfl (fun _ => rfl) (fun _ => rfl) (Nat.le_of_ble_eq_true rfl) hc_set rfl ?_
  refine AW.aload_n dX0_init_62 rfl rfl ?_
  refine AW.bipush (v := 7) dX0_init_63 (by decide) rfl ?_
  refine AW.newa (t := 0) (ty := .int) (dv := .int 0) (N := 7) dX0_init_65 rfl (fun _ => rfl) (fun _ _ q => q) rfl (fun _ => rfl) q215 (by decide) (by decide) (by decide) (hc_pushI rfl rfl rfl (hZ 622 (by decide) (by decide))) rfl ?_
  refine AW.putF ci0 8 (by decide) q237 dX0_init_67 (Nat.le_of_ble_eq_true rfl) hc_at rfl rfl rfl (fun _ => rfl) (fun _ => rfl) (Nat.le_of_ble_eq_true rfl) hc_set rfl ?_
  refine AW.aload_n dX0_init_70 rfl rfl ?_
  refine AW.bipush (v := 7) dX0_init_71 (by decide) rfl ?_
  refine AW.newa (t := 0) (ty := .int) (dv := .int 0) (N := 7) dX0_init_73 rfl (fun _ => rfl) (fun _ _ q => q) rfl (fun _ => rfl) q215 (by decide) (by decide) (by decide) (hc_pushI rfl rfl rfl (hZ 623 (by decide) (by decide))) rfl ?_
  refine AW.putF ci0 9 (by decide) q238 dX0_init_75 (Nat.le_of_ble_eq_true rfl) hc_at rfl rfl rfl (fun _ => rfl) (fun _ => rfl) (Nat.le_of_ble_eq_true rfl) hc_set rfl ?_
  refine AW.aload_n dX0_init_78 rfl rfl ?_
  refine AW.bipush (v := 7) dX0_init_79 (by decide) rfl ?_
  refine AW.newa (t := 0) (ty := .int) (dv := .int 0) (N := 7) dX0_init_81 rfl (fun _ => rfl) (fun _ _ q => q) rfl (fun _ => rfl) q215 (by decide) (by decide) (by decide) (hc_pushI rfl rfl rfl (hZ 624 (by decide) (by decide))) rfl ?_
  refine AW.putF ci0 10 (by decide) q239 dX0_init_83 (Nat.le_of_ble_eq_true rfl) hc_at rfl rfl rfl (fun _ => rfl) (fun _ => rfl) (Nat.le_of_ble_eq_true rfl) hc_set rfl ?_
  refine AW.hp (h2 := hq 113 (u + 9668) (ini s)) (hc_done rfl (by decide) (by decide) (show (Sum.inr (0, sfl (ini s)) : AC) = _ by unfold sfl; rw [show (ini s).S 100 = 0 from h100, show (ini s).S 101 = -1 from h101, show (ini s).S 102 = -1 from h102, show (ini s).S 103 = 0 from h103]; rfl)) ?_
  refine AW.aload_n dX0_init_86 rfl rfl ?_
  refine AW.get ci0 1 (by decide) q230 dX0_init_87 w512 rfl rfl ?_
  refine AW.aload_n dX0_init_90 rfl rfl ?_
  refine AW.get ci0 0 (by decide) q229 dX0_init_91 w512 rfl rfl ?_
  refine AW.callV (Y := mX1_be) (n := 1) (rq_X1_be (s := ini s) hT) (by decide) (by decide) rfl w566 q216 q217 q218 q139 q219 dX0_init_94 (by decide +kernel) rfl rfl (Nat.le_of_ble_eq_true rfl) rfl ?_
  exact AW.vretE dX0_init_97 rfl rfl rfl
