/-! CONSTRUCTORS 4: the model made (printed by tools/x43.py) -/
set_option maxRecDepth 100000
def iniM (s : Sg) : Sg := (s.setA 626 (up (s.A 626) 9 131)).setA 626 (up ((s.setA 626 (up (s.A 626) 9 131)).A 626) 2 (-1))
theorem r_X2_init {s : Sg} {u : Nat} (hz : Z0 s 626 640) (hV : s.V = fun _ => 0) (hw : s.w = 0) (hS : ∀ k, k < 36 → s.S k = if k = 5 ∨ k = 6 then -1 else 0) (hb : s.b.n = 128) (hu : s.b.u = u + 8680) (hg : ∀ k, 512 ≤ k → s.b.g k = none) : Run 5 mX2_init [.ref 625] (hcs s (upP nP 625 (.inr (2, [.null, .null, .null, .null, .int 0, .int 0, .int 0, .int 0, .int 0, .int 0, .int 0, .long 0, .int 0, .int 0, .int 0, .null, .int 0, .int 0, .int 0, .int 0, .int 0, .null, .null, .null, .null, .int 0, .int 0, .int 0, .int 0, .null, .int 0, .int 0, .null, .null, .null, .null]))) 114 u) (.inl none) (hp ((iniM s).setA 627 (mv ((iniM s).A 627) 0 ((iniM s).A 626) 2308))) := by
  refine Run.of rfl (Nat.le_of_ble_eq_true rfl) rfl ?_
  refine AW.aload_n dX2_init_0 rfl rfl ?_
  refine AW.obj dX2_init_1 q1347 q178 q179 (by decide) rfl (by decide) rfl ?_
  refine AW.aload_n dX2_init_4 rfl rfl ?_
  refine AW.sipush (v := 2308) dX2_init_5 (by decide) rfl ?_
  refine AW.newa (t := 0) (ty := .int) (dv := .int 0) (N := 2308) dX2_init_8 rfl (fun _ => rfl) (fun _ _ q => q) rfl (fun _ => rfl) q215 (by decide) (by decide) (by decide) (hc_pushI rfl rfl rfl (hz 626 (by decide) (by decide))) rfl ?_
  refine AW.st (st' := [.ref 626, .ref 625]) rfl ?_
  refine AW.putF ci2 0 (by decide) q1351 dX2_init_10 (Nat.le_of_ble_eq_true rfl) hc_at rfl rfl rfl (fun _ => rfl) (fun _ => rfl) (Nat.le_of_ble_eq_true rfl) hc_set rfl ?_
  refine AW.aload_n dX2_init_13 rfl rfl ?_
  refine AW.sipush (v := 2308) dX2_init_14 (by decide) rfl ?_
  refine AW.newa (t := 0) (ty := .int) (dv := .int 0) (N := 2308) dX2_init_17 rfl (fun _ => rfl) (fun _ _ q => q) rfl (fun _ => rfl) q215 (by decide) (by decide) (by decide) (hc_pushI rfl rfl rfl (hz 627 (by decide) (by decide))) rfl ?_
  refine AW.st (st' := [.ref 627, .ref 625]) rfl ?_
  refine AW.putF ci2 1 (by decide) q1352 dX2_init_19 (Nat.le_of_ble_eq_true rfl) hc_at rfl rfl rfl (fun _ => rfl) (fun _ => rfl) (Nat.le_of_ble_eq_true rfl) hc_set rfl ?_
  refine AW.aload_n dX2_init_22 rfl rfl ?_
  refine AW.sipush (v := 2820) dX2_init_23 (by decide) rfl ?_
  refine AW.newa (t := 0) (ty := .int) (dv := .int 0) (N := 2820) dX2_init_26 rfl (fun _ => rfl) (fun _ _ q => q) rfl (fun _ => rfl) q215 (by decide) (by decide) (by decide) (hc_pushI rfl rfl rfl (hz 628 (by decide) (by decide))) rfl ?_
  refine AW.st (st' := [.ref 628, .ref 625]) rfl ?_
  refine AW.putF ci2 2 (by decide) q1353 dX2_init_28 (Nat.le_of_ble_eq_true rfl) hc_at rfl rfl rfl (fun _ => rfl) (fun _ => rfl) (Nat.le_of_ble_eq_true rfl) hc_set rfl ?_
  refine AW.aload_n dX2_init_31 rfl rfl ?_
  refine AW.sipush (v := 300) dX2_init_32 (by decide) rfl ?_
  refine AW.newa (t := 0) (ty := .int) (dv := .int 0) (N := 300) dX2_init_35 rfl (fun _ => rfl) (fun _ _ q => q) rfl (fun _ => rfl) q215 (by decide) (by decide) (by decide) (hc_pushI rfl rfl rfl (hz 629 (by decide) (by decide))) rfl ?_
  refine AW.st (st' := [.ref 629, .ref 625]) rfl ?_
  refine AW.putF ci2 3 (by decide) q1354 dX2_init_37 (Nat.le_of_ble_eq_true rfl) hc_at rfl rfl rfl (fun _ => rfl) (fun _ => rfl) (Nat.le_of_ble_eq_true rfl) hc_set rfl ?_
  refine AW.aload_n dX2_init_40 rfl rfl ?_
  refine AW.iconst (v := (-1)) dX2_init_41 (by decide) rfl ?_
  refine AW.put ci2 5 (by decide) q1356 dX2_init_42 (Nat.le_of_ble_eq_true rfl) hc_at rfl (fun _ => rfl) (fun _ => rfl) (Nat.le_of_ble_eq_true rfl) hc_set rfl ?_
  refine AW.aload_n dX2_init_45 rfl rfl ?_
  refine AW.iconst (v := (-1)) dX2_init_46 (by decide) rfl ?_
  refine AW.put ci2 6 (by decide) q1357 dX2_init_47 (Nat.le_of_ble_eq_true rfl) hc_at rfl (fun _ => rfl) (fun _ => rfl) (Nat.le_of_ble_eq_true rfl) hc_set rfl ?_
  refine AW.aload_n dX2_init_50 rfl rfl ?_
  refine AW.sipush (v := 160) dX2_init_51 (by decide) rfl ?_
  refine AW.newa (t := 0) (ty := .int) (dv := .int 0) (N := 160) dX2_init_54 rfl (fun _ => rfl) (fun _ _ q => q) rfl (fun _ => rfl) q215 (by decide) (by decide) (by decide) (hc_pushI rfl rfl rfl (hz 630 (by decide) (by decide))) rfl ?_
  refine AW.st (st' := [.ref 630, .ref 625]) rfl ?_
  refine AW.putF ci2 15 (by decide) q1366 dX2_init_56 (Nat.le_of_ble_eq_true rfl) hc_at rfl rfl rfl (fun _ => rfl) (fun _ => rfl) (Nat.le_of_ble_eq_true rfl) hc_set rfl ?_
  refine AW.aload_n dX2_init_59 rfl rfl ?_
  refine AW.bipush (v := 8) dX2_init_60 (by decide) rfl ?_
  refine AW.newa (t := 0) (ty := .int) (dv := .int 0) (N := 8) dX2_init_62 rfl (fun _ => rfl) (fun _ _ q => q) rfl (fun _ => rfl) q215 (by decide) (by decide) (by decide) (hc_pushI rfl rfl rfl (hz 631 (by decide) (by decide))) rfl ?_
  refine AW.st (st' := [.ref 631, .ref 625]) rfl ?_
  refine AW.putF ci2 21 (by decide) q1372 dX2_init_64 (Nat.le_of_ble_eq_true rfl) hc_at rfl rfl rfl (fun _ => rfl) (fun _ => rfl) (Nat.le_of_ble_eq_true rfl) hc_set rfl ?_
  refine AW.aload_n dX2_init_67 rfl rfl ?_
  refine AW.sipush (v := 330) dX2_init_68 (by decide) rfl ?_
  refine AW.newa (t := 3) (ty := .long) (dv := .long 0) (N := 330) dX2_init_71 rfl (fun _ => rfl) (fun _ _ q => q) rfl (fun _ => rfl) q1460 (by decide) (by decide) (by decide) (hc_push rfl (show la 330 s.V = _ by rw [hV]; rfl)) rfl ?_
  refine AW.st (st' := [.ref 632, .ref 625]) rfl ?_
  refine AW.putF ci2 22 (by decide) q1373 dX2_init_73 (Nat.le_of_ble_eq_true rfl) hc_at rfl rfl rfl (fun _ => rfl) (fun _ => rfl) (Nat.le_of_ble_eq_true rfl) hc_set rfl ?_
  refine AW.aload_n dX2_init_76 rfl rfl ?_
  refine AW.sipush (v := 330) dX2_init_77 (by decide) rfl ?_
  refine AW.newa (t := 2) (ty := .boolean) (dv := .int 0) (N := 330) dX2_init_80 rfl (fun _ => rfl) (fun _ _ q => q) rfl (fun _ => rfl) q1461 (by decide) (by decide) (by decide) (hc_push rfl (show za 330 (s.A 633) = _ by rw [hz 633 (by decide) (by decide)]; rfl)) rfl ?_
  refine AW.st (st' := [.ref 633, .ref 625]) rfl ?_
  refine AW.putF ci2 23 (by decide) q1374 dX2_init_82 (Nat.le_of_ble_eq_true rfl) hc_at rfl rfl rfl (fun _ => rfl) (fun _ => rfl) (Nat.le_of_ble_eq_true rfl) hc_set rfl ?_
  refine AW.aload_n dX2_init_85 rfl rfl ?_
  refine AW.bipush (v := 68) dX2_init_86 (by decide) rfl ?_
  refine AW.newa (t := 0) (ty := .int) (dv := .int 0) (N := 68) dX2_init_88 rfl (fun _ => rfl) (fun _ _ q => q) rfl (fun _ => rfl) q215 (by decide) (by decide) (by decide) (hc_pushI rfl rfl rfl (hz 634 (by decide) (by decide))) rfl ?_
  refine AW.st (st' := [.ref 634, .ref 625]) rfl ?_
  refine AW.putF ci2 24 (by decide) q1375 dX2_init_90 (Nat.le_of_ble_eq_true rfl) hc_at rfl rfl rfl (fun _ => rfl) (fun _ => rfl) (Nat.le_of_ble_eq_true rfl) hc_set rfl ?_
  refine AW.aload_n dX2_init_93 rfl rfl ?_
  refine AW.bipush (v := 20) dX2_init_94 (by decide) rfl ?_
  refine AW.newa (t := 0) (ty := .int) (dv := .int 0) (N := 20) dX2_init_96 rfl (fun _ => rfl) (fun _ _ q => q) rfl (fun _ => rfl) q215 (by decide) (by decide) (by decide) (hc_pushI rfl rfl rfl (hz 635 (by decide) (by decide))) rfl ?_
  refine AW.st (st' := [.ref 635, .ref 625]) rfl ?_
  refine AW.putF ci2 29 (by decide) q1380 dX2_init_98 (Nat.le_of_ble_eq_true rfl) hc_at rfl rfl rfl (fun _ => rfl) (fun _ => rfl) (Nat.le_of_ble_eq_true rfl) hc_set rfl ?_
  refine AW.aload_n dX2_init_101 rfl rfl ?_
  refine AW.bipush (v := 7) dX2_init_102 (by decide) rfl ?_
  refine AW.newa (t := 0) (ty := .int) (dv := .int 0) (N := 7) dX2_init_104 rfl (fun _ => rfl) (fun _ _ q => q) rfl (fun _ => rfl) q215 (by decide) (by decide) (by decide) (hc_pushI rfl rfl rfl (hz 636 (by decide) (by decide))) rfl ?_
  refine AW.st (st' := [.ref 636, .ref 625]) rfl ?_
  refine AW.putF ci2 32 (by decide) q1383 dX2_init_106 (Nat.le_of_ble_eq_true rfl) hc_at rfl rfl rfl (fun _ => rfl) (fun _ => rfl) (Nat.le_of_ble_eq_true rfl) hc_set rfl ?_
  refine AW.aload_n dX2_init_109 rfl rfl ?_
  refine AW.bipush (v := 7) dX2_init_110 (by decide) rfl ?_
  refine AW.newa (t := 0) (ty := .int) (dv := .int 0) (N := 7) dX2_init_112 rfl (fun _ => rfl) (fun _ _ q => q) rfl (fun _ => rfl) q215 (by decide) (by decide) (by decide) (hc_pushI rfl rfl rfl (hz 637 (by decide) (by decide))) rfl ?_
  refine AW.st (st' := [.ref 637, .ref 625]) rfl ?_
  refine AW.putF ci2 33 (by decide) q1384 dX2_init_114 (Nat.le_of_ble_eq_true rfl) hc_at rfl rfl rfl (fun _ => rfl) (fun _ => rfl) (Nat.le_of_ble_eq_true rfl) hc_set rfl ?_
  refine AW.aload_n dX2_init_117 rfl rfl ?_
  refine AW.bipush (v := 7) dX2_init_118 (by decide) rfl ?_
  refine AW.newa (t := 0) (ty := .int) (dv := .int 0) (N := 7) dX2_init_120 rfl (fun _ => rfl) (fun _ _ q => q) rfl (fun _ => rfl) q215 (by decide) (by decide) (by decide) (hc_pushI rfl rfl rfl (hz 638 (by decide) (by decide))) rfl ?_
  refine AW.st (st' := [.ref 638, .ref 625]) rfl ?_
  refine AW.putF ci2 34 (by decide) q1385 dX2_init_122 (Nat.le_of_ble_eq_true rfl) hc_at rfl rfl rfl (fun _ => rfl) (fun _ => rfl) (Nat.le_of_ble_eq_true rfl) hc_set rfl ?_
  refine AW.aload_n dX2_init_125 rfl rfl ?_
  refine AW.bipush (v := 7) dX2_init_126 (by decide) rfl ?_
  refine AW.newa (t := 0) (ty := .int) (dv := .int 0) (N := 7) dX2_init_128 rfl (fun _ => rfl) (fun _ _ q => q) rfl (fun _ => rfl) q215 (by decide) (by decide) (by decide) (hc_pushI rfl rfl rfl (hz 639 (by decide) (by decide))) rfl ?_
  refine AW.st (st' := [.ref 639, .ref 625]) rfl ?_
  refine AW.putF ci2 35 (by decide) q1386 dX2_init_130 (Nat.le_of_ble_eq_true rfl) hc_at rfl rfl rfl (fun _ => rfl) (fun _ => rfl) (Nat.le_of_ble_eq_true rfl) hc_set rfl ?_
  refine AW.hp (h2 := hp s) ((hc_done (s := s) (o := 625) rfl (by decide) (by decide) (show (Sum.inr (2, mfl s) : AC) = _ by unfold mfl; rw [hS 4 (by decide), hS 5 (by decide), hS 6 (by decide), hS 7 (by decide), hS 8 (by decide), hS 9 (by decide), hS 10 (by decide), hS 12 (by decide), hS 13 (by decide), hS 14 (by decide), hS 16 (by decide), hS 17 (by decide), hS 18 (by decide), hS 19 (by decide), hS 20 (by decide), hS 25 (by decide), hS 26 (by decide), hS 27 (by decide), hS 28 (by decide), hS 30 (by decide), hS 31 (by decide), hw]; rfl)).trans (hc_end hb hu hg)) ?_
  refine AW.aload_n dX2_init_133 rfl rfl ?_
  refine AW.get ci2 0 (by decide) q1351 dX2_init_134 gM rfl rfl ?_
  refine AW.bipush (v := 9) dX2_init_137 (by decide) rfl ?_
  refine AW.sipush (v := 131) dX2_init_139 (by decide) rfl ?_
  refine AW.iast dX2_init_142 (Nat.le_of_ble_eq_true rfl) g626 (vp_in_iff.mpr (by decide)) (j := 9) (by decide) s626 rfl ?_
  refine AW.aload_n dX2_init_143 rfl rfl ?_
  refine AW.get ci2 0 (by decide) q1351 dX2_init_144 gM rfl rfl ?_
  refine AW.iconst (v := 2) dX2_init_147 (by decide) rfl ?_
  refine AW.iconst (v := (-1)) dX2_init_148 (by decide) rfl ?_
  refine AW.iast dX2_init_149 (Nat.le_of_ble_eq_true rfl) g626 (vp_in_iff.mpr (by decide)) (j := 2) (by decide) s626 rfl ?_
  refine AW.aload_n dX2_init_150 rfl rfl ?_
  refine AW.get ci2 0 (by decide) q1351 dX2_init_151 gM rfl rfl ?_
  refine AW.aload_n dX2_init_154 rfl rfl ?_
  refine AW.get ci2 1 (by decide) q1352 dX2_init_155 gM rfl rfl ?_
  refine AW.callS (Y := mX2_copy) (n := 2) (r_X2_copy_i (s := (iniM s))) (by decide) (by decide) q1348 q1349 q141 q1350 dX2_init_158 (by decide +kernel) rfl rfl (Nat.le_of_ble_eq_true rfl) rfl ?_
  exact AW.vretE dX2_init_161 rfl rfl rfl
