/-! SYSTEM 37: a doing (printed by tools/x37.py) -/
set_option maxRecDepth 100000
theorem dx_3f {N nt c e g x : Nat} {a : Nat → Int32} {s : Sg} {L : Lw} (hb : 128 ≤ s.b.n) (h : RelX N nt c e g a s.A) (hR : Rl s x L) {o : Nat} {v w u nn : Int32} (ga : (hp s).g o = some (.inr (15, [.int 203, .int v, .int w, .int u, .int nn]))) (hc : okH (a 0) v (-1) (-1) w u = false) : RX (QF s (a) 1 3) 70 mX0_does [.ref 512, .ref o] (hp s) (some (.int (b2i false))) := by
  refine RX.of rfl (Nat.le_of_ble_eq_true rfl) rfl ?_
  refine AX.map (fun _ k_ => AW.aload_n dX0_does_0 rfl rfl k_) ?_
  refine AX.map (fun _ k_ => AW.callV (Y := mX15_sort) (n := 0) (r_X15_sort ga) (by decide) (by decide) rfl ga q1078 q1079 q1080 q171 q1081 dX0_does_1 (by decide +kernel) rfl rfl (Nat.le_of_ble_eq_true rfl) rfl k_) ?_
  refine AX.map (fun _ k_ => AW.tableIn (off := 36) (tgt := 40) dX0_does_4 (by decide) (by decide) rfl (by decide) k_) ?_
  refine AX.map (fun _ k_ => AW.aload_n dX0_does_40 rfl rfl k_) ?_
  refine AX.map (fun _ k_ => AW.aload_n dX0_does_41 rfl rfl k_) ?_
  refine AX.map (fun _ k_ => AW.callV (Y := mX15_a) (n := 0) (r_X15_a ga) (by decide) (by decide) rfl ga q1082 q1083 q1084 q171 q1085 dX0_does_42 (by decide +kernel) rfl rfl (Nat.le_of_ble_eq_true rfl) rfl k_) ?_
  refine AX.map (fun _ k_ => AW.iconst (v := (-1)) dX0_does_45 (by decide) rfl k_) ?_
  refine AX.map (fun _ k_ => AW.iconst (v := (-1)) dX0_does_46 (by decide) rfl k_) ?_
  refine AX.map (fun _ k_ => AW.aload_n dX0_does_47 rfl rfl k_) ?_
  refine AX.map (fun _ k_ => AW.callV (Y := mX15_b) (n := 0) (r_X15_b ga) (by decide) (by decide) rfl ga q1086 q1087 q1088 q171 q1089 dX0_does_48 (by decide +kernel) rfl rfl (Nat.le_of_ble_eq_true rfl) rfl k_) ?_
  refine AX.map (fun _ k_ => AW.aload_n dX0_does_51 rfl rfl k_) ?_
  refine AX.map (fun _ k_ => AW.callV (Y := mX15_c) (n := 0) (r_X15_c ga) (by decide) (by decide) rfl ga q1090 q1091 q1092 q171 q1093 dX0_does_52 (by decide +kernel) rfl rfl (Nat.le_of_ble_eq_true rfl) rfl k_) ?_
  refine AX.map (fun _ k_ => AW.callV (Y := mX0_house) (n := 5) (q_house_f h v (-1) (-1) w u hc) (by decide) (by decide) rfl gX q1094 q268 q269 q138 q270 dX0_does_55 (by decide +kernel) rfl rfl (Nat.le_of_ble_eq_true rfl) rfl k_) ?_
  refine AX.map (fun _ k_ => AW.iconst (v := (-1)) dX0_does_58 (by decide) rfl k_) ?_
  refine AX.map (fun _ k_ => AW.icmp_eq (tgt := 66) dX0_does_59 (by decide) rfl (fun _ => k_) (fun c_ => by first | exact absurd c_ rfl | exact absurd rfl c_ | exact absurd c_ (not_not_intro rfl) | exact Bool.noConfusion (c_.symm.trans rfl))) ?_
  refine AX.map (fun _ k_ => AW.iconst (v := 0) dX0_does_66 (by decide) rfl k_) ?_
  exact ⟨_, ⟨s, (Fr.refl s).mono (by decide) (by decide), h.rel, rfl⟩, AW.bretE dX0_does_67 rfl rfl rfl rfl⟩
theorem dx_3t {N nt c e g x : Nat} {a : Nat → Int32} {s : Sg} {L : Lw} (hb : 128 ≤ s.b.n) (h : RelX N nt c e g a s.A) (hR : Rl s x L) {o : Nat} {v w u nn : Int32} (ga : (hp s).g o = some (.inr (15, [.int 203, .int v, .int w, .int u, .int nn]))) (hc : okH (a 0) v (-1) (-1) w u = true) : RX (QF s (houseM a N v (-1) (-1) w u) 1 3) 70 mX0_does [.ref 512, .ref o] (hp s) (some (.int (b2i true))) := by
  refine RX.of rfl (Nat.le_of_ble_eq_true rfl) rfl ?_
  refine AX.map (fun _ k_ => AW.aload_n dX0_does_0 rfl rfl k_) ?_
  refine AX.map (fun _ k_ => AW.callV (Y := mX15_sort) (n := 0) (r_X15_sort ga) (by decide) (by decide) rfl ga q1078 q1079 q1080 q171 q1081 dX0_does_1 (by decide +kernel) rfl rfl (Nat.le_of_ble_eq_true rfl) rfl k_) ?_
  refine AX.map (fun _ k_ => AW.tableIn (off := 36) (tgt := 40) dX0_does_4 (by decide) (by decide) rfl (by decide) k_) ?_
  refine AX.map (fun _ k_ => AW.aload_n dX0_does_40 rfl rfl k_) ?_
  refine AX.map (fun _ k_ => AW.aload_n dX0_does_41 rfl rfl k_) ?_
  refine AX.map (fun _ k_ => AW.callV (Y := mX15_a) (n := 0) (r_X15_a ga) (by decide) (by decide) rfl ga q1082 q1083 q1084 q171 q1085 dX0_does_42 (by decide +kernel) rfl rfl (Nat.le_of_ble_eq_true rfl) rfl k_) ?_
  refine AX.map (fun _ k_ => AW.iconst (v := (-1)) dX0_does_45 (by decide) rfl k_) ?_
  refine AX.map (fun _ k_ => AW.iconst (v := (-1)) dX0_does_46 (by decide) rfl k_) ?_
  refine AX.map (fun _ k_ => AW.aload_n dX0_does_47 rfl rfl k_) ?_
  refine AX.map (fun _ k_ => AW.callV (Y := mX15_b) (n := 0) (r_X15_b ga) (by decide) (by decide) rfl ga q1086 q1087 q1088 q171 q1089 dX0_does_48 (by decide +kernel) rfl rfl (Nat.le_of_ble_eq_true rfl) rfl k_) ?_
  refine AX.map (fun _ k_ => AW.aload_n dX0_does_51 rfl rfl k_) ?_
  refine AX.map (fun _ k_ => AW.callV (Y := mX15_c) (n := 0) (r_X15_c ga) (by decide) (by decide) rfl ga q1090 q1091 q1092 q171 q1093 dX0_does_52 (by decide +kernel) rfl rfl (Nat.le_of_ble_eq_true rfl) rfl k_) ?_
  obtain ⟨_, ⟨t, ft, rt, rfl⟩, run⟩ := q_house_t h v (-1) (-1) w u hc
  refine AX.map (fun _ k_ => AW.callV (Y := mX0_house) (n := 5) (run) (by decide) (by decide) rfl gX q1094 q268 q269 q138 q270 dX0_does_55 (by decide +kernel) rfl rfl (Nat.le_of_ble_eq_true rfl) rfl k_) ?_
  refine AX.map (fun _ k_ => AW.iconst (v := (-1)) dX0_does_58 (by decide) rfl k_) ?_
  refine AX.map (fun _ k_ => AW.icmp_eq (tgt := 66) dX0_does_59 (by decide) rfl (fun c_ => by first | exact absurd c_ (nI_nm1 (k := N) (by have := h.n0.2.2; omega)) | exact absurd (nI_nm1 (k := N) (by have := h.n0.2.2; omega)) c_ | exact Bool.noConfusion (c_.symm.trans (nI_nm1 (k := N) (by have := h.n0.2.2; omega)))) (fun _ => k_)) ?_
  refine AX.map (fun _ k_ => AW.iconst (v := 1) dX0_does_62 (by decide) rfl k_) ?_
  refine AX.map (fun _ k_ => AW.goto (tgt := 67) dX0_does_63 (by decide) k_) ?_
  exact ⟨_, ⟨t, ft.mono (by decide) (by decide), rt, rfl⟩, AW.bretE dX0_does_67 rfl rfl rfl rfl⟩
theorem dx_4f {N nt c e g x : Nat} {a : Nat → Int32} {s : Sg} {L : Lw} (hb : 128 ≤ s.b.n) (h : RelX N nt c e g a s.A) (hR : Rl s x L) {o : Nat} {v w u nn : Int32} (ga : (hp s).g o = some (.inr (15, [.int 204, .int v, .int w, .int u, .int nn]))) (hc : (vwM a).her v = false) : RX (QF s (a) 1 3) 70 mX0_does [.ref 512, .ref o] (hp s) (some (.int (b2i false))) := by
  refine RX.of rfl (Nat.le_of_ble_eq_true rfl) rfl ?_
  refine AX.map (fun _ k_ => AW.aload_n dX0_does_0 rfl rfl k_) ?_
  refine AX.map (fun _ k_ => AW.callV (Y := mX15_sort) (n := 0) (r_X15_sort ga) (by decide) (by decide) rfl ga q1078 q1079 q1080 q171 q1081 dX0_does_1 (by decide +kernel) rfl rfl (Nat.le_of_ble_eq_true rfl) rfl k_) ?_
  refine AX.map (fun _ k_ => AW.tableIn (off := 64) (tgt := 68) dX0_does_4 (by decide) (by decide) rfl (by decide) k_) ?_
  refine AX.map (fun _ k_ => AW.aload_n dX0_does_68 rfl rfl k_) ?_
  refine AX.map (fun _ k_ => AW.aload_n dX0_does_69 rfl rfl k_) ?_
  refine AX.map (fun _ k_ => AW.callV (Y := mX15_a) (n := 0) (r_X15_a ga) (by decide) (by decide) rfl ga q1082 q1083 q1084 q171 q1085 dX0_does_70 (by decide +kernel) rfl rfl (Nat.le_of_ble_eq_true rfl) rfl k_) ?_
  refine AX.map (fun _ k_ => AW.callV (Y := mX0_knock) (n := 1) (q_knock_f h v hc) (by decide) (by decide) rfl gX q1095 q977 q978 q138 q979 dX0_does_73 (by decide +kernel) rfl rfl (Nat.le_of_ble_eq_true rfl) rfl k_) ?_
  refine AX.map (fun _ k_ => AW.iconst (v := (-1)) dX0_does_76 (by decide) rfl k_) ?_
  refine AX.map (fun _ k_ => AW.icmp_eq (tgt := 84) dX0_does_77 (by decide) rfl (fun _ => k_) (fun c_ => by first | exact absurd c_ rfl | exact absurd rfl c_ | exact absurd c_ (not_not_intro rfl) | exact Bool.noConfusion (c_.symm.trans rfl))) ?_
  refine AX.map (fun _ k_ => AW.iconst (v := 0) dX0_does_84 (by decide) rfl k_) ?_
  exact ⟨_, ⟨s, (Fr.refl s).mono (by decide) (by decide), h.rel, rfl⟩, AW.bretE dX0_does_85 rfl rfl rfl rfl⟩
theorem b2i_nm1 (p : Bool) : ¬ b2i p = -1 := by cases p <;> decide
theorem dx_4t {N nt c e g x : Nat} {a : Nat → Int32} {s : Sg} {L : Lw} (hb : 128 ≤ s.b.n) (h : RelX N nt c e g a s.A) (hR : Rl s x L) {o : Nat} {v w u nn : Int32} (ga : (hp s).g o = some (.inr (15, [.int 204, .int v, .int w, .int u, .int nn]))) (hc : (vwM a).her v = true) : RX (QF s (knockM (keepI a) L v) 1 3) 70 mX0_does [.ref 512, .ref o] (hp s) (some (.int (b2i true))) := by
  obtain ⟨k, hk, rfl⟩ := her_k h.n0.1 h.n0.2.2 hc
  refine RX.of rfl (Nat.le_of_ble_eq_true rfl) rfl ?_
  refine AX.map (fun _ k_ => AW.aload_n dX0_does_0 rfl rfl k_) ?_
  refine AX.map (fun _ k_ => AW.callV (Y := mX15_sort) (n := 0) (r_X15_sort ga) (by decide) (by decide) rfl ga q1078 q1079 q1080 q171 q1081 dX0_does_1 (by decide +kernel) rfl rfl (Nat.le_of_ble_eq_true rfl) rfl k_) ?_
  refine AX.map (fun _ k_ => AW.tableIn (off := 64) (tgt := 68) dX0_does_4 (by decide) (by decide) rfl (by decide) k_) ?_
  refine AX.map (fun _ k_ => AW.aload_n dX0_does_68 rfl rfl k_) ?_
  refine AX.map (fun _ k_ => AW.aload_n dX0_does_69 rfl rfl k_) ?_
  refine AX.map (fun _ k_ => AW.callV (Y := mX15_a) (n := 0) (r_X15_a ga) (by decide) (by decide) rfl ga q1082 q1083 q1084 q171 q1085 dX0_does_70 (by decide +kernel) rfl rfl (Nat.le_of_ble_eq_true rfl) rfl k_) ?_
  obtain ⟨_, ⟨t, ft, rt, rfl⟩, run⟩ := q_knock_k hb h hR hk hc
  refine AX.map (fun _ k_ => AW.callV (Y := mX0_knock) (n := 1) (run) (by decide) (by decide) rfl gX q1095 q977 q978 q138 q979 dX0_does_73 (by decide +kernel) rfl rfl (Nat.le_of_ble_eq_true rfl) rfl k_) ?_
  refine AX.map (fun _ k_ => AW.iconst (v := (-1)) dX0_does_76 (by decide) rfl k_) ?_
  refine AX.map (fun _ k_ => AW.icmp_eq (tgt := 84) dX0_does_77 (by decide) rfl (fun c_ => by first | exact absurd c_ (b2i_nm1 _) | exact absurd (b2i_nm1 _) c_ | exact Bool.noConfusion (c_.symm.trans (b2i_nm1 _))) (fun _ => k_)) ?_
  refine AX.map (fun _ k_ => AW.iconst (v := 1) dX0_does_80 (by decide) rfl k_) ?_
  refine AX.map (fun _ k_ => AW.goto (tgt := 85) dX0_does_81 (by decide) k_) ?_
  exact ⟨_, ⟨t, ft.mono (by decide) (by decide), rt, rfl⟩, AW.bretE dX0_does_85 rfl rfl rfl rfl⟩
theorem dx_5f {N nt c e g x : Nat} {a : Nat → Int32} {s : Sg} {L : Lw} (hb : 128 ≤ s.b.n) (h : RelX N nt c e g a s.A) (hR : Rl s x L) {o : Nat} {v w u nn : Int32} (ga : (hp s).g o = some (.inr (15, [.int 205, .int v, .int w, .int u, .int nn]))) (hc : (vwM a).weds v w = false) : RX (QF s (a) 1 3) 70 mX0_does [.ref 512, .ref o] (hp s) (some (.int (b2i false))) := by
  refine RX.of rfl (Nat.le_of_ble_eq_true rfl) rfl ?_
  refine AX.map (fun _ k_ => AW.aload_n dX0_does_0 rfl rfl k_) ?_
  refine AX.map (fun _ k_ => AW.callV (Y := mX15_sort) (n := 0) (r_X15_sort ga) (by decide) (by decide) rfl ga q1078 q1079 q1080 q171 q1081 dX0_does_1 (by decide +kernel) rfl rfl (Nat.le_of_ble_eq_true rfl) rfl k_) ?_
  refine AX.map (fun _ k_ => AW.tableIn (off := 82) (tgt := 86) dX0_does_4 (by decide) (by decide) rfl (by decide) k_) ?_
  refine AX.map (fun _ k_ => AW.aload_n dX0_does_86 rfl rfl k_) ?_
  refine AX.map (fun _ k_ => AW.aload_n dX0_does_87 rfl rfl k_) ?_
  refine AX.map (fun _ k_ => AW.callV (Y := mX15_a) (n := 0) (r_X15_a ga) (by decide) (by decide) rfl ga q1082 q1083 q1084 q171 q1085 dX0_does_88 (by decide +kernel) rfl rfl (Nat.le_of_ble_eq_true rfl) rfl k_) ?_
  refine AX.map (fun _ k_ => AW.aload_n dX0_does_91 rfl rfl k_) ?_
  refine AX.map (fun _ k_ => AW.callV (Y := mX15_b) (n := 0) (r_X15_b ga) (by decide) (by decide) rfl ga q1086 q1087 q1088 q171 q1089 dX0_does_92 (by decide +kernel) rfl rfl (Nat.le_of_ble_eq_true rfl) rfl k_) ?_
  refine AX.map (fun _ k_ => AW.callV (Y := mX0_marry) (n := 2) (q_marry_f h v w hc) (by decide) (by decide) rfl gX q1096 q1033 q1034 q138 q1035 dX0_does_95 (by decide +kernel) rfl rfl (Nat.le_of_ble_eq_true rfl) rfl k_) ?_
  refine AX.map (fun _ k_ => AW.iconst (v := (-1)) dX0_does_98 (by decide) rfl k_) ?_
  refine AX.map (fun _ k_ => AW.icmp_eq (tgt := 106) dX0_does_99 (by decide) rfl (fun _ => k_) (fun c_ => by first | exact absurd c_ rfl | exact absurd rfl c_ | exact absurd c_ (not_not_intro rfl) | exact Bool.noConfusion (c_.symm.trans rfl))) ?_
  refine AX.map (fun _ k_ => AW.iconst (v := 0) dX0_does_106 (by decide) rfl k_) ?_
  exact ⟨_, ⟨s, (Fr.refl s).mono (by decide) (by decide), h.rel, rfl⟩, AW.bretE dX0_does_107 rfl rfl rfl rfl⟩
theorem dx_5t {N nt c e g x : Nat} {a : Nat → Int32} {s : Sg} {L : Lw} (hb : 128 ≤ s.b.n) (h : RelX N nt c e g a s.A) (hR : Rl s x L) {o : Nat} {v w u nn : Int32} (ga : (hp s).g o = some (.inr (15, [.int 205, .int v, .int w, .int u, .int nn]))) (hc : (vwM a).weds v w = true) : RX (QF s (marryM (keepI a) v w (wedI ((vwM a).sh v) ((vwM a).sh w))) 1 3) 70 mX0_does [.ref 512, .ref o] (hp s) (some (.int (b2i true))) := by
  have hm := (q_marry_t h v w hc).1.2
  refine RX.of rfl (Nat.le_of_ble_eq_true rfl) rfl ?_
  refine AX.map (fun _ k_ => AW.aload_n dX0_does_0 rfl rfl k_) ?_
  refine AX.map (fun _ k_ => AW.callV (Y := mX15_sort) (n := 0) (r_X15_sort ga) (by decide) (by decide) rfl ga q1078 q1079 q1080 q171 q1081 dX0_does_1 (by decide +kernel) rfl rfl (Nat.le_of_ble_eq_true rfl) rfl k_) ?_
  refine AX.map (fun _ k_ => AW.tableIn (off := 82) (tgt := 86) dX0_does_4 (by decide) (by decide) rfl (by decide) k_) ?_
  refine AX.map (fun _ k_ => AW.aload_n dX0_does_86 rfl rfl k_) ?_
  refine AX.map (fun _ k_ => AW.aload_n dX0_does_87 rfl rfl k_) ?_
  refine AX.map (fun _ k_ => AW.callV (Y := mX15_a) (n := 0) (r_X15_a ga) (by decide) (by decide) rfl ga q1082 q1083 q1084 q171 q1085 dX0_does_88 (by decide +kernel) rfl rfl (Nat.le_of_ble_eq_true rfl) rfl k_) ?_
  refine AX.map (fun _ k_ => AW.aload_n dX0_does_91 rfl rfl k_) ?_
  refine AX.map (fun _ k_ => AW.callV (Y := mX15_b) (n := 0) (r_X15_b ga) (by decide) (by decide) rfl ga q1086 q1087 q1088 q171 q1089 dX0_does_92 (by decide +kernel) rfl rfl (Nat.le_of_ble_eq_true rfl) rfl k_) ?_
  obtain ⟨_, ⟨t, ft, rt, rfl⟩, run⟩ := (q_marry_t h v w hc).2
  refine AX.map (fun _ k_ => AW.callV (Y := mX0_marry) (n := 2) (run) (by decide) (by decide) rfl gX q1096 q1033 q1034 q138 q1035 dX0_does_95 (by decide +kernel) rfl rfl (Nat.le_of_ble_eq_true rfl) rfl k_) ?_
  refine AX.map (fun _ k_ => AW.iconst (v := (-1)) dX0_does_98 (by decide) rfl k_) ?_
  refine AX.map (fun _ k_ => AW.icmp_eq (tgt := 106) dX0_does_99 (by decide) rfl (fun c_ => by first | exact absurd c_ hm | exact absurd hm c_ | exact Bool.noConfusion (c_.symm.trans hm)) (fun _ => k_)) ?_
  refine AX.map (fun _ k_ => AW.iconst (v := 1) dX0_does_102 (by decide) rfl k_) ?_
  refine AX.map (fun _ k_ => AW.goto (tgt := 107) dX0_does_103 (by decide) k_) ?_
  exact ⟨_, ⟨t, ft.mono (by decide) (by decide), rt, rfl⟩, AW.bretE dX0_does_107 rfl rfl rfl rfl⟩
theorem dx_6f {N nt c e g x : Nat} {a : Nat → Int32} {s : Sg} {L : Lw} (hb : 128 ≤ s.b.n) (h : RelX N nt c e g a s.A) (hR : Rl s x L) {o : Nat} {v w u nn : Int32} (ga : (hp s).g o = some (.inr (15, [.int 206, .int v, .int w, .int u, .int nn]))) (hc : (vwM a).draws v = false) : RX (QF s (a) 1 3) 70 mX0_does [.ref 512, .ref o] (hp s) (some (.int (b2i false))) := by
  refine RX.of rfl (Nat.le_of_ble_eq_true rfl) rfl ?_
  refine AX.map (fun _ k_ => AW.aload_n dX0_does_0 rfl rfl k_) ?_
  refine AX.map (fun _ k_ => AW.callV (Y := mX15_sort) (n := 0) (r_X15_sort ga) (by decide) (by decide) rfl ga q1078 q1079 q1080 q171 q1081 dX0_does_1 (by decide +kernel) rfl rfl (Nat.le_of_ble_eq_true rfl) rfl k_) ?_
  refine AX.map (fun _ k_ => AW.tableIn (off := 104) (tgt := 108) dX0_does_4 (by decide) (by decide) rfl (by decide) k_) ?_
  refine AX.map (fun _ k_ => AW.aload_n dX0_does_108 rfl rfl k_) ?_
  refine AX.map (fun _ k_ => AW.aload_n dX0_does_109 rfl rfl k_) ?_
  refine AX.map (fun _ k_ => AW.callV (Y := mX15_a) (n := 0) (r_X15_a ga) (by decide) (by decide) rfl ga q1082 q1083 q1084 q171 q1085 dX0_does_110 (by decide +kernel) rfl rfl (Nat.le_of_ble_eq_true rfl) rfl k_) ?_
  refine AX.map (fun _ k_ => AW.callV (Y := mX0_hatted) (n := 1) (q_hatted_f h v hc) (by decide) (by decide) rfl gX q1097 q1099 qs42 q138 q1100 dX0_does_113 (by decide +kernel) rfl rfl (Nat.le_of_ble_eq_true rfl) rfl k_) ?_
  exact ⟨_, ⟨s, (Fr.refl s).mono (by decide) (by decide), h.rel, rfl⟩, AW.bretE dX0_does_116 rfl rfl rfl rfl⟩
theorem dx_6t {N nt c e g x : Nat} {a : Nat → Int32} {s : Sg} {L : Lw} (hb : 128 ≤ s.b.n) (h : RelX N nt c e g a s.A) (hR : Rl s x L) {o : Nat} {v w u nn : Int32} (ga : (hp s).g o = some (.inr (15, [.int 206, .int v, .int w, .int u, .int nn]))) (hc : (vwM a).draws v = true) : RX (QF s ((hatR v 20 (keepI a)).2) 1 3) 70 mX0_does [.ref 512, .ref o] (hp s) (some (.int (b2i true))) := by
  refine RX.of rfl (Nat.le_of_ble_eq_true rfl) rfl ?_
  refine AX.map (fun _ k_ => AW.aload_n dX0_does_0 rfl rfl k_) ?_
  refine AX.map (fun _ k_ => AW.callV (Y := mX15_sort) (n := 0) (r_X15_sort ga) (by decide) (by decide) rfl ga q1078 q1079 q1080 q171 q1081 dX0_does_1 (by decide +kernel) rfl rfl (Nat.le_of_ble_eq_true rfl) rfl k_) ?_
  refine AX.map (fun _ k_ => AW.tableIn (off := 104) (tgt := 108) dX0_does_4 (by decide) (by decide) rfl (by decide) k_) ?_
  refine AX.map (fun _ k_ => AW.aload_n dX0_does_108 rfl rfl k_) ?_
  refine AX.map (fun _ k_ => AW.aload_n dX0_does_109 rfl rfl k_) ?_
  refine AX.map (fun _ k_ => AW.callV (Y := mX15_a) (n := 0) (r_X15_a ga) (by decide) (by decide) rfl ga q1082 q1083 q1084 q171 q1085 dX0_does_110 (by decide +kernel) rfl rfl (Nat.le_of_ble_eq_true rfl) rfl k_) ?_
  obtain ⟨_, ⟨t, ft, rt, rfl⟩, run⟩ := q_hatted_t h v hc
  refine AX.map (fun _ k_ => AW.callV (Y := mX0_hatted) (n := 1) (run) (by decide) (by decide) rfl gX q1097 q1099 qs42 q138 q1100 dX0_does_113 (by decide +kernel) rfl rfl (Nat.le_of_ble_eq_true rfl) rfl k_) ?_
  exact ⟨_, ⟨t, ft.mono (by decide) (by decide), rt, rfl⟩, AW.bretE dX0_does_116 rfl rfl rfl rfl⟩
theorem dx_7f {N nt c e g x : Nat} {a : Nat → Int32} {s : Sg} {L : Lw} (hb : 128 ≤ s.b.n) (h : RelX N nt c e g a s.A) (hR : Rl s x L) {o : Nat} {v w u nn : Int32} (ga : (hp s).g o = some (.inr (15, [.int 207, .int v, .int w, .int u, .int nn]))) (hc : (vwM a).forgets v w = false) : RX (QF s (a) 1 3) 70 mX0_does [.ref 512, .ref o] (hp s) (some (.int (b2i false))) := by
  refine RX.of rfl (Nat.le_of_ble_eq_true rfl) rfl ?_
  refine AX.map (fun _ k_ => AW.aload_n dX0_does_0 rfl rfl k_) ?_
  refine AX.map (fun _ k_ => AW.callV (Y := mX15_sort) (n := 0) (r_X15_sort ga) (by decide) (by decide) rfl ga q1078 q1079 q1080 q171 q1081 dX0_does_1 (by decide +kernel) rfl rfl (Nat.le_of_ble_eq_true rfl) rfl k_) ?_
  refine AX.map (fun _ k_ => AW.tableIn (off := 113) (tgt := 117) dX0_does_4 (by decide) (by decide) rfl (by decide) k_) ?_
  refine AX.map (fun _ k_ => AW.aload_n dX0_does_117 rfl rfl k_) ?_
  refine AX.map (fun _ k_ => AW.aload_n dX0_does_118 rfl rfl k_) ?_
  refine AX.map (fun _ k_ => AW.callV (Y := mX15_a) (n := 0) (r_X15_a ga) (by decide) (by decide) rfl ga q1082 q1083 q1084 q171 q1085 dX0_does_119 (by decide +kernel) rfl rfl (Nat.le_of_ble_eq_true rfl) rfl k_) ?_
  refine AX.map (fun _ k_ => AW.aload_n dX0_does_122 rfl rfl k_) ?_
  refine AX.map (fun _ k_ => AW.callV (Y := mX15_b) (n := 0) (r_X15_b ga) (by decide) (by decide) rfl ga q1086 q1087 q1088 q171 q1089 dX0_does_123 (by decide +kernel) rfl rfl (Nat.le_of_ble_eq_true rfl) rfl k_) ?_
  refine AX.map (fun _ k_ => AW.callV (Y := mX0_forget) (n := 2) (q_forget_f h v w hc) (by decide) (by decide) rfl gX q1102 q1057 q1058 q138 q1059 dX0_does_126 (by decide +kernel) rfl rfl (Nat.le_of_ble_eq_true rfl) rfl k_) ?_
  exact ⟨_, ⟨s, (Fr.refl s).mono (by decide) (by decide), h.rel, rfl⟩, AW.bretE dX0_does_129 rfl rfl rfl rfl⟩
theorem dx_7t {N nt c e g x : Nat} {a : Nat → Int32} {s : Sg} {L : Lw} (hb : 128 ≤ s.b.n) (h : RelX N nt c e g a s.A) (hR : Rl s x L) {o : Nat} {v w u nn : Int32} (ga : (hp s).g o = some (.inr (15, [.int 207, .int v, .int w, .int u, .int nn]))) (hc : (vwM a).forgets v w = true) : RX (QF s (forgetM (keepI a) v w) 1 3) 70 mX0_does [.ref 512, .ref o] (hp s) (some (.int (b2i true))) := by
  refine RX.of rfl (Nat.le_of_ble_eq_true rfl) rfl ?_
  refine AX.map (fun _ k_ => AW.aload_n dX0_does_0 rfl rfl k_) ?_
  refine AX.map (fun _ k_ => AW.callV (Y := mX15_sort) (n := 0) (r_X15_sort ga) (by decide) (by decide) rfl ga q1078 q1079 q1080 q171 q1081 dX0_does_1 (by decide +kernel) rfl rfl (Nat.le_of_ble_eq_true rfl) rfl k_) ?_
  refine AX.map (fun _ k_ => AW.tableIn (off := 113) (tgt := 117) dX0_does_4 (by decide) (by decide) rfl (by decide) k_) ?_
  refine AX.map (fun _ k_ => AW.aload_n dX0_does_117 rfl rfl k_) ?_
  refine AX.map (fun _ k_ => AW.aload_n dX0_does_118 rfl rfl k_) ?_
  refine AX.map (fun _ k_ => AW.callV (Y := mX15_a) (n := 0) (r_X15_a ga) (by decide) (by decide) rfl ga q1082 q1083 q1084 q171 q1085 dX0_does_119 (by decide +kernel) rfl rfl (Nat.le_of_ble_eq_true rfl) rfl k_) ?_
  refine AX.map (fun _ k_ => AW.aload_n dX0_does_122 rfl rfl k_) ?_
  refine AX.map (fun _ k_ => AW.callV (Y := mX15_b) (n := 0) (r_X15_b ga) (by decide) (by decide) rfl ga q1086 q1087 q1088 q171 q1089 dX0_does_123 (by decide +kernel) rfl rfl (Nat.le_of_ble_eq_true rfl) rfl k_) ?_
  obtain ⟨_, ⟨t, ft, rt, rfl⟩, run⟩ := q_forget_t h v w hc
  refine AX.map (fun _ k_ => AW.callV (Y := mX0_forget) (n := 2) (run) (by decide) (by decide) rfl gX q1102 q1057 q1058 q138 q1059 dX0_does_126 (by decide +kernel) rfl rfl (Nat.le_of_ble_eq_true rfl) rfl k_) ?_
  exact ⟨_, ⟨t, ft.mono (by decide) (by decide), rt, rfl⟩, AW.bretE dX0_does_129 rfl rfl rfl rfl⟩
theorem dx_8 {N nt c e g x : Nat} {a : Nat → Int32} {s : Sg} {L : Lw} (hb : 128 ≤ s.b.n) (h : RelX N nt c e g a s.A) (hR : Rl s x L) {o : Nat} {v w u nn : Int32} (ga : (hp s).g o = some (.inr (15, [.int 208, .int v, .int w, .int u, .int nn]))) {m : Nat} (hm : m ≤ 60) (hv : v = nI m) : RX (QF s (keepsM a L m) 1 3) 70 mX0_does [.ref 512, .ref o] (hp s) (some (.int (b2i (arePF a L (m - 0) 0)))) := by
  subst hv
  refine RX.of rfl (Nat.le_of_ble_eq_true rfl) rfl ?_
  refine AX.map (fun _ k_ => AW.aload_n dX0_does_0 rfl rfl k_) ?_
  refine AX.map (fun _ k_ => AW.callV (Y := mX15_sort) (n := 0) (r_X15_sort ga) (by decide) (by decide) rfl ga q1078 q1079 q1080 q171 q1081 dX0_does_1 (by decide +kernel) rfl rfl (Nat.le_of_ble_eq_true rfl) rfl k_) ?_
  refine AX.map (fun _ k_ => AW.tableOut (tgt := 130) dX0_does_4 (by decide) (by decide) k_) ?_
  refine AX.map (fun _ k_ => AW.aload_n dX0_does_130 rfl rfl k_) ?_
  refine AX.map (fun _ k_ => AW.aload_n dX0_does_131 rfl rfl k_) ?_
  refine AX.map (fun _ k_ => AW.callV (Y := mX15_a) (n := 0) (r_X15_a ga) (by decide) (by decide) rfl ga q1082 q1083 q1084 q171 q1085 dX0_does_132 (by decide +kernel) rfl rfl (Nat.le_of_ble_eq_true rfl) rfl k_) ?_
  obtain ⟨_, ⟨t, ft, rt, rfl⟩, run⟩ := q_passesAll hb h hR (m := m) (by omega)
  refine AX.map (fun _ k_ => AW.callV (Y := mX0_passesAll) (n := 1) (run) (by decide) (by decide) rfl gX q1103 q1105 qs43 q138 q1106 dX0_does_135 (by decide +kernel) rfl rfl (Nat.le_of_ble_eq_true rfl) rfl k_) ?_
  exact ⟨_, ⟨t, ft.mono (by decide) (by decide), rt, rfl⟩, AW.bretE dX0_does_138 rfl rfl rfl rfl⟩
/-- a doing, as the model does it -/
theorem q_does {N nt c e g x : Nat} {a : Nat → Int32} {s : Sg} {L : Lw} (hb : 128 ≤ s.b.n) (h : RelX N nt c e g a s.A) (hR : Rl s x L) {o : Nat} {q v w u nn : Int32} (hq : q = 3 ∨ q = 4 ∨ q = 5 ∨ q = 6 ∨ q = 7 ∨ q = 8) (hd : dayOk q v) (ga : (hp s).g o = some (.inr (15, [.int (200 + q), .int v, .int w, .int u, .int nn]))) : RX (QF s (doM a L q v w u).2 1 3) 70 mX0_does [.ref 512, .ref o] (hp s) (some (.int (b2i (doM a L q v w u).1))) := by
  have e0 : cI (a 0) = N := by rw [h.n0.1]; exact cI_nI (by have := h.n0.2.2; omega)
  unfold doM
  rcases hq with rfl | rfl | rfl | rfl | rfl | rfl
  · rw [if_pos rfl, e0]
    cases z : okH (a 0) v (-1) (-1) w u
    · exact dx_3f hb h hR ga z
    · exact dx_3t hb h hR ga z
  · rw [if_neg (by decide), if_pos rfl]
    cases z : (vwM a).her v
    · exact dx_4f hb h hR ga z
    · exact dx_4t hb h hR ga z
  · rw [if_neg (by decide), if_neg (by decide), if_pos rfl]
    cases z : (vwM a).weds v w
    · exact dx_5f hb h hR ga z
    · rw [if_pos rfl, decide_eq_true (q_marry_t h v w z).1.1]
      exact dx_5t hb h hR ga z
  · rw [if_neg (by decide), if_neg (by decide), if_neg (by decide), if_pos rfl]
    cases z : (vwM a).draws v
    · exact dx_6f hb h hR ga z
    · exact dx_6t hb h hR ga z
  · rw [if_neg (by decide), if_neg (by decide), if_neg (by decide), if_neg (by decide), if_pos rfl]
    cases z : (vwM a).forgets v w
    · exact dx_7f hb h hR ga z
    · exact dx_7t hb h hR ga z
  · rw [if_neg (by decide), if_neg (by decide), if_neg (by decide), if_neg (by decide), if_neg (by decide), if_pos rfl]
    obtain ⟨h0, h6⟩ := hd rfl
    have hc := cI_of h0
    exact dx_8 hb h hR ga (m := cI v) (by omega) (nI_cI h0).symm
