/-! SYSTEM 38: what happens, years, a text played (printed by tools/x38.py) -/
set_option maxRecDepth 100000
theorem hx_0f {N nt c e g x : Nat} {a : Nat → Int32} {s : Sg} {L : Lw} (hb : 128 ≤ s.b.n) (h : RelX N nt c e g a s.A) (hR : Rl s x L) {k : Nat} {y : Int32} (hk : k < N) (eh : y % s.A 514 0 = nI k) (hz : ¬ s.A 514 0 = 0) (h6 : y % 6 = 0) (hc : (vwM a).her (nI k) = false) : RX (QF s (a) 1 3) 66 mX0_happens [.ref 512, .int y] (hp s) none := by
  have n7 := h.n0.2.2
  rw [h.vw] at hc
  refine RX.of rfl (Nat.le_of_ble_eq_true rfl) rfl ?_
  refine AX.map (fun _ k_ => AW.iload_n dX0_happens_0 rfl rfl k_) ?_
  refine AX.map (fun _ k_ => AW.aload_n dX0_happens_1 rfl rfl k_) ?_
  refine AX.map (fun _ k_ => AW.get ci0 0 (by decide) q229 dX0_happens_2 gX rfl rfl k_) ?_
  refine AX.map (fun _ k_ => AW.getN ci1 0 (by decide) q191 dX0_happens_5 gN rfl rfl k_) ?_
  refine AX.map (fun _ k_ => AW.iconst (v := 0) dX0_happens_8 (by decide) rfl k_) ?_
  refine AX.map (fun _ k_ => AW.iald dX0_happens_9 g514 (vp_in_iff.mpr (by decide)) (j := 0) (by decide) rfl k_) ?_
  refine AX.map (fun _ k_ => AW.irem dX0_happens_10 hz rfl k_) ?_
  refine AX.map (fun _ k_ => AW.istore_n (i := 2) dX0_happens_11 rfl rfl (Nat.le_of_ble_eq_true rfl) rfl rfl k_) ?_
  refine AX.lsE (ls1 := [some (.ref 512), some (.int (y)), some (.int (nI k)), none]) (by rw [eh]; rfl) ?_
  refine AX.map (fun _ k_ => AW.iload_n dX0_happens_12 rfl rfl k_) ?_
  refine AX.map (fun _ k_ => AW.bipush (v := 6) dX0_happens_13 (by decide) rfl k_) ?_
  refine AX.map (fun _ k_ => AW.irem dX0_happens_15 (by decide) rfl k_) ?_
  refine AX.map (fun _ k_ => AW.tableIn (off := 32) (tgt := 48) dX0_happens_16 (by rw [h6]; decide) (by rw [h6]; decide) (by rw [h6]; rfl) (by decide) k_) ?_
  refine AX.map (fun _ k_ => AW.aload_n dX0_happens_48 rfl rfl k_) ?_
  refine AX.map (fun _ k_ => AW.iload_n dX0_happens_49 rfl rfl k_) ?_
  refine AX.map (fun _ k_ => AW.callV (Y := mX0_isThere) (n := 1) (r_X0_isThere _) (by decide) (by decide) rfl gX q980 q982 qs33 q138 q983 dX0_happens_50 (by decide +kernel) rfl rfl (Nat.le_of_ble_eq_true rfl) rfl k_) ?_
  refine AX.map (fun _ k_ => AW.if_eqB (tgt := 64) dX0_happens_53 (by decide) rfl (fun _ => k_) (fun c_ => by first | exact absurd c_ hc | exact absurd hc c_ | exact absurd c_ (not_not_intro hc) | exact Bool.noConfusion (c_.symm.trans hc))) ?_
  refine AX.map (fun _ k_ => AW.iconst (v := 0) dX0_happens_64 (by decide) rfl k_) ?_
  refine AX.map (fun _ k_ => AW.istore_n (i := 3) dX0_happens_65 rfl rfl (Nat.le_of_ble_eq_true rfl) rfl rfl k_) ?_
  refine AX.map (fun _ k_ => AW.goto (tgt := 167) dX0_happens_66 (by decide) k_) ?_
  exact ⟨_, ⟨s, (Fr.refl s).mono (by decide) (by decide), h.rel, rfl⟩, AW.vretE dX0_happens_167 rfl rfl rfl⟩
theorem hx_0t {N nt c e g x : Nat} {a : Nat → Int32} {s : Sg} {L : Lw} (hb : 128 ≤ s.b.n) (h : RelX N nt c e g a s.A) (hR : Rl s x L) {k : Nat} {y : Int32} (hk : k < N) (eh : y % s.A 514 0 = nI k) (hz : ¬ s.A 514 0 = 0) (h6 : y % 6 = 0) (hc : (vwM a).her (nI k) = true) : RX (QF s (knockM a L (nI k)) 1 3) 66 mX0_happens [.ref 512, .int y] (hp s) none := by
  have n7 := h.n0.2.2
  rw [h.vw] at hc
  refine RX.of rfl (Nat.le_of_ble_eq_true rfl) rfl ?_
  refine AX.map (fun _ k_ => AW.iload_n dX0_happens_0 rfl rfl k_) ?_
  refine AX.map (fun _ k_ => AW.aload_n dX0_happens_1 rfl rfl k_) ?_
  refine AX.map (fun _ k_ => AW.get ci0 0 (by decide) q229 dX0_happens_2 gX rfl rfl k_) ?_
  refine AX.map (fun _ k_ => AW.getN ci1 0 (by decide) q191 dX0_happens_5 gN rfl rfl k_) ?_
  refine AX.map (fun _ k_ => AW.iconst (v := 0) dX0_happens_8 (by decide) rfl k_) ?_
  refine AX.map (fun _ k_ => AW.iald dX0_happens_9 g514 (vp_in_iff.mpr (by decide)) (j := 0) (by decide) rfl k_) ?_
  refine AX.map (fun _ k_ => AW.irem dX0_happens_10 hz rfl k_) ?_
  refine AX.map (fun _ k_ => AW.istore_n (i := 2) dX0_happens_11 rfl rfl (Nat.le_of_ble_eq_true rfl) rfl rfl k_) ?_
  refine AX.lsE (ls1 := [some (.ref 512), some (.int (y)), some (.int (nI k)), none]) (by rw [eh]; rfl) ?_
  refine AX.map (fun _ k_ => AW.iload_n dX0_happens_12 rfl rfl k_) ?_
  refine AX.map (fun _ k_ => AW.bipush (v := 6) dX0_happens_13 (by decide) rfl k_) ?_
  refine AX.map (fun _ k_ => AW.irem dX0_happens_15 (by decide) rfl k_) ?_
  refine AX.map (fun _ k_ => AW.tableIn (off := 32) (tgt := 48) dX0_happens_16 (by rw [h6]; decide) (by rw [h6]; decide) (by rw [h6]; rfl) (by decide) k_) ?_
  refine AX.map (fun _ k_ => AW.aload_n dX0_happens_48 rfl rfl k_) ?_
  refine AX.map (fun _ k_ => AW.iload_n dX0_happens_49 rfl rfl k_) ?_
  refine AX.map (fun _ k_ => AW.callV (Y := mX0_isThere) (n := 1) (r_X0_isThere _) (by decide) (by decide) rfl gX q980 q982 qs33 q138 q983 dX0_happens_50 (by decide +kernel) rfl rfl (Nat.le_of_ble_eq_true rfl) rfl k_) ?_
  refine AX.map (fun _ k_ => AW.if_eqB (tgt := 64) dX0_happens_53 (by decide) rfl (fun c_ => by first | exact absurd c_ hc | exact absurd hc c_ | exact Bool.noConfusion (c_.symm.trans hc)) (fun _ => k_)) ?_
  refine AX.map (fun _ k_ => AW.aload_n dX0_happens_56 rfl rfl k_) ?_
  refine AX.map (fun _ k_ => AW.iload_n dX0_happens_57 rfl rfl k_) ?_
  obtain ⟨_, ⟨t, ft, rt, rfl⟩, run⟩ := q_knocking hb h hR hk
  refine AX.map (fun _ k_ => AW.callV (Y := mX0_knocking) (n := 1) (run) (by decide) (by decide) rfl gX q984 q986 qs34 q138 q987 dX0_happens_58 (by decide +kernel) rfl rfl (Nat.le_of_ble_eq_true rfl) rfl k_) ?_
  refine AX.map (fun _ k_ => AW.goto (tgt := 65) dX0_happens_61 (by decide) k_) ?_
  refine AX.map (fun _ k_ => AW.istore_n (i := 3) dX0_happens_65 rfl rfl (Nat.le_of_ble_eq_true rfl) rfl rfl k_) ?_
  refine AX.map (fun _ k_ => AW.goto (tgt := 167) dX0_happens_66 (by decide) k_) ?_
  exact ⟨_, ⟨t, ft, rt, rfl⟩, AW.vretE dX0_happens_167 rfl rfl rfl⟩
theorem hx_1f {N nt c e g x : Nat} {a : Nat → Int32} {s : Sg} {L : Lw} (hb : 128 ≤ s.b.n) (h : RelX N nt c e g a s.A) (hR : Rl s x L) {k : Nat} {y : Int32} (hk : k < N) (eh : y % s.A 514 0 = nI k) (hz : ¬ s.A 514 0 = 0) (h6 : y % 6 = 1) (hc : (vwM a).her (nI k) = false) : RX (QF s (a) 1 3) 66 mX0_happens [.ref 512, .int y] (hp s) none := by
  have n7 := h.n0.2.2
  rw [h.vw] at hc
  refine RX.of rfl (Nat.le_of_ble_eq_true rfl) rfl ?_
  refine AX.map (fun _ k_ => AW.iload_n dX0_happens_0 rfl rfl k_) ?_
  refine AX.map (fun _ k_ => AW.aload_n dX0_happens_1 rfl rfl k_) ?_
  refine AX.map (fun _ k_ => AW.get ci0 0 (by decide) q229 dX0_happens_2 gX rfl rfl k_) ?_
  refine AX.map (fun _ k_ => AW.getN ci1 0 (by decide) q191 dX0_happens_5 gN rfl rfl k_) ?_
  refine AX.map (fun _ k_ => AW.iconst (v := 0) dX0_happens_8 (by decide) rfl k_) ?_
  refine AX.map (fun _ k_ => AW.iald dX0_happens_9 g514 (vp_in_iff.mpr (by decide)) (j := 0) (by decide) rfl k_) ?_
  refine AX.map (fun _ k_ => AW.irem dX0_happens_10 hz rfl k_) ?_
  refine AX.map (fun _ k_ => AW.istore_n (i := 2) dX0_happens_11 rfl rfl (Nat.le_of_ble_eq_true rfl) rfl rfl k_) ?_
  refine AX.lsE (ls1 := [some (.ref 512), some (.int (y)), some (.int (nI k)), none]) (by rw [eh]; rfl) ?_
  refine AX.map (fun _ k_ => AW.iload_n dX0_happens_12 rfl rfl k_) ?_
  refine AX.map (fun _ k_ => AW.bipush (v := 6) dX0_happens_13 (by decide) rfl k_) ?_
  refine AX.map (fun _ k_ => AW.irem dX0_happens_15 (by decide) rfl k_) ?_
  refine AX.map (fun _ k_ => AW.tableIn (off := 32) (tgt := 48) dX0_happens_16 (by rw [h6]; decide) (by rw [h6]; decide) (by rw [h6]; rfl) (by decide) k_) ?_
  refine AX.map (fun _ k_ => AW.aload_n dX0_happens_48 rfl rfl k_) ?_
  refine AX.map (fun _ k_ => AW.iload_n dX0_happens_49 rfl rfl k_) ?_
  refine AX.map (fun _ k_ => AW.callV (Y := mX0_isThere) (n := 1) (r_X0_isThere _) (by decide) (by decide) rfl gX q980 q982 qs33 q138 q983 dX0_happens_50 (by decide +kernel) rfl rfl (Nat.le_of_ble_eq_true rfl) rfl k_) ?_
  refine AX.map (fun _ k_ => AW.if_eqB (tgt := 64) dX0_happens_53 (by decide) rfl (fun _ => k_) (fun c_ => by first | exact absurd c_ hc | exact absurd hc c_ | exact absurd c_ (not_not_intro hc) | exact Bool.noConfusion (c_.symm.trans hc))) ?_
  refine AX.map (fun _ k_ => AW.iconst (v := 0) dX0_happens_64 (by decide) rfl k_) ?_
  refine AX.map (fun _ k_ => AW.istore_n (i := 3) dX0_happens_65 rfl rfl (Nat.le_of_ble_eq_true rfl) rfl rfl k_) ?_
  refine AX.map (fun _ k_ => AW.goto (tgt := 167) dX0_happens_66 (by decide) k_) ?_
  exact ⟨_, ⟨s, (Fr.refl s).mono (by decide) (by decide), h.rel, rfl⟩, AW.vretE dX0_happens_167 rfl rfl rfl⟩
theorem hx_1t {N nt c e g x : Nat} {a : Nat → Int32} {s : Sg} {L : Lw} (hb : 128 ≤ s.b.n) (h : RelX N nt c e g a s.A) (hR : Rl s x L) {k : Nat} {y : Int32} (hk : k < N) (eh : y % s.A 514 0 = nI k) (hz : ¬ s.A 514 0 = 0) (h6 : y % 6 = 1) (hc : (vwM a).her (nI k) = true) : RX (QF s (knockM a L (nI k)) 1 3) 66 mX0_happens [.ref 512, .int y] (hp s) none := by
  have n7 := h.n0.2.2
  rw [h.vw] at hc
  refine RX.of rfl (Nat.le_of_ble_eq_true rfl) rfl ?_
  refine AX.map (fun _ k_ => AW.iload_n dX0_happens_0 rfl rfl k_) ?_
  refine AX.map (fun _ k_ => AW.aload_n dX0_happens_1 rfl rfl k_) ?_
  refine AX.map (fun _ k_ => AW.get ci0 0 (by decide) q229 dX0_happens_2 gX rfl rfl k_) ?_
  refine AX.map (fun _ k_ => AW.getN ci1 0 (by decide) q191 dX0_happens_5 gN rfl rfl k_) ?_
  refine AX.map (fun _ k_ => AW.iconst (v := 0) dX0_happens_8 (by decide) rfl k_) ?_
  refine AX.map (fun _ k_ => AW.iald dX0_happens_9 g514 (vp_in_iff.mpr (by decide)) (j := 0) (by decide) rfl k_) ?_
  refine AX.map (fun _ k_ => AW.irem dX0_happens_10 hz rfl k_) ?_
  refine AX.map (fun _ k_ => AW.istore_n (i := 2) dX0_happens_11 rfl rfl (Nat.le_of_ble_eq_true rfl) rfl rfl k_) ?_
  refine AX.lsE (ls1 := [some (.ref 512), some (.int (y)), some (.int (nI k)), none]) (by rw [eh]; rfl) ?_
  refine AX.map (fun _ k_ => AW.iload_n dX0_happens_12 rfl rfl k_) ?_
  refine AX.map (fun _ k_ => AW.bipush (v := 6) dX0_happens_13 (by decide) rfl k_) ?_
  refine AX.map (fun _ k_ => AW.irem dX0_happens_15 (by decide) rfl k_) ?_
  refine AX.map (fun _ k_ => AW.tableIn (off := 32) (tgt := 48) dX0_happens_16 (by rw [h6]; decide) (by rw [h6]; decide) (by rw [h6]; rfl) (by decide) k_) ?_
  refine AX.map (fun _ k_ => AW.aload_n dX0_happens_48 rfl rfl k_) ?_
  refine AX.map (fun _ k_ => AW.iload_n dX0_happens_49 rfl rfl k_) ?_
  refine AX.map (fun _ k_ => AW.callV (Y := mX0_isThere) (n := 1) (r_X0_isThere _) (by decide) (by decide) rfl gX q980 q982 qs33 q138 q983 dX0_happens_50 (by decide +kernel) rfl rfl (Nat.le_of_ble_eq_true rfl) rfl k_) ?_
  refine AX.map (fun _ k_ => AW.if_eqB (tgt := 64) dX0_happens_53 (by decide) rfl (fun c_ => by first | exact absurd c_ hc | exact absurd hc c_ | exact Bool.noConfusion (c_.symm.trans hc)) (fun _ => k_)) ?_
  refine AX.map (fun _ k_ => AW.aload_n dX0_happens_56 rfl rfl k_) ?_
  refine AX.map (fun _ k_ => AW.iload_n dX0_happens_57 rfl rfl k_) ?_
  obtain ⟨_, ⟨t, ft, rt, rfl⟩, run⟩ := q_knocking hb h hR hk
  refine AX.map (fun _ k_ => AW.callV (Y := mX0_knocking) (n := 1) (run) (by decide) (by decide) rfl gX q984 q986 qs34 q138 q987 dX0_happens_58 (by decide +kernel) rfl rfl (Nat.le_of_ble_eq_true rfl) rfl k_) ?_
  refine AX.map (fun _ k_ => AW.goto (tgt := 65) dX0_happens_61 (by decide) k_) ?_
  refine AX.map (fun _ k_ => AW.istore_n (i := 3) dX0_happens_65 rfl rfl (Nat.le_of_ble_eq_true rfl) rfl rfl k_) ?_
  refine AX.map (fun _ k_ => AW.goto (tgt := 167) dX0_happens_66 (by decide) k_) ?_
  exact ⟨_, ⟨t, ft, rt, rfl⟩, AW.vretE dX0_happens_167 rfl rfl rfl⟩
theorem hx_2n {N nt c e g x : Nat} {a : Nat → Int32} {s : Sg} {L : Lw} (hb : 128 ≤ s.b.n) (h : RelX N nt c e g a s.A) (hR : Rl s x L) {k : Nat} {y : Int32} (hk : k < N) (eh : y % s.A 514 0 = nI k) (hz : ¬ s.A 514 0 = 0) (h6 : y % 6 = 2) (h4 : ¬ y % 4 = 0) : RX (QF s (a) 1 3) 66 mX0_happens [.ref 512, .int y] (hp s) none := by
  have n7 := h.n0.2.2
  refine RX.of rfl (Nat.le_of_ble_eq_true rfl) rfl ?_
  refine AX.map (fun _ k_ => AW.iload_n dX0_happens_0 rfl rfl k_) ?_
  refine AX.map (fun _ k_ => AW.aload_n dX0_happens_1 rfl rfl k_) ?_
  refine AX.map (fun _ k_ => AW.get ci0 0 (by decide) q229 dX0_happens_2 gX rfl rfl k_) ?_
  refine AX.map (fun _ k_ => AW.getN ci1 0 (by decide) q191 dX0_happens_5 gN rfl rfl k_) ?_
  refine AX.map (fun _ k_ => AW.iconst (v := 0) dX0_happens_8 (by decide) rfl k_) ?_
  refine AX.map (fun _ k_ => AW.iald dX0_happens_9 g514 (vp_in_iff.mpr (by decide)) (j := 0) (by decide) rfl k_) ?_
  refine AX.map (fun _ k_ => AW.irem dX0_happens_10 hz rfl k_) ?_
  refine AX.map (fun _ k_ => AW.istore_n (i := 2) dX0_happens_11 rfl rfl (Nat.le_of_ble_eq_true rfl) rfl rfl k_) ?_
  refine AX.lsE (ls1 := [some (.ref 512), some (.int (y)), some (.int (nI k)), none]) (by rw [eh]; rfl) ?_
  refine AX.map (fun _ k_ => AW.iload_n dX0_happens_12 rfl rfl k_) ?_
  refine AX.map (fun _ k_ => AW.bipush (v := 6) dX0_happens_13 (by decide) rfl k_) ?_
  refine AX.map (fun _ k_ => AW.irem dX0_happens_15 (by decide) rfl k_) ?_
  refine AX.map (fun _ k_ => AW.tableIn (off := 53) (tgt := 69) dX0_happens_16 (by rw [h6]; decide) (by rw [h6]; decide) (by rw [h6]; rfl) (by decide) k_) ?_
  refine AX.map (fun _ k_ => AW.iload_n dX0_happens_69 rfl rfl k_) ?_
  refine AX.map (fun _ k_ => AW.iconst (v := 4) dX0_happens_70 (by decide) rfl k_) ?_
  refine AX.map (fun _ k_ => AW.irem dX0_happens_71 (by decide) rfl k_) ?_
  refine AX.map (fun _ k_ => AW.if_ne (tgt := 91) dX0_happens_72 (by decide) rfl (fun _ => k_) (fun c_ => by first | exact absurd c_ h4 | exact absurd h4 c_ | exact absurd c_ (not_not_intro h4) | exact Bool.noConfusion (c_.symm.trans h4))) ?_
  refine AX.map (fun _ k_ => AW.iconst (v := (-1)) dX0_happens_91 (by decide) rfl k_) ?_
  refine AX.map (fun _ k_ => AW.istore_n (i := 3) dX0_happens_92 rfl rfl (Nat.le_of_ble_eq_true rfl) rfl rfl k_) ?_
  refine AX.map (fun _ k_ => AW.goto (tgt := 167) dX0_happens_93 (by decide) k_) ?_
  exact ⟨_, ⟨s, (Fr.refl s).mono (by decide) (by decide), h.rel, rfl⟩, AW.vretE dX0_happens_167 rfl rfl rfl⟩
theorem hx_2f {N nt c e g x : Nat} {a : Nat → Int32} {s : Sg} {L : Lw} (hb : 128 ≤ s.b.n) (h : RelX N nt c e g a s.A) (hR : Rl s x L) {k : Nat} {y : Int32} (hk : k < N) (eh : y % s.A 514 0 = nI k) (hz : ¬ s.A 514 0 = 0) (h6 : y % 6 = 2) (h4 : y % 4 = 0) (hc : (vwM a).draws (nI k) = false) : RX (QF s (a) 1 3) 66 mX0_happens [.ref 512, .int y] (hp s) none := by
  have n7 := h.n0.2.2
  have hc2 : (vwS (s.A 514) (s.A 515)).canHatS (nI k) = _ := (draws_same h (nI k)).trans hc
  refine RX.of rfl (Nat.le_of_ble_eq_true rfl) rfl ?_
  refine AX.map (fun _ k_ => AW.iload_n dX0_happens_0 rfl rfl k_) ?_
  refine AX.map (fun _ k_ => AW.aload_n dX0_happens_1 rfl rfl k_) ?_
  refine AX.map (fun _ k_ => AW.get ci0 0 (by decide) q229 dX0_happens_2 gX rfl rfl k_) ?_
  refine AX.map (fun _ k_ => AW.getN ci1 0 (by decide) q191 dX0_happens_5 gN rfl rfl k_) ?_
  refine AX.map (fun _ k_ => AW.iconst (v := 0) dX0_happens_8 (by decide) rfl k_) ?_
  refine AX.map (fun _ k_ => AW.iald dX0_happens_9 g514 (vp_in_iff.mpr (by decide)) (j := 0) (by decide) rfl k_) ?_
  refine AX.map (fun _ k_ => AW.irem dX0_happens_10 hz rfl k_) ?_
  refine AX.map (fun _ k_ => AW.istore_n (i := 2) dX0_happens_11 rfl rfl (Nat.le_of_ble_eq_true rfl) rfl rfl k_) ?_
  refine AX.lsE (ls1 := [some (.ref 512), some (.int (y)), some (.int (nI k)), none]) (by rw [eh]; rfl) ?_
  refine AX.map (fun _ k_ => AW.iload_n dX0_happens_12 rfl rfl k_) ?_
  refine AX.map (fun _ k_ => AW.bipush (v := 6) dX0_happens_13 (by decide) rfl k_) ?_
  refine AX.map (fun _ k_ => AW.irem dX0_happens_15 (by decide) rfl k_) ?_
  refine AX.map (fun _ k_ => AW.tableIn (off := 53) (tgt := 69) dX0_happens_16 (by rw [h6]; decide) (by rw [h6]; decide) (by rw [h6]; rfl) (by decide) k_) ?_
  refine AX.map (fun _ k_ => AW.iload_n dX0_happens_69 rfl rfl k_) ?_
  refine AX.map (fun _ k_ => AW.iconst (v := 4) dX0_happens_70 (by decide) rfl k_) ?_
  refine AX.map (fun _ k_ => AW.irem dX0_happens_71 (by decide) rfl k_) ?_
  refine AX.map (fun _ k_ => AW.if_ne (tgt := 91) dX0_happens_72 (by decide) rfl (fun c_ => by first | exact absurd c_ h4 | exact absurd h4 c_ | exact Bool.noConfusion (c_.symm.trans h4)) (fun _ => k_)) ?_
  refine AX.map (fun _ k_ => AW.aload_n dX0_happens_75 rfl rfl k_) ?_
  refine AX.map (fun _ k_ => AW.iload_n dX0_happens_76 rfl rfl k_) ?_
  refine AX.map (fun _ k_ => AW.callV (Y := mX0_canHat) (n := 1) (r_X0_canHat h.ok _) (by decide) (by decide) rfl gX q1044 q1046 qs37 q138 q1047 dX0_happens_77 (by decide +kernel) rfl rfl (Nat.le_of_ble_eq_true rfl) rfl k_) ?_
  refine AX.map (fun _ k_ => AW.if_eqB (tgt := 91) dX0_happens_80 (by decide) rfl (fun _ => k_) (fun c_ => by first | exact absurd c_ hc2 | exact absurd hc2 c_ | exact absurd c_ (not_not_intro hc2) | exact Bool.noConfusion (c_.symm.trans hc2))) ?_
  refine AX.map (fun _ k_ => AW.iconst (v := (-1)) dX0_happens_91 (by decide) rfl k_) ?_
  refine AX.map (fun _ k_ => AW.istore_n (i := 3) dX0_happens_92 rfl rfl (Nat.le_of_ble_eq_true rfl) rfl rfl k_) ?_
  refine AX.map (fun _ k_ => AW.goto (tgt := 167) dX0_happens_93 (by decide) k_) ?_
  exact ⟨_, ⟨s, (Fr.refl s).mono (by decide) (by decide), h.rel, rfl⟩, AW.vretE dX0_happens_167 rfl rfl rfl⟩
theorem hx_2t {N nt c e g x : Nat} {a : Nat → Int32} {s : Sg} {L : Lw} (hb : 128 ≤ s.b.n) (h : RelX N nt c e g a s.A) (hR : Rl s x L) {k : Nat} {y : Int32} (hk : k < N) (eh : y % s.A 514 0 = nI k) (hz : ¬ s.A 514 0 = 0) (h6 : y % 6 = 2) (h4 : y % 4 = 0) (hc : (vwM a).draws (nI k) = true) : RX (QF s ((hatR (nI k) 20 a).2) 1 3) 66 mX0_happens [.ref 512, .int y] (hp s) none := by
  have n7 := h.n0.2.2
  have hc2 : (vwS (s.A 514) (s.A 515)).canHatS (nI k) = _ := (draws_same h (nI k)).trans hc
  have e1 := (h.sh0 hk).1
  have h3 := (Bool.and_eq_true_iff.mp hc).2
  rw [e1] at h3
  obtain ⟨m1, m2, m3⟩ := hat_eq n7 hk 20 _ _ h.cr ((bits_lt (c := 3) (by decide)).mp (of_decide_eq_true h3))
  refine RX.of rfl (Nat.le_of_ble_eq_true rfl) rfl ?_
  refine AX.map (fun _ k_ => AW.iload_n dX0_happens_0 rfl rfl k_) ?_
  refine AX.map (fun _ k_ => AW.aload_n dX0_happens_1 rfl rfl k_) ?_
  refine AX.map (fun _ k_ => AW.get ci0 0 (by decide) q229 dX0_happens_2 gX rfl rfl k_) ?_
  refine AX.map (fun _ k_ => AW.getN ci1 0 (by decide) q191 dX0_happens_5 gN rfl rfl k_) ?_
  refine AX.map (fun _ k_ => AW.iconst (v := 0) dX0_happens_8 (by decide) rfl k_) ?_
  refine AX.map (fun _ k_ => AW.iald dX0_happens_9 g514 (vp_in_iff.mpr (by decide)) (j := 0) (by decide) rfl k_) ?_
  refine AX.map (fun _ k_ => AW.irem dX0_happens_10 hz rfl k_) ?_
  refine AX.map (fun _ k_ => AW.istore_n (i := 2) dX0_happens_11 rfl rfl (Nat.le_of_ble_eq_true rfl) rfl rfl k_) ?_
  refine AX.lsE (ls1 := [some (.ref 512), some (.int (y)), some (.int (nI k)), none]) (by rw [eh]; rfl) ?_
  refine AX.map (fun _ k_ => AW.iload_n dX0_happens_12 rfl rfl k_) ?_
  refine AX.map (fun _ k_ => AW.bipush (v := 6) dX0_happens_13 (by decide) rfl k_) ?_
  refine AX.map (fun _ k_ => AW.irem dX0_happens_15 (by decide) rfl k_) ?_
  refine AX.map (fun _ k_ => AW.tableIn (off := 53) (tgt := 69) dX0_happens_16 (by rw [h6]; decide) (by rw [h6]; decide) (by rw [h6]; rfl) (by decide) k_) ?_
  refine AX.map (fun _ k_ => AW.iload_n dX0_happens_69 rfl rfl k_) ?_
  refine AX.map (fun _ k_ => AW.iconst (v := 4) dX0_happens_70 (by decide) rfl k_) ?_
  refine AX.map (fun _ k_ => AW.irem dX0_happens_71 (by decide) rfl k_) ?_
  refine AX.map (fun _ k_ => AW.if_ne (tgt := 91) dX0_happens_72 (by decide) rfl (fun c_ => by first | exact absurd c_ h4 | exact absurd h4 c_ | exact Bool.noConfusion (c_.symm.trans h4)) (fun _ => k_)) ?_
  refine AX.map (fun _ k_ => AW.aload_n dX0_happens_75 rfl rfl k_) ?_
  refine AX.map (fun _ k_ => AW.iload_n dX0_happens_76 rfl rfl k_) ?_
  refine AX.map (fun _ k_ => AW.callV (Y := mX0_canHat) (n := 1) (r_X0_canHat h.ok _) (by decide) (by decide) rfl gX q1044 q1046 qs37 q138 q1047 dX0_happens_77 (by decide +kernel) rfl rfl (Nat.le_of_ble_eq_true rfl) rfl k_) ?_
  refine AX.map (fun _ k_ => AW.if_eqB (tgt := 91) dX0_happens_80 (by decide) rfl (fun c_ => by first | exact absurd c_ hc2 | exact absurd hc2 c_ | exact Bool.noConfusion (c_.symm.trans hc2)) (fun _ => k_)) ?_
  refine AX.map (fun _ k_ => AW.aload_n dX0_happens_83 rfl rfl k_) ?_
  refine AX.map (fun _ k_ => AW.iload_n dX0_happens_84 rfl rfl k_) ?_
  refine AX.map (fun _ k_ => AW.callV (Y := mX0_hats) (n := 1) (r_X0_hats (nI k) (by rw [nI_t (by omega)]; omega)) (by decide) (by decide) rfl gX q1048 q1050 qs38 q138 q1051 dX0_happens_85 (by decide +kernel) rfl rfl (Nat.le_of_ble_eq_true rfl) rfl k_) ?_
  refine AX.map (fun _ k_ => AW.goto (tgt := 92) dX0_happens_88 (by decide) k_) ?_
  refine AX.map (fun _ k_ => AW.istore_n (i := 3) dX0_happens_92 rfl rfl (Nat.le_of_ble_eq_true rfl) rfl rfl k_) ?_
  refine AX.map (fun _ k_ => AW.goto (tgt := 167) dX0_happens_93 (by decide) k_) ?_
  exact ⟨_, ⟨_, (Fr.set (s := s)).mono (by decide) (by decide), (h.row m3 m2).rel, rfl⟩, AW.vretE dX0_happens_167 rfl rfl rfl⟩
theorem hx_3n {N nt c e g x : Nat} {a : Nat → Int32} {s : Sg} {L : Lw} (hb : 128 ≤ s.b.n) (h : RelX N nt c e g a s.A) (hR : Rl s x L) {k : Nat} {y : Int32} (hk : k < N) (eh : y % s.A 514 0 = nI k) (hz : ¬ s.A 514 0 = 0) (h6 : y % 6 = 3) (h4 : ¬ y % 3 = 0) : RX (QF s (a) 1 3) 66 mX0_happens [.ref 512, .int y] (hp s) none := by
  have n7 := h.n0.2.2
  refine RX.of rfl (Nat.le_of_ble_eq_true rfl) rfl ?_
  refine AX.map (fun _ k_ => AW.iload_n dX0_happens_0 rfl rfl k_) ?_
  refine AX.map (fun _ k_ => AW.aload_n dX0_happens_1 rfl rfl k_) ?_
  refine AX.map (fun _ k_ => AW.get ci0 0 (by decide) q229 dX0_happens_2 gX rfl rfl k_) ?_
  refine AX.map (fun _ k_ => AW.getN ci1 0 (by decide) q191 dX0_happens_5 gN rfl rfl k_) ?_
  refine AX.map (fun _ k_ => AW.iconst (v := 0) dX0_happens_8 (by decide) rfl k_) ?_
  refine AX.map (fun _ k_ => AW.iald dX0_happens_9 g514 (vp_in_iff.mpr (by decide)) (j := 0) (by decide) rfl k_) ?_
  refine AX.map (fun _ k_ => AW.irem dX0_happens_10 hz rfl k_) ?_
  refine AX.map (fun _ k_ => AW.istore_n (i := 2) dX0_happens_11 rfl rfl (Nat.le_of_ble_eq_true rfl) rfl rfl k_) ?_
  refine AX.lsE (ls1 := [some (.ref 512), some (.int (y)), some (.int (nI k)), none]) (by rw [eh]; rfl) ?_
  refine AX.map (fun _ k_ => AW.iload_n dX0_happens_12 rfl rfl k_) ?_
  refine AX.map (fun _ k_ => AW.bipush (v := 6) dX0_happens_13 (by decide) rfl k_) ?_
  refine AX.map (fun _ k_ => AW.irem dX0_happens_15 (by decide) rfl k_) ?_
  refine AX.map (fun _ k_ => AW.tableIn (off := 80) (tgt := 96) dX0_happens_16 (by rw [h6]; decide) (by rw [h6]; decide) (by rw [h6]; rfl) (by decide) k_) ?_
  refine AX.map (fun _ k_ => AW.iload_n dX0_happens_96 rfl rfl k_) ?_
  refine AX.map (fun _ k_ => AW.iconst (v := 3) dX0_happens_97 (by decide) rfl k_) ?_
  refine AX.map (fun _ k_ => AW.irem dX0_happens_98 (by decide) rfl k_) ?_
  refine AX.map (fun _ k_ => AW.if_ne (tgt := 167) dX0_happens_99 (by decide) rfl (fun _ => k_) (fun c_ => by first | exact absurd c_ h4 | exact absurd h4 c_ | exact absurd c_ (not_not_intro h4) | exact Bool.noConfusion (c_.symm.trans h4))) ?_
  exact ⟨_, ⟨s, (Fr.refl s).mono (by decide) (by decide), h.rel, rfl⟩, AW.vretE dX0_happens_167 rfl rfl rfl⟩
theorem hx_3f {N nt c e g x : Nat} {a : Nat → Int32} {s : Sg} {L : Lw} (hb : 128 ≤ s.b.n) (h : RelX N nt c e g a s.A) (hR : Rl s x L) {k : Nat} {y : Int32} (hk : k < N) (eh : y % s.A 514 0 = nI k) (hz : ¬ s.A 514 0 = 0) (h6 : y % 6 = 3) (h4 : y % 3 = 0) (hc : (vwM a).forgets (y % 20) (nI k) = false) : RX (QF s (a) 1 3) 66 mX0_happens [.ref 512, .int y] (hp s) none := by
  have n7 := h.n0.2.2
  have hc2 := hc
  rw [h.vw] at hc2
  refine RX.of rfl (Nat.le_of_ble_eq_true rfl) rfl ?_
  refine AX.map (fun _ k_ => AW.iload_n dX0_happens_0 rfl rfl k_) ?_
  refine AX.map (fun _ k_ => AW.aload_n dX0_happens_1 rfl rfl k_) ?_
  refine AX.map (fun _ k_ => AW.get ci0 0 (by decide) q229 dX0_happens_2 gX rfl rfl k_) ?_
  refine AX.map (fun _ k_ => AW.getN ci1 0 (by decide) q191 dX0_happens_5 gN rfl rfl k_) ?_
  refine AX.map (fun _ k_ => AW.iconst (v := 0) dX0_happens_8 (by decide) rfl k_) ?_
  refine AX.map (fun _ k_ => AW.iald dX0_happens_9 g514 (vp_in_iff.mpr (by decide)) (j := 0) (by decide) rfl k_) ?_
  refine AX.map (fun _ k_ => AW.irem dX0_happens_10 hz rfl k_) ?_
  refine AX.map (fun _ k_ => AW.istore_n (i := 2) dX0_happens_11 rfl rfl (Nat.le_of_ble_eq_true rfl) rfl rfl k_) ?_
  refine AX.lsE (ls1 := [some (.ref 512), some (.int (y)), some (.int (nI k)), none]) (by rw [eh]; rfl) ?_
  refine AX.map (fun _ k_ => AW.iload_n dX0_happens_12 rfl rfl k_) ?_
  refine AX.map (fun _ k_ => AW.bipush (v := 6) dX0_happens_13 (by decide) rfl k_) ?_
  refine AX.map (fun _ k_ => AW.irem dX0_happens_15 (by decide) rfl k_) ?_
  refine AX.map (fun _ k_ => AW.tableIn (off := 80) (tgt := 96) dX0_happens_16 (by rw [h6]; decide) (by rw [h6]; decide) (by rw [h6]; rfl) (by decide) k_) ?_
  refine AX.map (fun _ k_ => AW.iload_n dX0_happens_96 rfl rfl k_) ?_
  refine AX.map (fun _ k_ => AW.iconst (v := 3) dX0_happens_97 (by decide) rfl k_) ?_
  refine AX.map (fun _ k_ => AW.irem dX0_happens_98 (by decide) rfl k_) ?_
  refine AX.map (fun _ k_ => AW.if_ne (tgt := 167) dX0_happens_99 (by decide) rfl (fun c_ => by first | exact absurd c_ h4 | exact absurd h4 c_ | exact Bool.noConfusion (c_.symm.trans h4)) (fun _ => k_)) ?_
  refine AX.map (fun _ k_ => AW.aload_n dX0_happens_102 rfl rfl k_) ?_
  refine AX.map (fun _ k_ => AW.iload_n dX0_happens_103 rfl rfl k_) ?_
  refine AX.map (fun _ k_ => AW.bipush (v := 20) dX0_happens_104 (by decide) rfl k_) ?_
  refine AX.map (fun _ k_ => AW.irem dX0_happens_106 (by decide) rfl k_) ?_
  refine AX.map (fun _ k_ => AW.iload_n dX0_happens_107 rfl rfl k_) ?_
  refine AX.map (fun _ k_ => AW.callV (Y := mX0_canForget) (n := 2) (r_X0_canForget h.ok _ _) (by decide) (by decide) rfl gX q1060 q1062 qs40 q138 q1063 dX0_happens_108 (by decide +kernel) rfl rfl (Nat.le_of_ble_eq_true rfl) rfl k_) ?_
  refine AX.map (fun _ k_ => AW.if_eqB (tgt := 167) dX0_happens_111 (by decide) rfl (fun _ => k_) (fun c_ => by first | exact absurd c_ hc2 | exact absurd hc2 c_ | exact absurd c_ (not_not_intro hc2) | exact Bool.noConfusion (c_.symm.trans hc2))) ?_
  exact ⟨_, ⟨s, (Fr.refl s).mono (by decide) (by decide), h.rel, rfl⟩, AW.vretE dX0_happens_167 rfl rfl rfl⟩
theorem hx_3t {N nt c e g x : Nat} {a : Nat → Int32} {s : Sg} {L : Lw} (hb : 128 ≤ s.b.n) (h : RelX N nt c e g a s.A) (hR : Rl s x L) {k : Nat} {y : Int32} (hk : k < N) (eh : y % s.A 514 0 = nI k) (hz : ¬ s.A 514 0 = 0) (h6 : y % 6 = 3) (h4 : y % 3 = 0) (hc : (vwM a).forgets (y % 20) (nI k) = true) : RX (QF s (forgetM a (y % 20) (nI k)) 1 3) 66 mX0_happens [.ref 512, .int y] (hp s) none := by
  have n7 := h.n0.2.2
  have hc2 := hc
  rw [h.vw] at hc2
  obtain ⟨d, i, hd, hi, ed, ei, hbb⟩ := forgets_k h hc
  have eik : k = i := (nI_eq (by omega) (by omega)).mp ei
  subst eik
  obtain ⟨m1, m2⟩ := forget_eq h.cr n7 hk hd hbb
  rw [c3_at (by omega), ← ed] at m1
  rw [← ed] at m2
  refine RX.of rfl (Nat.le_of_ble_eq_true rfl) rfl ?_
  refine AX.map (fun _ k_ => AW.iload_n dX0_happens_0 rfl rfl k_) ?_
  refine AX.map (fun _ k_ => AW.aload_n dX0_happens_1 rfl rfl k_) ?_
  refine AX.map (fun _ k_ => AW.get ci0 0 (by decide) q229 dX0_happens_2 gX rfl rfl k_) ?_
  refine AX.map (fun _ k_ => AW.getN ci1 0 (by decide) q191 dX0_happens_5 gN rfl rfl k_) ?_
  refine AX.map (fun _ k_ => AW.iconst (v := 0) dX0_happens_8 (by decide) rfl k_) ?_
  refine AX.map (fun _ k_ => AW.iald dX0_happens_9 g514 (vp_in_iff.mpr (by decide)) (j := 0) (by decide) rfl k_) ?_
  refine AX.map (fun _ k_ => AW.irem dX0_happens_10 hz rfl k_) ?_
  refine AX.map (fun _ k_ => AW.istore_n (i := 2) dX0_happens_11 rfl rfl (Nat.le_of_ble_eq_true rfl) rfl rfl k_) ?_
  refine AX.lsE (ls1 := [some (.ref 512), some (.int (y)), some (.int (nI k)), none]) (by rw [eh]; rfl) ?_
  refine AX.map (fun _ k_ => AW.iload_n dX0_happens_12 rfl rfl k_) ?_
  refine AX.map (fun _ k_ => AW.bipush (v := 6) dX0_happens_13 (by decide) rfl k_) ?_
  refine AX.map (fun _ k_ => AW.irem dX0_happens_15 (by decide) rfl k_) ?_
  refine AX.map (fun _ k_ => AW.tableIn (off := 80) (tgt := 96) dX0_happens_16 (by rw [h6]; decide) (by rw [h6]; decide) (by rw [h6]; rfl) (by decide) k_) ?_
  refine AX.map (fun _ k_ => AW.iload_n dX0_happens_96 rfl rfl k_) ?_
  refine AX.map (fun _ k_ => AW.iconst (v := 3) dX0_happens_97 (by decide) rfl k_) ?_
  refine AX.map (fun _ k_ => AW.irem dX0_happens_98 (by decide) rfl k_) ?_
  refine AX.map (fun _ k_ => AW.if_ne (tgt := 167) dX0_happens_99 (by decide) rfl (fun c_ => by first | exact absurd c_ h4 | exact absurd h4 c_ | exact Bool.noConfusion (c_.symm.trans h4)) (fun _ => k_)) ?_
  refine AX.map (fun _ k_ => AW.aload_n dX0_happens_102 rfl rfl k_) ?_
  refine AX.map (fun _ k_ => AW.iload_n dX0_happens_103 rfl rfl k_) ?_
  refine AX.map (fun _ k_ => AW.bipush (v := 20) dX0_happens_104 (by decide) rfl k_) ?_
  refine AX.map (fun _ k_ => AW.irem dX0_happens_106 (by decide) rfl k_) ?_
  refine AX.map (fun _ k_ => AW.iload_n dX0_happens_107 rfl rfl k_) ?_
  refine AX.map (fun _ k_ => AW.callV (Y := mX0_canForget) (n := 2) (r_X0_canForget h.ok _ _) (by decide) (by decide) rfl gX q1060 q1062 qs40 q138 q1063 dX0_happens_108 (by decide +kernel) rfl rfl (Nat.le_of_ble_eq_true rfl) rfl k_) ?_
  refine AX.map (fun _ k_ => AW.if_eqB (tgt := 167) dX0_happens_111 (by decide) rfl (fun c_ => by first | exact absurd c_ hc2 | exact absurd hc2 c_ | exact Bool.noConfusion (c_.symm.trans hc2)) (fun _ => k_)) ?_
  refine AX.map (fun _ k_ => AW.aload_n dX0_happens_114 rfl rfl k_) ?_
  refine AX.map (fun _ k_ => AW.get ci0 0 (by decide) q229 dX0_happens_115 gX rfl rfl k_) ?_
  refine AX.map (fun _ k_ => AW.getN ci1 1 (by decide) q193 dX0_happens_118 gN rfl rfl k_) ?_
  refine AX.map (fun _ k_ => AW.iconst (v := 3) dX0_happens_121 (by decide) rfl k_) ?_
  refine AX.map (fun _ k_ => AW.iload_n dX0_happens_122 rfl rfl k_) ?_
  refine AX.map (fun _ k_ => AW.iadd dX0_happens_123 rfl k_) ?_
  refine AX.map (fun _ k_ => AW.dup2 dX0_happens_124 rfl rfl rfl k_) ?_
  refine AX.map (fun _ k_ => AW.iald dX0_happens_125 g515 (in1 3 k (by omega) (by decide)) (j := 3 + k) (at1 3 k (by omega)) rfl k_) ?_
  refine AX.map (fun _ k_ => AW.iconst (v := 1) dX0_happens_126 (by decide) rfl k_) ?_
  refine AX.map (fun _ k_ => AW.iload_n dX0_happens_127 rfl rfl k_) ?_
  refine AX.map (fun _ k_ => AW.bipush (v := 20) dX0_happens_128 (by decide) rfl k_) ?_
  refine AX.map (fun _ k_ => AW.irem dX0_happens_130 (by decide) rfl k_) ?_
  refine AX.map (fun _ k_ => AW.ishl dX0_happens_131 rfl k_) ?_
  refine AX.map (fun _ k_ => AW.ixor dX0_happens_132 rfl k_) ?_
  refine AX.map (fun _ k_ => AW.iast dX0_happens_133 (by decide) g515 (in1 3 k (by omega) (by decide)) (j := 3 + k) (at1 3 k (by omega)) s515 rfl k_) ?_
  refine AX.map (fun _ k_ => AW.goto (tgt := 167) dX0_happens_134 (by decide) k_) ?_
  exact ⟨_, ⟨_, (Fr.set (s := s)).mono (by decide) (by decide), (h.row m2 m1).rel, rfl⟩, AW.vretE dX0_happens_167 rfl rfl rfl⟩
theorem hx_4n {N nt c e g x : Nat} {a : Nat → Int32} {s : Sg} {L : Lw} (hb : 128 ≤ s.b.n) (h : RelX N nt c e g a s.A) (hR : Rl s x L) {k : Nat} {y : Int32} (hk : k < N) (eh : y % s.A 514 0 = nI k) (hz : ¬ s.A 514 0 = 0) (h6 : y % 6 = 4) (hd : ¬ a 8 < 9999) : RX (QF s (a) 1 3) 66 mX0_happens [.ref 512, .int y] (hp s) none := by
  have n7 := h.n0.2.2
  have e8 := (h.cr.at8).1
  refine RX.of rfl (Nat.le_of_ble_eq_true rfl) rfl ?_
  refine AX.map (fun _ k_ => AW.iload_n dX0_happens_0 rfl rfl k_) ?_
  refine AX.map (fun _ k_ => AW.aload_n dX0_happens_1 rfl rfl k_) ?_
  refine AX.map (fun _ k_ => AW.get ci0 0 (by decide) q229 dX0_happens_2 gX rfl rfl k_) ?_
  refine AX.map (fun _ k_ => AW.getN ci1 0 (by decide) q191 dX0_happens_5 gN rfl rfl k_) ?_
  refine AX.map (fun _ k_ => AW.iconst (v := 0) dX0_happens_8 (by decide) rfl k_) ?_
  refine AX.map (fun _ k_ => AW.iald dX0_happens_9 g514 (vp_in_iff.mpr (by decide)) (j := 0) (by decide) rfl k_) ?_
  refine AX.map (fun _ k_ => AW.irem dX0_happens_10 hz rfl k_) ?_
  refine AX.map (fun _ k_ => AW.istore_n (i := 2) dX0_happens_11 rfl rfl (Nat.le_of_ble_eq_true rfl) rfl rfl k_) ?_
  refine AX.lsE (ls1 := [some (.ref 512), some (.int (y)), some (.int (nI k)), none]) (by rw [eh]; rfl) ?_
  refine AX.map (fun _ k_ => AW.iload_n dX0_happens_12 rfl rfl k_) ?_
  refine AX.map (fun _ k_ => AW.bipush (v := 6) dX0_happens_13 (by decide) rfl k_) ?_
  refine AX.map (fun _ k_ => AW.irem dX0_happens_15 (by decide) rfl k_) ?_
  refine AX.map (fun _ k_ => AW.tableOut (tgt := 137) dX0_happens_16 (by rw [h6]; decide) (by decide) k_) ?_
  refine AX.map (fun _ k_ => AW.aload_n dX0_happens_137 rfl rfl k_) ?_
  refine AX.map (fun _ k_ => AW.get ci0 0 (by decide) q229 dX0_happens_138 gX rfl rfl k_) ?_
  refine AX.map (fun _ k_ => AW.getN ci1 1 (by decide) q193 dX0_happens_141 gN rfl rfl k_) ?_
  refine AX.map (fun _ k_ => AW.iconst (v := 0) dX0_happens_144 (by decide) rfl k_) ?_
  refine AX.map (fun _ k_ => AW.iald dX0_happens_145 g515 (vp_in_iff.mpr (by decide)) (j := 0) (by decide) rfl k_) ?_
  refine AX.map (fun _ k_ => AW.sipush (v := 9999) dX0_happens_146 (by decide) rfl k_) ?_
  refine AX.map (fun _ k_ => AW.icmp_ge (tgt := 167) dX0_happens_149 (by decide) rfl (fun _ => k_) (fun c_ => by first | exact absurd c_ (by rw [e8]; exact Int32.not_lt.mp hd) | exact absurd (by rw [e8]; exact Int32.not_lt.mp hd) c_ | exact absurd c_ (not_not_intro (by rw [e8]; exact Int32.not_lt.mp hd)) | exact Bool.noConfusion (c_.symm.trans (by rw [e8]; exact Int32.not_lt.mp hd)))) ?_
  exact ⟨_, ⟨s, (Fr.refl s).mono (by decide) (by decide), h.rel, rfl⟩, AW.vretE dX0_happens_167 rfl rfl rfl⟩
theorem hx_4t {N nt c e g x : Nat} {a : Nat → Int32} {s : Sg} {L : Lw} (hb : 128 ≤ s.b.n) (h : RelX N nt c e g a s.A) (hR : Rl s x L) {k : Nat} {y : Int32} (hk : k < N) (eh : y % s.A 514 0 = nI k) (hz : ¬ s.A 514 0 = 0) (h6 : y % 6 = 4) (hd : a 8 < 9999) : RX (QF s (passM a L) 1 3) 66 mX0_happens [.ref 512, .int y] (hp s) none := by
  have n7 := h.n0.2.2
  have e8 := (h.cr.at8).1
  obtain ⟨d, d1, d2⟩ := (h.cr.at8).2
  have d3 : d < 9999 := by rw [d2] at hd; exact (nI_ltI (b := 9999) (by omega) (by decide)).mp hd
  obtain ⟨p1, p2, p3⟩ := pass_eq (n := s.A 514) hR.2.2 h.n0.1 h.n0.2.1 n7 h.cr d2 d3
  refine RX.of rfl (Nat.le_of_ble_eq_true rfl) rfl ?_
  refine AX.map (fun _ k_ => AW.iload_n dX0_happens_0 rfl rfl k_) ?_
  refine AX.map (fun _ k_ => AW.aload_n dX0_happens_1 rfl rfl k_) ?_
  refine AX.map (fun _ k_ => AW.get ci0 0 (by decide) q229 dX0_happens_2 gX rfl rfl k_) ?_
  refine AX.map (fun _ k_ => AW.getN ci1 0 (by decide) q191 dX0_happens_5 gN rfl rfl k_) ?_
  refine AX.map (fun _ k_ => AW.iconst (v := 0) dX0_happens_8 (by decide) rfl k_) ?_
  refine AX.map (fun _ k_ => AW.iald dX0_happens_9 g514 (vp_in_iff.mpr (by decide)) (j := 0) (by decide) rfl k_) ?_
  refine AX.map (fun _ k_ => AW.irem dX0_happens_10 hz rfl k_) ?_
  refine AX.map (fun _ k_ => AW.istore_n (i := 2) dX0_happens_11 rfl rfl (Nat.le_of_ble_eq_true rfl) rfl rfl k_) ?_
  refine AX.lsE (ls1 := [some (.ref 512), some (.int (y)), some (.int (nI k)), none]) (by rw [eh]; rfl) ?_
  refine AX.map (fun _ k_ => AW.iload_n dX0_happens_12 rfl rfl k_) ?_
  refine AX.map (fun _ k_ => AW.bipush (v := 6) dX0_happens_13 (by decide) rfl k_) ?_
  refine AX.map (fun _ k_ => AW.irem dX0_happens_15 (by decide) rfl k_) ?_
  refine AX.map (fun _ k_ => AW.tableOut (tgt := 137) dX0_happens_16 (by rw [h6]; decide) (by decide) k_) ?_
  refine AX.map (fun _ k_ => AW.aload_n dX0_happens_137 rfl rfl k_) ?_
  refine AX.map (fun _ k_ => AW.get ci0 0 (by decide) q229 dX0_happens_138 gX rfl rfl k_) ?_
  refine AX.map (fun _ k_ => AW.getN ci1 1 (by decide) q193 dX0_happens_141 gN rfl rfl k_) ?_
  refine AX.map (fun _ k_ => AW.iconst (v := 0) dX0_happens_144 (by decide) rfl k_) ?_
  refine AX.map (fun _ k_ => AW.iald dX0_happens_145 g515 (vp_in_iff.mpr (by decide)) (j := 0) (by decide) rfl k_) ?_
  refine AX.map (fun _ k_ => AW.sipush (v := 9999) dX0_happens_146 (by decide) rfl k_) ?_
  refine AX.map (fun _ k_ => AW.icmp_ge (tgt := 167) dX0_happens_149 (by decide) rfl (fun c_ => by first | exact absurd c_ (by rw [e8]; exact Int32.not_le.mpr hd) | exact absurd (by rw [e8]; exact Int32.not_le.mpr hd) c_ | exact Bool.noConfusion (c_.symm.trans (by rw [e8]; exact Int32.not_le.mpr hd))) (fun _ => k_)) ?_
  refine AX.map (fun _ k_ => AW.aload_n dX0_happens_152 rfl rfl k_) ?_
  refine AX.map (fun _ k_ => AW.aload_n dX0_happens_153 rfl rfl k_) ?_
  refine AX.map (fun _ k_ => AW.callV (Y := mX0_rules) (n := 0) (r_X0_rules hR.1) (by decide) (by decide) rfl gX q854 q856 qs24 q138 q857 dX0_happens_154 (by decide +kernel) rfl rfl (Nat.le_of_ble_eq_true rfl) rfl k_) ?_
  refine AX.map (fun _ k_ => AW.aload_n dX0_happens_157 rfl rfl k_) ?_
  refine AX.map (fun _ k_ => AW.get ci0 0 (by decide) q229 dX0_happens_158 gX rfl rfl k_) ?_
  refine AX.map (fun _ k_ => AW.getN ci1 1 (by decide) q193 dX0_happens_161 gN rfl rfl k_) ?_
  obtain ⟨_, ⟨t, et, xt, rfl⟩, run⟩ := q_passes h.ok hR.2.1 hR.2.2
  refine AX.map (fun _ k_ => AW.callV (Y := mX0_passes) (n := 2) (run) (by decide) (by decide) rfl gX q860 q862 qs25 q138 q863 dX0_happens_164 (by decide +kernel) rfl rfl (Nat.le_of_ble_eq_true rfl) rfl k_) ?_
  exact ⟨_, ⟨t, (Fr.set.tr0 (Fr.eqx et xt)).mono (by decide) (by decide), ((h.row p2 p1).eqx et).rel, rfl⟩, AW.vretE dX0_happens_167 rfl rfl rfl⟩
theorem hx_5n {N nt c e g x : Nat} {a : Nat → Int32} {s : Sg} {L : Lw} (hb : 128 ≤ s.b.n) (h : RelX N nt c e g a s.A) (hR : Rl s x L) {k : Nat} {y : Int32} (hk : k < N) (eh : y % s.A 514 0 = nI k) (hz : ¬ s.A 514 0 = 0) (h6 : y % 6 = 5) (hd : ¬ a 8 < 9999) : RX (QF s (a) 1 3) 66 mX0_happens [.ref 512, .int y] (hp s) none := by
  have n7 := h.n0.2.2
  have e8 := (h.cr.at8).1
  refine RX.of rfl (Nat.le_of_ble_eq_true rfl) rfl ?_
  refine AX.map (fun _ k_ => AW.iload_n dX0_happens_0 rfl rfl k_) ?_
  refine AX.map (fun _ k_ => AW.aload_n dX0_happens_1 rfl rfl k_) ?_
  refine AX.map (fun _ k_ => AW.get ci0 0 (by decide) q229 dX0_happens_2 gX rfl rfl k_) ?_
  refine AX.map (fun _ k_ => AW.getN ci1 0 (by decide) q191 dX0_happens_5 gN rfl rfl k_) ?_
  refine AX.map (fun _ k_ => AW.iconst (v := 0) dX0_happens_8 (by decide) rfl k_) ?_
  refine AX.map (fun _ k_ => AW.iald dX0_happens_9 g514 (vp_in_iff.mpr (by decide)) (j := 0) (by decide) rfl k_) ?_
  refine AX.map (fun _ k_ => AW.irem dX0_happens_10 hz rfl k_) ?_
  refine AX.map (fun _ k_ => AW.istore_n (i := 2) dX0_happens_11 rfl rfl (Nat.le_of_ble_eq_true rfl) rfl rfl k_) ?_
  refine AX.lsE (ls1 := [some (.ref 512), some (.int (y)), some (.int (nI k)), none]) (by rw [eh]; rfl) ?_
  refine AX.map (fun _ k_ => AW.iload_n dX0_happens_12 rfl rfl k_) ?_
  refine AX.map (fun _ k_ => AW.bipush (v := 6) dX0_happens_13 (by decide) rfl k_) ?_
  refine AX.map (fun _ k_ => AW.irem dX0_happens_15 (by decide) rfl k_) ?_
  refine AX.map (fun _ k_ => AW.tableOut (tgt := 137) dX0_happens_16 (by rw [h6]; decide) (by decide) k_) ?_
  refine AX.map (fun _ k_ => AW.aload_n dX0_happens_137 rfl rfl k_) ?_
  refine AX.map (fun _ k_ => AW.get ci0 0 (by decide) q229 dX0_happens_138 gX rfl rfl k_) ?_
  refine AX.map (fun _ k_ => AW.getN ci1 1 (by decide) q193 dX0_happens_141 gN rfl rfl k_) ?_
  refine AX.map (fun _ k_ => AW.iconst (v := 0) dX0_happens_144 (by decide) rfl k_) ?_
  refine AX.map (fun _ k_ => AW.iald dX0_happens_145 g515 (vp_in_iff.mpr (by decide)) (j := 0) (by decide) rfl k_) ?_
  refine AX.map (fun _ k_ => AW.sipush (v := 9999) dX0_happens_146 (by decide) rfl k_) ?_
  refine AX.map (fun _ k_ => AW.icmp_ge (tgt := 167) dX0_happens_149 (by decide) rfl (fun _ => k_) (fun c_ => by first | exact absurd c_ (by rw [e8]; exact Int32.not_lt.mp hd) | exact absurd (by rw [e8]; exact Int32.not_lt.mp hd) c_ | exact absurd c_ (not_not_intro (by rw [e8]; exact Int32.not_lt.mp hd)) | exact Bool.noConfusion (c_.symm.trans (by rw [e8]; exact Int32.not_lt.mp hd)))) ?_
  exact ⟨_, ⟨s, (Fr.refl s).mono (by decide) (by decide), h.rel, rfl⟩, AW.vretE dX0_happens_167 rfl rfl rfl⟩
theorem hx_5t {N nt c e g x : Nat} {a : Nat → Int32} {s : Sg} {L : Lw} (hb : 128 ≤ s.b.n) (h : RelX N nt c e g a s.A) (hR : Rl s x L) {k : Nat} {y : Int32} (hk : k < N) (eh : y % s.A 514 0 = nI k) (hz : ¬ s.A 514 0 = 0) (h6 : y % 6 = 5) (hd : a 8 < 9999) : RX (QF s (passM a L) 1 3) 66 mX0_happens [.ref 512, .int y] (hp s) none := by
  have n7 := h.n0.2.2
  have e8 := (h.cr.at8).1
  obtain ⟨d, d1, d2⟩ := (h.cr.at8).2
  have d3 : d < 9999 := by rw [d2] at hd; exact (nI_ltI (b := 9999) (by omega) (by decide)).mp hd
  obtain ⟨p1, p2, p3⟩ := pass_eq (n := s.A 514) hR.2.2 h.n0.1 h.n0.2.1 n7 h.cr d2 d3
  refine RX.of rfl (Nat.le_of_ble_eq_true rfl) rfl ?_
  refine AX.map (fun _ k_ => AW.iload_n dX0_happens_0 rfl rfl k_) ?_
  refine AX.map (fun _ k_ => AW.aload_n dX0_happens_1 rfl rfl k_) ?_
  refine AX.map (fun _ k_ => AW.get ci0 0 (by decide) q229 dX0_happens_2 gX rfl rfl k_) ?_
  refine AX.map (fun _ k_ => AW.getN ci1 0 (by decide) q191 dX0_happens_5 gN rfl rfl k_) ?_
  refine AX.map (fun _ k_ => AW.iconst (v := 0) dX0_happens_8 (by decide) rfl k_) ?_
  refine AX.map (fun _ k_ => AW.iald dX0_happens_9 g514 (vp_in_iff.mpr (by decide)) (j := 0) (by decide) rfl k_) ?_
  refine AX.map (fun _ k_ => AW.irem dX0_happens_10 hz rfl k_) ?_
  refine AX.map (fun _ k_ => AW.istore_n (i := 2) dX0_happens_11 rfl rfl (Nat.le_of_ble_eq_true rfl) rfl rfl k_) ?_
  refine AX.lsE (ls1 := [some (.ref 512), some (.int (y)), some (.int (nI k)), none]) (by rw [eh]; rfl) ?_
  refine AX.map (fun _ k_ => AW.iload_n dX0_happens_12 rfl rfl k_) ?_
  refine AX.map (fun _ k_ => AW.bipush (v := 6) dX0_happens_13 (by decide) rfl k_) ?_
  refine AX.map (fun _ k_ => AW.irem dX0_happens_15 (by decide) rfl k_) ?_
  refine AX.map (fun _ k_ => AW.tableOut (tgt := 137) dX0_happens_16 (by rw [h6]; decide) (by decide) k_) ?_
  refine AX.map (fun _ k_ => AW.aload_n dX0_happens_137 rfl rfl k_) ?_
  refine AX.map (fun _ k_ => AW.get ci0 0 (by decide) q229 dX0_happens_138 gX rfl rfl k_) ?_
  refine AX.map (fun _ k_ => AW.getN ci1 1 (by decide) q193 dX0_happens_141 gN rfl rfl k_) ?_
  refine AX.map (fun _ k_ => AW.iconst (v := 0) dX0_happens_144 (by decide) rfl k_) ?_
  refine AX.map (fun _ k_ => AW.iald dX0_happens_145 g515 (vp_in_iff.mpr (by decide)) (j := 0) (by decide) rfl k_) ?_
  refine AX.map (fun _ k_ => AW.sipush (v := 9999) dX0_happens_146 (by decide) rfl k_) ?_
  refine AX.map (fun _ k_ => AW.icmp_ge (tgt := 167) dX0_happens_149 (by decide) rfl (fun c_ => by first | exact absurd c_ (by rw [e8]; exact Int32.not_le.mpr hd) | exact absurd (by rw [e8]; exact Int32.not_le.mpr hd) c_ | exact Bool.noConfusion (c_.symm.trans (by rw [e8]; exact Int32.not_le.mpr hd))) (fun _ => k_)) ?_
  refine AX.map (fun _ k_ => AW.aload_n dX0_happens_152 rfl rfl k_) ?_
  refine AX.map (fun _ k_ => AW.aload_n dX0_happens_153 rfl rfl k_) ?_
  refine AX.map (fun _ k_ => AW.callV (Y := mX0_rules) (n := 0) (r_X0_rules hR.1) (by decide) (by decide) rfl gX q854 q856 qs24 q138 q857 dX0_happens_154 (by decide +kernel) rfl rfl (Nat.le_of_ble_eq_true rfl) rfl k_) ?_
  refine AX.map (fun _ k_ => AW.aload_n dX0_happens_157 rfl rfl k_) ?_
  refine AX.map (fun _ k_ => AW.get ci0 0 (by decide) q229 dX0_happens_158 gX rfl rfl k_) ?_
  refine AX.map (fun _ k_ => AW.getN ci1 1 (by decide) q193 dX0_happens_161 gN rfl rfl k_) ?_
  obtain ⟨_, ⟨t, et, xt, rfl⟩, run⟩ := q_passes h.ok hR.2.1 hR.2.2
  refine AX.map (fun _ k_ => AW.callV (Y := mX0_passes) (n := 2) (run) (by decide) (by decide) rfl gX q860 q862 qs25 q138 q863 dX0_happens_164 (by decide +kernel) rfl rfl (Nat.le_of_ble_eq_true rfl) rfl k_) ?_
  exact ⟨_, ⟨t, (Fr.set.tr0 (Fr.eqx et xt)).mono (by decide) (by decide), ((h.row p2 p1).eqx et).rel, rfl⟩, AW.vretE dX0_happens_167 rfl rfl rfl⟩
theorem six_or {X : Nat} {y : Int32} (hy : y = nI X) (hX : X < 30431) : y % 6 = 0 ∨ y % 6 = 1 ∨ y % 6 = 2 ∨ y % 6 = 3 ∨ y % 6 = 4 ∨ y % 6 = 5 := by
  have e : y % 6 = nI (X % 6) := by rw [hy]; exact nI_rem (b := 6) (by omega) (by decide)
  rw [e]
  have : X % 6 = 0 ∨ X % 6 = 1 ∨ X % 6 = 2 ∨ X % 6 = 3 ∨ X % 6 = 4 ∨ X % 6 = 5 := by omega
  rcases this with z | z | z | z | z | z <;> rw [z] <;> decide
theorem q_happens {N nt c e g x : Nat} {a : Nat → Int32} {s : Sg} {L : Lw} (hb : 128 ≤ s.b.n) (h : RelX N nt c e g a s.A) (hR : Rl s x L) {X : Nat} {y : Int32} (hy : y = nI X) (hX : X < 30431) (hz : ¬ a 0 = 0) : RX (QF s (happM a L y) 1 3) 66 mX0_happens [.ref 512, .int y] (hp s) none := by
  obtain ⟨n1, n2, n7⟩ := h.n0
  have hN : 0 < N := Nat.pos_of_ne_zero (fun q => hz (by rw [n1, q]; rfl))
  have hz2 : ¬ s.A 514 0 = 0 := by rw [n2, ← n1]; exact hz
  have eh : y % s.A 514 0 = nI (X % N) := by rw [hy, n2]; exact nI_rem (by omega) (by omega)
  have ea : y % a 0 = nI (X % N) := by rw [hy, n1]; exact nI_rem (by omega) (by omega)
  have hk : X % N < N := Nat.mod_lt _ hN
  unfold happM
  rw [ea]
  generalize X % N = k at *
  rcases six_or hy hX with h6 | h6 | h6 | h6 | h6 | h6
  · rw [if_neg (by rw [h6]; decide), if_neg (by rw [h6]; decide), if_neg (by rw [h6]; decide)]
    cases z : (vwM a).her (nI k)
    · exact hx_0f hb h hR hk eh hz2 h6 z
    · exact hx_0t hb h hR hk eh hz2 h6 z
  · rw [if_neg (by rw [h6]; decide), if_neg (by rw [h6]; decide), if_neg (by rw [h6]; decide)]
    cases z : (vwM a).her (nI k)
    · exact hx_1f hb h hR hk eh hz2 h6 z
    · exact hx_1t hb h hR hk eh hz2 h6 z
  · rw [if_pos h6]
    by_cases h4 : y % 4 = 0
    · cases z : (vwM a).draws (nI k)
      · rw [if_neg (fun q => Bool.noConfusion q.2)]
        exact hx_2f hb h hR hk eh hz2 h6 h4 z
      · rw [if_pos ⟨h4, rfl⟩]
        exact hx_2t hb h hR hk eh hz2 h6 h4 z
    · rw [if_neg (fun q => h4 q.1)]
      exact hx_2n hb h hR hk eh hz2 h6 h4
  · rw [if_neg (by rw [h6]; decide), if_pos h6]
    by_cases h4 : y % 3 = 0
    · cases z : (vwM a).forgets (y % 20) (nI k)
      · rw [if_neg (fun q => Bool.noConfusion q.2)]
        exact hx_3f hb h hR hk eh hz2 h6 h4 z
      · rw [if_pos ⟨h4, rfl⟩]
        exact hx_3t hb h hR hk eh hz2 h6 h4 z
    · rw [if_neg (fun q => h4 q.1)]
      exact hx_3n hb h hR hk eh hz2 h6 h4
  · rw [if_neg (by rw [h6]; decide), if_neg (by rw [h6]; decide), if_pos (Or.inl h6)]
    by_cases hd : a 8 < 9999
    · rw [if_pos hd]
      exact hx_4t hb h hR hk eh hz2 h6 hd
    · rw [if_neg hd]
      exact hx_4n hb h hR hk eh hz2 h6 hd
  · rw [if_neg (by rw [h6]; decide), if_neg (by rw [h6]; decide), if_pos (Or.inr h6)]
    by_cases hd : a 8 < 9999
    · rw [if_pos hd]
      exact hx_5t hb h hR hk eh hz2 h6 hd
    · rw [if_neg hd]
      exact hx_5n hb h hR hk eh hz2 h6 hd
theorem q_years_f {N nt c e g : Nat} {a : Nat → Int32} {s : Sg} (h : RelX N nt c e g a s.A) (seed n : Int32) (hc : (inI seed 0 9999 && (inI n 1 40 && !decide (a 0 = 0))) = false) : Run 3 mX0_years [.ref 512, .int seed, .int n] (hp s) (.inl (some (.int (-1)))) (hp s) := by
  have e0 : s.A 514 0 = a 0 := h.n0.2.1.trans h.n0.1.symm
  refine Run.of rfl (Nat.le_of_ble_eq_true rfl) rfl ?_
  refine AW.iload_n dX0_years_0 rfl rfl ?_
  refine AW.iconst (v := 0) dX0_years_1 (by decide) rfl ?_
  refine AW.sipush (v := 9999) dX0_years_2 (by decide) rfl ?_
  refine AW.callS (Y := mX0_in) (n := 3) (r_X0_in _ _ _) (by decide) (by decide) q271 q272 q138 q273 dX0_years_5 (by decide +kernel) rfl rfl (Nat.le_of_ble_eq_true rfl) rfl ?_
  refine AW.if_eqB (tgt := 33) dX0_years_8 (by decide) rfl (fun c8 => ?_) (fun c8 => ?_)
  · refine AW.iconst (v := (-1)) dX0_years_33 (by decide) rfl ?_
    exact AW.iretE dX0_years_34 rfl rfl rfl rfl
  · refine AW.iload_n dX0_years_11 rfl rfl ?_
    refine AW.iconst (v := 1) dX0_years_12 (by decide) rfl ?_
    refine AW.bipush (v := 40) dX0_years_13 (by decide) rfl ?_
    refine AW.callS (Y := mX0_in) (n := 3) (r_X0_in _ _ _) (by decide) (by decide) q271 q272 q138 q273 dX0_years_15 (by decide +kernel) rfl rfl (Nat.le_of_ble_eq_true rfl) rfl ?_
    refine AW.if_eqB (tgt := 33) dX0_years_18 (by decide) rfl (fun c18 => ?_) (fun c18 => ?_)
    · refine AW.iconst (v := (-1)) dX0_years_33 (by decide) rfl ?_
      exact AW.iretE dX0_years_34 rfl rfl rfl rfl
    · refine AW.aload_n dX0_years_21 rfl rfl ?_
      refine AW.get ci0 0 (by decide) q229 dX0_years_22 gX rfl rfl ?_
      refine AW.getN ci1 0 (by decide) q191 dX0_years_25 gN rfl rfl ?_
      refine AW.iconst (v := 0) dX0_years_28 (by decide) rfl ?_
      refine AW.iald dX0_years_29 g514 (vp_in_iff.mpr (by decide)) (j := 0) (by decide) rfl ?_
      refine AW.if_ne (tgt := 35) dX0_years_30 (by decide) rfl (fun c30 => ?_) (fun c30 => ?_)
      · rw [e0] at c30
        exact absurd hc (by rw [c8, c18, dec_f c30]; decide)
      · refine AW.iconst (v := (-1)) dX0_years_33 (by decide) rfl ?_
        exact AW.iretE dX0_years_34 rfl rfl rfl rfl
theorem q_years_t {N nt c e g x : Nat} {a : Nat → Int32} {s : Sg} {L : Lw} (hb : 128 ≤ s.b.n) (h : RelX N nt c e g a s.A) (hR : Rl s x L) {q m : Nat} (hq : q ≤ 9999) (hm : 1 ≤ m) (hm4 : m ≤ 40) (hz : ¬ a 0 = 0) : RX (QF s (yearM (up (keepI a) 9 (nI (q * 2 + 131))) L m) 40 120) 68 mX0_years [.ref 512, .int (nI q), .int (nI m)] (hp s) (some (.int (yearM (up (keepI a) 9 (nI (q * 2 + 131))) L m 8))) := by
  have n7 := h.n0.2.2
  have h3 := h.n3
  have hz2 : ¬ s.A 514 0 = 0 := by rw [h.n0.2.1, ← h.n0.1]; exact hz
  have i1 : inI (nI q) 0 9999 = true := inI_iff.mpr ⟨by rw [nI_t (by omega)]; show (0 : Int) ≤ q; omega, by rw [nI_t (by omega)]; show (q : Int) ≤ 9999; omega⟩
  have i2 : inI (nI m) 1 40 = true := inI_iff.mpr ⟨by rw [nI_t (by omega)]; show (1 : Int) ≤ m; omega, by rw [nI_t (by omega)]; show (m : Int) ≤ 40; omega⟩
  obtain ⟨c2, hk2⟩ := keep_rel h
  have hd := hk2.cr.draw n7 (d := q * 2 + 131) (by omega)
  rw [← h.kI] at hd hk2
  have hr0 := hk2.row (Cu.p (k := 9) (by omega)) hd
  have eq : (nI q * 2 + 131 : Int32) = nI (q * 2 + 131) := by rw [show (2 : Int32) = nI 2 from rfl, nI_mul, show (131 : Int32) = nI 131 from rfl, nI_add]
  have m0 := hr0.mi
  refine RX.of rfl (Nat.le_of_ble_eq_true rfl) rfl ?_
  refine AX.map (fun _ k_ => AW.iload_n dX0_years_0 rfl rfl k_) ?_
  refine AX.map (fun _ k_ => AW.iconst (v := 0) dX0_years_1 (by decide) rfl k_) ?_
  refine AX.map (fun _ k_ => AW.sipush (v := 9999) dX0_years_2 (by decide) rfl k_) ?_
  refine AX.map (fun _ k_ => AW.callS (Y := mX0_in) (n := 3) (r_X0_in _ _ _) (by decide) (by decide) q271 q272 q138 q273 dX0_years_5 (by decide +kernel) rfl rfl (Nat.le_of_ble_eq_true rfl) rfl k_) ?_
  refine AX.map (fun _ k_ => AW.if_eqB (tgt := 33) dX0_years_8 (by decide) rfl (fun c_ => by first | exact absurd c_ i1 | exact absurd i1 c_ | exact Bool.noConfusion (c_.symm.trans i1)) (fun _ => k_)) ?_
  refine AX.map (fun _ k_ => AW.iload_n dX0_years_11 rfl rfl k_) ?_
  refine AX.map (fun _ k_ => AW.iconst (v := 1) dX0_years_12 (by decide) rfl k_) ?_
  refine AX.map (fun _ k_ => AW.bipush (v := 40) dX0_years_13 (by decide) rfl k_) ?_
  refine AX.map (fun _ k_ => AW.callS (Y := mX0_in) (n := 3) (r_X0_in _ _ _) (by decide) (by decide) q271 q272 q138 q273 dX0_years_15 (by decide +kernel) rfl rfl (Nat.le_of_ble_eq_true rfl) rfl k_) ?_
  refine AX.map (fun _ k_ => AW.if_eqB (tgt := 33) dX0_years_18 (by decide) rfl (fun c_ => by first | exact absurd c_ i2 | exact absurd i2 c_ | exact Bool.noConfusion (c_.symm.trans i2)) (fun _ => k_)) ?_
  refine AX.map (fun _ k_ => AW.aload_n dX0_years_21 rfl rfl k_) ?_
  refine AX.map (fun _ k_ => AW.get ci0 0 (by decide) q229 dX0_years_22 gX rfl rfl k_) ?_
  refine AX.map (fun _ k_ => AW.getN ci1 0 (by decide) q191 dX0_years_25 gN rfl rfl k_) ?_
  refine AX.map (fun _ k_ => AW.iconst (v := 0) dX0_years_28 (by decide) rfl k_) ?_
  refine AX.map (fun _ k_ => AW.iald dX0_years_29 g514 (vp_in_iff.mpr (by decide)) (j := 0) (by decide) rfl k_) ?_
  refine AX.map (fun _ k_ => AW.if_ne (tgt := 35) dX0_years_30 (by decide) rfl (fun _ => k_) (fun c_ => by first | exact absurd c_ hz2 | exact absurd hz2 c_ | exact absurd c_ (not_not_intro hz2) | exact Bool.noConfusion (c_.symm.trans hz2))) ?_
  refine AX.map (fun _ k_ => AW.aload_n dX0_years_35 rfl rfl k_) ?_
  refine AX.map (fun _ k_ => AW.get ci0 0 (by decide) q229 dX0_years_36 gX rfl rfl k_) ?_
  refine AX.map (fun _ k_ => AW.callV (Y := mX1_keeps) (n := 0) (r_X1_keeps h3.1 h3.2.1) (by decide) (by decide) rfl gN q850 q851 q852 q139 q853 dX0_years_39 (by decide +kernel) rfl rfl (Nat.le_of_ble_eq_true rfl) rfl k_) ?_
  refine AX.map (fun _ k_ => AW.aload_n dX0_years_42 rfl rfl k_) ?_
  refine AX.map (fun _ k_ => AW.get ci0 0 (by decide) q229 dX0_years_43 gX rfl rfl k_) ?_
  refine AX.map (fun _ k_ => AW.getN ci1 1 (by decide) q193 dX0_years_46 gN rfl rfl k_) ?_
  refine AX.map (fun _ k_ => AW.iconst (v := 1) dX0_years_49 (by decide) rfl k_) ?_
  refine AX.map (fun _ k_ => AW.iload_n dX0_years_50 rfl rfl k_) ?_
  refine AX.map (fun _ k_ => AW.iconst (v := 2) dX0_years_51 (by decide) rfl k_) ?_
  refine AX.map (fun _ k_ => AW.imul dX0_years_52 rfl k_) ?_
  refine AX.map (fun _ k_ => AW.sipush (v := 131) dX0_years_53 (by decide) rfl k_) ?_
  refine AX.map (fun _ k_ => AW.iadd dX0_years_56 rfl k_) ?_
  refine AX.map (fun _ k_ => AW.iast dX0_years_57 (by decide) g515 (vp_in_iff.mpr (by decide)) (j := 1) (by decide) s515 rfl k_) ?_
  refine AX.hpE (h1 := hp ((keepS s c).setA 515 (up ((keepS s c).A 515) 1 (nI (q * 2 + 131))))) (by rw [eq]) ?_
  refine AX.map (fun _ k_ => AW.iconst (v := 0) dX0_years_58 (by decide) rfl k_) ?_
  refine AX.map (fun _ k_ => AW.istore_n (i := 3) dX0_years_59 rfl rfl (Nat.le_of_ble_eq_true rfl) rfl rfl k_) ?_
  refine loopUp (P := fun k => ∀ t : Sg, Fr k (3 * k) s t → Rel (yearM (up (keepI a) 9 (nI (q * 2 + 131))) L k) t.A → AX (QF s (yearM (up (keepI a) 9 (nI (q * 2 + 131))) L m) 40 120) 68 mX0_years (hp t) 60 [some (.ref 512), some (.int (nI q)), some (.int (nI m)), some (.int (nI k)), none] [] (.inl (some (.int (yearM (up (keepI a) 9 (nI (q * 2 + 131))) L m 8))))) m ?_ ?_ 0 (by first | exact Nat.zero_le _ | omega) _ (((Fr.keep h3.2.1).tr0 Fr.set)) hr0.rel
  · intro t ft rt
    refine AX.map (fun _ k_ => AW.iload_n dX0_years_60 rfl rfl k_) ?_
    refine AX.map (fun _ k_ => AW.iload_n dX0_years_61 rfl rfl k_) ?_
    refine AX.map (fun _ k_ => AW.icmp_ge (tgt := 92) dX0_years_62 (by decide) rfl (fun _ => k_) (fun c_ => by first | exact absurd c_ (Int32.le_refl _) | exact absurd (Int32.le_refl _) c_ | exact absurd c_ (not_not_intro (Int32.le_refl _)) | exact Bool.noConfusion (c_.symm.trans (Int32.le_refl _)))) ?_
    refine AX.map (fun _ k_ => AW.aload_n dX0_years_92 rfl rfl k_) ?_
    refine AX.map (fun _ k_ => AW.get ci0 0 (by decide) q229 dX0_years_93 gX rfl rfl k_) ?_
    refine AX.map (fun _ k_ => AW.getN ci1 1 (by decide) q193 dX0_years_96 gN rfl rfl k_) ?_
    refine AX.map (fun _ k_ => AW.iconst (v := 0) dX0_years_99 (by decide) rfl k_) ?_
    refine AX.map (fun _ k_ => AW.iald dX0_years_100 g515 (vp_in_iff.mpr (by decide)) (j := 0) (by decide) rfl k_) ?_
    obtain ⟨_, _, _, _, _, rt2⟩ := rt
    exact ⟨_, ⟨t, ft.mono (by omega) (by omega), rt2.rel, rfl⟩, AW.iretE dX0_years_101 rfl rfl (by rw [rt2.cr.at8.1]) rfl⟩
  · intro k hk ihk
    intro t ft rt0
    obtain ⟨N1, nt1, c1, e1, g1, rt⟩ := rt0
    obtain ⟨d1, d2⟩ := rt.cr.drawn rt.n0.2.2
    have hd2 := rt.row d2 d1
    obtain ⟨e9, qq, hq9, eq9⟩ := rt.cr.at9
    have ym := yearM_ok (L := L) m0 k
    have kR := hR.rel h.rel ft rt.rel (ym.2.2.1.trans (by rw [up_ne (by decide)]; exact keepI_lo h.mi (by decide) (by decide)))
    have kR2 := kR.set (k := 515) (f := drawR (t.A 515)) (by decide)
    have e9q : t.A 515 1 = nI qq := e9.trans eq9
    have hz9 : ¬ drawN (yearM (up (keepI a) 9 (nI (q * 2 + 131))) L k) 0 = 0 := by unfold drawN; rw [up_ne (by decide), ym.2.1, up_ne (by decide), keepI_lo h.mi (by decide) (by decide)]; exact hz
    have es : yearM (up (keepI a) 9 (nI (q * 2 + 131))) L (k + 1) = happM (drawN (yearM (up (keepI a) 9 (nI (q * 2 + 131))) L k)) L (yearM (up (keepI a) 9 (nI (q * 2 + 131))) L k 9) := rfl
    refine AX.map (fun _ k_ => AW.iload_n dX0_years_60 rfl rfl k_) ?_
    refine AX.map (fun _ k_ => AW.iload_n dX0_years_61 rfl rfl k_) ?_
    refine AX.map (fun _ k_ => AW.icmp_ge (tgt := 92) dX0_years_62 (by decide) rfl (fun c_ => by first | exact absurd c_ (nI_ge hk (by omega)) | exact absurd (nI_ge hk (by omega)) c_ | exact Bool.noConfusion (c_.symm.trans (nI_ge hk (by omega)))) (fun _ => k_)) ?_
    refine AX.map (fun _ k_ => AW.aload_n dX0_years_65 rfl rfl k_) ?_
    refine AX.map (fun _ k_ => AW.get ci0 0 (by decide) q229 dX0_years_66 gX rfl rfl k_) ?_
    refine AX.map (fun _ k_ => AW.getN ci1 1 (by decide) q193 dX0_years_69 gN rfl rfl k_) ?_
    refine AX.map (fun _ k_ => AW.iconst (v := 1) dX0_years_72 (by decide) rfl k_) ?_
    refine AX.map (fun _ k_ => AW.iald dX0_years_73 g515 (vp_in_iff.mpr (by decide)) (j := 1) (by decide) rfl k_) ?_
    refine AX.map (fun _ k_ => AW.istore dX0_years_74 rfl (Nat.le_of_ble_eq_true rfl) rfl rfl k_) ?_
    refine AX.map (fun _ k_ => AW.aload_n dX0_years_76 rfl rfl k_) ?_
    refine AX.map (fun _ k_ => AW.callV (Y := mX0_draws) (n := 0) (r_X0_draws) (by decide) (by decide) rfl gX q1052 q1054 qs39 q138 q1055 dX0_years_77 (by decide +kernel) rfl rfl (Nat.le_of_ble_eq_true rfl) rfl k_) ?_
    refine AX.map (fun _ k_ => AW.aload_n dX0_years_80 rfl rfl k_) ?_
    refine AX.map (fun _ k_ => AW.iload dX0_years_81 rfl rfl k_) ?_
    obtain ⟨_, ⟨t2, f2, r2, rfl⟩, run⟩ := q_happens (s := t.setA 515 (drawR (t.A 515))) (by have := ft.x.1; show 128 ≤ t.b.n; omega) hd2 kR2 e9q hq9 hz9
    refine AX.map (fun _ k_ => AW.callV (Y := mX0_happens) (n := 1) (run) (by decide) (by decide) rfl gX q1116 q1118 qs44 q138 q1119 dX0_years_83 (by decide +kernel) rfl rfl (Nat.le_of_ble_eq_true rfl) rfl k_) ?_
    refine AX.map (fun _ k_ => AW.iinc (v := 1) dX0_years_86 rfl (by decide) rfl rfl rfl k_) ?_
    refine AX.map (fun _ k_ => AW.goto (tgt := 60) dX0_years_89 (by decide) k_) ?_
    refine AX.fgE 4 rfl ?_
    exact AX.lsE (by rw [nI_succ k]; rfl) (ihk t2 ((ft.trans ((Fr.set (s := t)).tr0 f2)).mono (by omega) (by omega)) (by rw [es, ← e9]; exact r2))
