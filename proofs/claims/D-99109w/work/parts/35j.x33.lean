/-! SYSTEM 33: a text taken in (printed by tools/x33.py) -/
set_option maxRecDepth 100000
abbrev mX0_text : Mt := (yX0_text, cX0_text, 5, some .int)
abbrev hhT : List (Nat × Nat × Nat × Nat) := [(30, 62, 70, 109), (30, 62, 96, 0), (70, 89, 96, 0), (96, 98, 96, 0)]
theorem r_X0_text_4 {s : Sg} (h4 : s.A 514 1 = 4) : RunW 54 mX0_text hhT [.ref 512] (hp s) (some (.int (-1))) (hp s) := by
  refine RunW.of rfl (Nat.le_of_ble_eq_true rfl) rfl ?_
  refine AW.aload_n dX0_text_0 rfl rfl ?_
  refine AW.get ci0 0 (by decide) q229 dX0_text_1 gX rfl rfl ?_
  refine AW.getN ci1 0 (by decide) q191 dX0_text_4 gN rfl rfl ?_
  refine AW.iconst (v := 1) dX0_text_7 (by decide) rfl ?_
  refine AW.iald dX0_text_8 g514 (vp_in_iff.mpr (by decide)) (j := 1) (by decide) rfl ?_
  refine AW.iconst (v := 4) dX0_text_9 (by decide) rfl ?_
  refine AW.icmp_ne (tgt := 15) dX0_text_10 (by decide) rfl (fun c_ => by first | exact absurd c_ h4 | exact absurd h4 c_ | exact Bool.noConfusion (c_.symm.trans h4)) (fun _ => ?_)
  refine AW.iconst (v := (-1)) dX0_text_13 (by decide) rfl ?_
  exact AW.iretE dX0_text_14 rfl rfl rfl rfl
/-- a text's state behind its reading -/
def txS (s : Sg) (b2 : AH) (T n : Nat) (t : Nat → Int32) (L : Lq) (nu kd : Int32) : Sg := Tk (((s.setS 101 0).setS 102 (-1)).setb b2) T n t L nu (nI 0) kd
theorem r_X0_text_f {s : Sg} {n : Nat} {t : Nat → Int32} (h4 : ¬ s.A 514 1 = 4) (hn : s.S 100 = nI n) (h300 : n ≤ 300) (hR : TpR s t n) (hB : BH s.b) (L0 : Lq) (f : Nat) {r : Int32} {j : Nat} (hx : rdT (byteF t n) (tkL t n L0) f [] [] 0 = .inl (r, j)) (hr : ¬ r = 0) : ∃ b2 nu2 kd2 op2, (s.b.n ≤ b2.n ∧ b2.n ≤ s.b.n + 16 * j + 7 ∧ s.b.u ≤ b2.u ∧ b2.u ≤ s.b.u + 120 * j + 2036 ∧ ∀ k, k < (512 + s.b.n) → b2.g k = s.b.g k) ∧ RunW 54 mX0_text hhT [.ref 512] (hp s) (some (.int (-1))) (hp (((Tk (((s.setS 101 0).setS 102 (-1)).setb b2) (512 + s.b.n) n t (tkL t n L0 j) nu2 op2 kd2).setS 101 r |>.setS 102 (tkL t n L0 j).2.1).setS 100 0)) := by
  have hb := hB.1
  have hC : TC (((s.setS 101 0).setS 102 (-1)).setb (s.b.push (.inr (3, [.null, .int 0, .int 0, .int 0, .int 0, .int 0, .int 0, .int 0])) 8)) (512 + s.b.n) n t := ⟨by omega, by show _ < 512 + (s.b.n + 1); omega, hR, h300, hB.of (Nat.le_succ _) (fun k hk => push_go (by omega))⟩
  have wi := r_X3_init (s := (((s.setS 101 0).setS 102 (-1)).setb (s.b.push (.inr (3, [.null, .int 0, .int 0, .int 0, .int 0, .int 0, .int 0, .int 0])) 8))) (T := (512 + s.b.n)) (n := n) (by omega) push_g
  rw [← hn] at wi
  have gT : (hp (tkS (((s.setS 101 0).setS 102 (-1)).setb (s.b.push (.inr (3, [.null, .int 0, .int 0, .int 0, .int 0, .int 0, .int 0, .int 0])) 8)) (512 + s.b.n) n 0 0 0 0 0 0)).g (512 + s.b.n) = _ := gTk (by omega)
  obtain ⟨⟨o9, h9⟩, q9, w9⟩ := r_X3_read hC (tk := 0) (so := 0) (nu := 0) (kd := 0) L0 f (fun j9 hj => by
    rw [hx] at hj
    exact hr (Prod.mk.inj (Sum.inl.inj hj)).1)
  rw [hx] at q9
  obtain ⟨kd2, -, q, b2, nu2, op2, ⟨x1, x2, x3, x4, x5⟩, ⟨l1, l2, l3⟩, qe⟩ := q9
  obtain ⟨rfl, rfl⟩ := Prod.mk.inj qe
  have gW : (hp (Tk ((((s.setS 101 0).setS 102 (-1)).setb (s.b.push (.inr (3, [.null, .int 0, .int 0, .int 0, .int 0, .int 0, .int 0, .int 0])) 8)).setb b2) (512 + s.b.n) n t (tkL t n L0 j) nu2 op2 kd2)).g q = some (wrC q r (tkL t n L0 j).2.1) := (hp_gb (nfx (by have : 512 + (((s.setS 101 0).setS 102 (-1)).setb (s.b.push (.inr (3, [.null, .int 0, .int 0, .int 0, .int 0, .int 0, .int 0, .int 0])) 8)).b.n = 512 + (s.b.n + 1) := rfl; omega))).trans ((Tk_g (by have : 512 + (((s.setS 101 0).setS 102 (-1)).setb (s.b.push (.inr (3, [.null, .int 0, .int 0, .int 0, .int 0, .int 0, .int 0, .int 0])) 8)).b.n = 512 + (s.b.n + 1) := rfl; omega)).trans l3)
  have gW2 : (hp ((Tk ((((s.setS 101 0).setS 102 (-1)).setb (s.b.push (.inr (3, [.null, .int 0, .int 0, .int 0, .int 0, .int 0, .int 0, .int 0])) 8)).setb b2) (512 + s.b.n) n t (tkL t n L0 j) nu2 op2 kd2).setS 101 r)).g q = some (wrC q r (tkL t n L0 j).2.1) := (hp_gb (nfx (by have : 512 + (((s.setS 101 0).setS 102 (-1)).setb (s.b.push (.inr (3, [.null, .int 0, .int 0, .int 0, .int 0, .int 0, .int 0, .int 0])) 8)).b.n = 512 + (s.b.n + 1) := rfl; omega))).trans ((Tk_g (by have : 512 + (((s.setS 101 0).setS 102 (-1)).setb (s.b.push (.inr (3, [.null, .int 0, .int 0, .int 0, .int 0, .int 0, .int 0, .int 0])) 8)).b.n = 512 + (s.b.n + 1) := rfl; omega)).trans l3)
  have x1' : s.b.n + 1 ≤ b2.n := x1
  have x2' : b2.n ≤ s.b.n + 1 + (16 * (j - 0) + 2 + 4) := x2
  have x3' : s.b.u + 8 ≤ b2.u := x3
  have x4' : b2.u ≤ s.b.u + 8 + (120 * (j - 0) + 2008 + 20) := x4
  refine ⟨b2, nu2, kd2, op2, ⟨by omega, by omega, by omega, by omega, fun k hk => (x5 k (by show k < 512 + (s.b.n + 1); omega) (by omega)).trans (push_go (by omega))⟩, ?_⟩
  refine RunW.of rfl (Nat.le_of_ble_eq_true rfl) rfl ?_
  refine AW.aload_n dX0_text_0 rfl rfl ?_
  refine AW.get ci0 0 (by decide) q229 dX0_text_1 gX rfl rfl ?_
  refine AW.getN ci1 0 (by decide) q191 dX0_text_4 gN rfl rfl ?_
  refine AW.iconst (v := 1) dX0_text_7 (by decide) rfl ?_
  refine AW.iald dX0_text_8 g514 (vp_in_iff.mpr (by decide)) (j := 1) (by decide) rfl ?_
  refine AW.iconst (v := 4) dX0_text_9 (by decide) rfl ?_
  refine AW.icmp_ne (tgt := 15) dX0_text_10 (by decide) rfl (fun _ => ?_) (fun c_ => by first | exact absurd c_ h4 | exact absurd h4 c_ | exact absurd c_ (not_not_intro h4) | exact Bool.noConfusion (c_.symm.trans h4))
  refine AW.aload_n dX0_text_15 rfl rfl ?_
  refine AW.get ci0 3 (by decide) q232 dX0_text_16 gX rfl rfl ?_
  refine AW.istore_n (i := 1) dX0_text_19 rfl rfl (Nat.le_of_ble_eq_true rfl) rfl rfl ?_
  refine AW.aload_n dX0_text_20 rfl rfl ?_
  refine AW.iconst (v := 0) dX0_text_21 (by decide) rfl ?_
  refine AW.put ci0 4 (by decide) q233 dX0_text_22 (by omega) gX rfl (fun _ => rfl) (fun _ => rfl) (Nat.le_of_ble_eq_true rfl) sX4 rfl ?_
  refine AW.aload_n dX0_text_25 rfl rfl ?_
  refine AW.iconst (v := (-1)) dX0_text_26 (by decide) rfl ?_
  refine AW.put ci0 5 (by decide) q234 dX0_text_27 (by omega) gX rfl (fun _ => rfl) (fun _ => rfl) (Nat.le_of_ble_eq_true rfl) sX5 rfl ?_
  refine AW.aload_n dX0_text_30 rfl rfl ?_
  refine AW.get ci0 0 (by decide) q229 dX0_text_31 gX rfl rfl ?_
  refine AW.getN ci1 5 (by decide) q201 dX0_text_34 gN rfl rfl ?_
  refine AW.aload_n dX0_text_37 rfl rfl ?_
  refine AW.get ci0 0 (by decide) q229 dX0_text_38 gX rfl rfl ?_
  refine AW.getN ci1 0 (by decide) q191 dX0_text_41 gN rfl rfl ?_
  refine AW.iconst (v := 1) dX0_text_44 (by decide) rfl ?_
  refine AW.iald dX0_text_45 g514 (vp_in_iff.mpr (by decide)) (j := 1) (by decide) rfl ?_
  refine AW.new ci3 dX0_text_46 q298 q299 q142 dfX3 (hp_push (s := ((s.setS 101 0).setS 102 (-1))) hb) rfl ?_
  refine AW.dup dX0_text_49 rfl rfl ?_
  refine AW.aload_n dX0_text_50 rfl rfl ?_
  refine AW.get ci0 2 (by decide) q231 dX0_text_51 gX rfl rfl ?_
  refine AW.iload_n dX0_text_54 rfl rfl ?_
  refine AW.callI (Y := mX3_init) (n := 2) (wi) (by decide) (by decide) rfl q300 q301 q142 q302 dX0_text_55 rfl (by decide +kernel) rfl rfl (Nat.le_of_ble_eq_true rfl) rfl ?_
  refine AW.callVC (Y := mX3_read) (n := 0) (w9) (by decide) (by decide) rfl gT q329 q330 q331 q142 q332 dX0_text_58 (by decide +kernel) rfl rfl (Nat.le_of_ble_eq_true rfl) (hh := hhT) q296 (pre := []) (suf := tableOf [(30, 62, 96, 0), (70, 89, 96, 0), (96, 98, 96, 0)]) (x := ⟨30, 62, 70, 109⟩) rfl (fun z hz => absurd hz List.not_mem_nil) (by decide) (by decide) q297 q461 ?_
  refine AW.astore_n (i := 2) dX0_text_70 rfl rfl (Nat.le_of_ble_eq_true rfl) rfl rfl ?_
  refine AW.aload_n dX0_text_71 rfl rfl ?_
  refine AW.aload_n dX0_text_72 rfl rfl ?_
  refine AW.getN ci5 6 (by decide) q504 dX0_text_73 (by first | exact gW | exact gW2) rfl rfl ?_
  refine AW.put ci0 4 (by decide) q233 dX0_text_76 (by omega) gX rfl (fun _ => rfl) (fun _ => rfl) (Nat.le_of_ble_eq_true rfl) sX4 rfl ?_
  refine AW.aload_n dX0_text_79 rfl rfl ?_
  refine AW.aload_n dX0_text_80 rfl rfl ?_
  refine AW.getN ci5 7 (by decide) q506 dX0_text_81 (by first | exact gW | exact gW2) rfl rfl ?_
  refine AW.put ci0 5 (by decide) q234 dX0_text_84 (by omega) gX rfl (fun _ => rfl) (fun _ => rfl) (Nat.le_of_ble_eq_true rfl) sX5 rfl ?_
  refine AW.iconst (v := (-1)) dX0_text_87 (by decide) rfl ?_
  refine AW.istore_n (i := 3) dX0_text_88 rfl rfl (Nat.le_of_ble_eq_true rfl) rfl rfl ?_
  refine AW.aload_n dX0_text_89 rfl rfl ?_
  refine AW.iconst (v := 0) dX0_text_90 (by decide) rfl ?_
  refine AW.put ci0 3 (by decide) q232 dX0_text_91 (by omega) gX rfl (fun _ => rfl) (fun _ => rfl) (Nat.le_of_ble_eq_true rfl) sX3 rfl ?_
  refine AW.iload_n dX0_text_94 rfl rfl ?_
  exact AW.iretE dX0_text_95 rfl rfl rfl rfl
theorem r_X0_text_t {s : Sg} {n nt : Nat} {t : Nat → Int32} (h1 : s.A 514 1 = nI nt) (h4 : nt < 4) (hn : s.S 100 = nI n) (h300 : n ≤ 300) (hR : TpR s t n) (hB : BH s.b) (L0 : Lq) (f : Nat) {cls : List Cl} {C : Cd} {j : Nat} (hx : rdT (byteF t n) (tkL t n L0) f [] [] 0 = .inr (cls, C, j)) : ∃ b2 nu2 kd2 L2 ix2, (s.b.n ≤ b2.n ∧ b2.n ≤ s.b.n + 16 * j + 3 ∧ s.b.u ≤ b2.u ∧ b2.u ≤ s.b.u + 120 * j + 16 + 4 * capN ix2 ∧ ∀ k, k < (512 + s.b.n) → b2.g k = s.b.g k) ∧ RdS b2 (512 + (s.b.n + 1)) (512 + (s.b.n + 1)) (512 + (s.b.n + 1 + 1)) ix2 cls C L2 ∧ RunW 54 mX0_text hhT [.ref 512] (hp s) (some (.int (nI nt))) (hp ((((Tk (((s.setS 101 0).setS 102 (-1)).setb b2) (512 + s.b.n) n t (tkL t n L0 j) nu2 (nI 0) kd2).setT (fun j => if j % 2 = 0 then (up (fun j => s.T (2 * j)) nt (.ref (512 + (s.b.n + 1)))) (j / 2) else s.T j)).setS 100 0).setA 514 (up (s.A 514) 1 (s.A 514 1 + 1)))) := by
  have hb := hB.1
  have hne : ¬ s.A 514 1 = 4 := fun q => by
    have e := congrArg Int32.toInt (h1.symm.trans q)
    rw [nI_t (by omega)] at e
    have e4 : (4 : Int32).toInt = 4 := rfl
    omega
  have hC : TC (((s.setS 101 0).setS 102 (-1)).setb (s.b.push (.inr (3, [.null, .int 0, .int 0, .int 0, .int 0, .int 0, .int 0, .int 0])) 8)) (512 + s.b.n) n t := ⟨by omega, by show _ < 512 + (s.b.n + 1); omega, hR, h300, hB.of (Nat.le_succ _) (fun k hk => push_go (by omega))⟩
  have wi := r_X3_init (s := (((s.setS 101 0).setS 102 (-1)).setb (s.b.push (.inr (3, [.null, .int 0, .int 0, .int 0, .int 0, .int 0, .int 0, .int 0])) 8))) (T := (512 + s.b.n)) (n := n) (by omega) push_g
  rw [← hn] at wi
  have gT : (hp (tkS (((s.setS 101 0).setS 102 (-1)).setb (s.b.push (.inr (3, [.null, .int 0, .int 0, .int 0, .int 0, .int 0, .int 0, .int 0])) 8)) (512 + s.b.n) n 0 0 0 0 0 0)).g (512 + s.b.n) = _ := gTk (by omega)
  obtain ⟨⟨o9, h9⟩, q9, w9⟩ := r_X3_read hC (tk := 0) (so := 0) (nu := 0) (kd := 0) L0 f (fun j9 hj => by
    rw [hx] at hj
    exact Sum.inl_ne_inr hj.symm)
  rw [hx] at q9
  obtain ⟨b2, nu2, kd2, L2, ix2, ⟨x1, x2, x3, x4, x5⟩, hRd, qe⟩ := q9
  obtain ⟨rfl, rfl⟩ := Prod.mk.inj qe
  have x1' : s.b.n + 1 ≤ b2.n := x1
  have x2' : b2.n ≤ s.b.n + 1 + 2 + 16 * j := x2
  have x3' : s.b.u + 8 ≤ b2.u := x3
  have x4' : b2.u ≤ s.b.u + 8 + 8 + 120 * j + 4 * capN ix2 := x4
  refine ⟨b2, nu2, kd2, L2, ix2, ⟨by omega, by omega, by omega, by omega, fun k hk => (x5 k (by show k < 512 + (s.b.n + 1); omega) (by omega)).trans (push_go (by omega))⟩, hRd, ?_⟩
  obtain ⟨E, ve, vl, vq, dv, -, gX0, -⟩ := hRd
  have gXc : (hp (Tk ((((s.setS 101 0).setS 102 (-1)).setb (s.b.push (.inr (3, [.null, .int 0, .int 0, .int 0, .int 0, .int 0, .int 0, .int 0])) 8)).setb b2) (512 + s.b.n) n t (tkL t n L0 j) nu2 (nI 0) kd2)).g (512 + (s.b.n + 1)) = _ := (hp_gb (nfx (by omega))).trans ((Tk_g (by omega)).trans gX0)
  have hin : vp_in (s.A 514 1) 4 := by rw [h1]; exact vp_in_nI (by omega) (by omega)
  have hj : (s.A 514 1).toNatClampNeg = nt := by rw [h1]; exact cI_nI (by omega)
  have hv : (up (s.A 514) 1 (s.A 514 1 + 1)) 1 - 1 = nI nt := by
    rw [up_eq, h1, nI_succ', show (1 : Int32) = nI 1 from rfl, nI_subN (by omega)]
    rfl
  refine RunW.of rfl (Nat.le_of_ble_eq_true rfl) rfl ?_
  refine AW.aload_n dX0_text_0 rfl rfl ?_
  refine AW.get ci0 0 (by decide) q229 dX0_text_1 gX rfl rfl ?_
  refine AW.getN ci1 0 (by decide) q191 dX0_text_4 gN rfl rfl ?_
  refine AW.iconst (v := 1) dX0_text_7 (by decide) rfl ?_
  refine AW.iald dX0_text_8 g514 (vp_in_iff.mpr (by decide)) (j := 1) (by decide) rfl ?_
  refine AW.iconst (v := 4) dX0_text_9 (by decide) rfl ?_
  refine AW.icmp_ne (tgt := 15) dX0_text_10 (by decide) rfl (fun _ => ?_) (fun c_ => by first | exact absurd c_ hne | exact absurd hne c_ | exact absurd c_ (not_not_intro hne) | exact Bool.noConfusion (c_.symm.trans hne))
  refine AW.aload_n dX0_text_15 rfl rfl ?_
  refine AW.get ci0 3 (by decide) q232 dX0_text_16 gX rfl rfl ?_
  refine AW.istore_n (i := 1) dX0_text_19 rfl rfl (Nat.le_of_ble_eq_true rfl) rfl rfl ?_
  refine AW.aload_n dX0_text_20 rfl rfl ?_
  refine AW.iconst (v := 0) dX0_text_21 (by decide) rfl ?_
  refine AW.put ci0 4 (by decide) q233 dX0_text_22 (by omega) gX rfl (fun _ => rfl) (fun _ => rfl) (Nat.le_of_ble_eq_true rfl) sX4 rfl ?_
  refine AW.aload_n dX0_text_25 rfl rfl ?_
  refine AW.iconst (v := (-1)) dX0_text_26 (by decide) rfl ?_
  refine AW.put ci0 5 (by decide) q234 dX0_text_27 (by omega) gX rfl (fun _ => rfl) (fun _ => rfl) (Nat.le_of_ble_eq_true rfl) sX5 rfl ?_
  refine AW.aload_n dX0_text_30 rfl rfl ?_
  refine AW.get ci0 0 (by decide) q229 dX0_text_31 gX rfl rfl ?_
  refine AW.getN ci1 5 (by decide) q201 dX0_text_34 gN rfl rfl ?_
  refine AW.aload_n dX0_text_37 rfl rfl ?_
  refine AW.get ci0 0 (by decide) q229 dX0_text_38 gX rfl rfl ?_
  refine AW.getN ci1 0 (by decide) q191 dX0_text_41 gN rfl rfl ?_
  refine AW.iconst (v := 1) dX0_text_44 (by decide) rfl ?_
  refine AW.iald dX0_text_45 g514 (vp_in_iff.mpr (by decide)) (j := 1) (by decide) rfl ?_
  refine AW.new ci3 dX0_text_46 q298 q299 q142 dfX3 (hp_push (s := ((s.setS 101 0).setS 102 (-1))) hb) rfl ?_
  refine AW.dup dX0_text_49 rfl rfl ?_
  refine AW.aload_n dX0_text_50 rfl rfl ?_
  refine AW.get ci0 2 (by decide) q231 dX0_text_51 gX rfl rfl ?_
  refine AW.iload_n dX0_text_54 rfl rfl ?_
  refine AW.callI (Y := mX3_init) (n := 2) (wi) (by decide) (by decide) rfl q300 q301 q142 q302 dX0_text_55 rfl (by decide +kernel) rfl rfl (Nat.le_of_ble_eq_true rfl) rfl ?_
  refine AW.callV (Y := mX3_read) (n := 0) (w9) (by decide) (by decide) rfl gT q329 q330 q331 q142 q332 dX0_text_58 (by decide +kernel) rfl rfl (Nat.le_of_ble_eq_true rfl) rfl ?_
  refine AW.aastS dX0_text_61 (by decide) (g565 (s := (Tk ((((s.setS 101 0).setS 102 (-1)).setb (s.b.push (.inr (3, [.null, .int 0, .int 0, .int 0, .int 0, .int 0, .int 0, .int 0])) 8)).setb b2) (512 + s.b.n) n t (tkL t n L0 j) nu2 (nI 0) kd2))) (fun _ => rfl) gXc rfl rfl hin hj (s565 (s := (Tk ((((s.setS 101 0).setS 102 (-1)).setb (s.b.push (.inr (3, [.null, .int 0, .int 0, .int 0, .int 0, .int 0, .int 0, .int 0])) 8)).setb b2) (512 + s.b.n) n t (tkL t n L0 j) nu2 (nI 0) kd2))) rfl ?_
  refine AW.aload_n dX0_text_62 rfl rfl ?_
  refine AW.iconst (v := 0) dX0_text_63 (by decide) rfl ?_
  refine AW.put ci0 3 (by decide) q232 dX0_text_64 (by omega) gX rfl (fun _ => rfl) (fun _ => rfl) (Nat.le_of_ble_eq_true rfl) sX3 rfl ?_
  refine AW.goto (tgt := 106) dX0_text_67 (by decide) ?_
  refine AW.aload_n dX0_text_106 rfl rfl ?_
  refine AW.get ci0 0 (by decide) q229 dX0_text_107 gX rfl rfl ?_
  refine AW.getN ci1 0 (by decide) q191 dX0_text_110 gN rfl rfl ?_
  refine AW.iconst (v := 1) dX0_text_113 (by decide) rfl ?_
  refine AW.dup2 dX0_text_114 rfl rfl rfl ?_
  refine AW.iald dX0_text_115 g514 (vp_in_iff.mpr (by decide)) (j := 1) (by decide) rfl ?_
  refine AW.iconst (v := 1) dX0_text_116 (by decide) rfl ?_
  refine AW.iadd dX0_text_117 rfl ?_
  refine AW.iast dX0_text_118 (by decide) g514 (vp_in_iff.mpr (by decide)) (j := 1) (by decide) s514 rfl ?_
  refine AW.aload_n dX0_text_119 rfl rfl ?_
  refine AW.get ci0 0 (by decide) q229 dX0_text_120 gX rfl rfl ?_
  refine AW.getN ci1 0 (by decide) q191 dX0_text_123 gN rfl rfl ?_
  refine AW.iconst (v := 1) dX0_text_126 (by decide) rfl ?_
  refine AW.iald dX0_text_127 g514 (vp_in_iff.mpr (by decide)) (j := 1) (by decide) rfl ?_
  refine AW.iconst (v := 1) dX0_text_128 (by decide) rfl ?_
  refine AW.isub dX0_text_129 rfl ?_
  exact AW.iretE dX0_text_130 rfl rfl hv rfl
