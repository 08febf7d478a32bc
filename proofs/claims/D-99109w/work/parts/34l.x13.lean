/-! SYSTEM 13: a day of a row (printed by tools/x13.py) -/
set_option maxRecDepth 100000
def Q6 (s : Sg) (h' : AH) : Prop := ∃ N, h' = hp (s.setA 620 N)
def nm0 : Nat → Int32 := fun _ => 0
def earnX (L : Lw) (v : Vw) (h day : Int32) : Int32 := earnS L v nm0 h day
def loseX (L : Lw) (v : Vw) (h day : Int32) : Int32 := loseS L v nm0 h day
def letX (L : Lw) (v : Vw) (h day : Int32) : Bool := letS L v nm0 h day
def extL (L : Lw) : Prop := extF L.1 ∧ extF L.2.1 ∧ extF L.2.2
theorem nmS_8 {b c : Nat → Int32} {v : Vw} {h day : Int32} {j : Nat} (hj : j < 8) : nmS b v h day j = nmS c v h day j := by
  have : j = 0 ∨ j = 1 ∨ j = 2 ∨ j = 3 ∨ j = 4 ∨ j = 5 ∨ j = 6 ∨ j = 7 := by omega
  unfold nmS
  rcases this with rfl | rfl | rfl | rfl | rfl | rfl | rfl | rfl <;> simp [up]
theorem earnX_e {L : Lw} (hX : extL L) (v : Vw) (N : Nat → Int32) (h day : Int32) : earnS L v N h day = earnX L v h day := by
  obtain ⟨L1, L2, L3⟩ := L
  cases L1 with
  | none => rfl
  | some F => exact congrArg (fun z => heldI z 0 99) (hX.1 F rfl _ _ fun j hj => nmS_8 hj)
theorem loseX_e {L : Lw} (hX : extL L) (v : Vw) (N : Nat → Int32) (h day : Int32) : loseS L v N h day = loseX L v h day := by
  obtain ⟨L1, L2, L3⟩ := L
  cases L2 with
  | none => rfl
  | some F => exact congrArg (fun z => heldI z 0 99) (hX.2.1 F rfl _ _ fun j hj => nmS_8 hj)
theorem letX_e {L : Lw} (hX : extL L) (v : Vw) (N : Nat → Int32) (h day : Int32) : letS L v N h day = letX L v h day := by
  obtain ⟨L1, L2, L3⟩ := L
  cases L3 with
  | none => rfl
  | some F => exact hX.2.2 F rfl _ _ fun j hj => nmS_8 hj
def pass1 (L : Lw) (n : Nat → Int32) (r : Nat → Int32) (k : Nat) : Nat → Int32 := if hasI (r 2) (nI k) = true then r else if hasI (r (cI (3 + nI k))) (r 0 % 20) = true then up r (cI (10 + nI k)) (maxI 0 (r (cI (10 + nI k)) - loseX L (vwS n r) (nI k) (r 0))) else up r (cI (10 + nI k)) (minI 9999 (r (cI (10 + nI k)) + earnX L (vwS n r) (nI k) (r 0)))
def passR (L : Lw) (n : Nat → Int32) (r : Nat → Int32) : Nat → (Nat → Int32)
  | 0 => r
  | k + 1 => pass1 L n (passR L n r k) k
def passS (L : Lw) (n : Nat → Int32) (r : Nat → Int32) : Nat → Int32 := up (passR L n r (cI (n 0))) 0 (passR L n r (cI (n 0)) 0 + 1)
theorem ok_n {n r r2 : Nat → Int32} (h : (vwS n r).ok) : (vwS n r2).ok := by
  have h1 : 0 ≤ (n 0).toInt ∧ (n 0).toInt ≤ 7 := h
  exact h1
theorem hou_n {n r r2 : Nat → Int32} {h : Int32} (k : (vwS n r).hou h = true) : (vwS n r2).hou h = true := by
  have h1 : inI h 0 (n 0 - 1) = true := k
  exact h1
theorem passR_s (L : Lw) (n r : Nat → Int32) (k : Nat) : passR L n r (k + 1) = pass1 L n (passR L n r k) k := rfl
theorem setA_cm {s : Sg} {k l : Nat} {f g : Nat → Int32} (h : k ≠ l) : (s.setA k f).setA l g = (s.setA l g).setA k f := Prod.ext (up_cm h) rfl
theorem gR515 {s : Sg} {r N : Nat → Int32} : (hp ((s.setA 515 r).setA 620 N)).g 515 = some (ia 145 r) := (hp_gI (s := (s.setA 515 r).setA 620 N) (k := 515) rfl).trans (congrArg (fun z => some (ia 145 z)) ((sA_ne (by decide)).trans sA_eq))
theorem sR515 {s : Sg} {r N f : Nat → Int32} : (hp ((s.setA 515 r).setA 620 N)).set 515 (ia 145 f) = hp ((s.setA 515 f).setA 620 N) := by
  refine (hp_sI (s := (s.setA 515 r).setA 620 N) (k := 515) rfl).trans (congrArg hp ?_)
  rw [setA_cm (k := 620) (l := 515) (by decide), setA_setA]
theorem gR621 {s : Sg} {r N : Nat → Int32} : (hp ((s.setA 621 r).setA 620 N)).g 621 = some (ia 145 r) := (hp_gI (s := (s.setA 621 r).setA 620 N) (k := 621) rfl).trans (congrArg (fun z => some (ia 145 z)) ((sA_ne (by decide)).trans sA_eq))
theorem sR621 {s : Sg} {r N f : Nat → Int32} : (hp ((s.setA 621 r).setA 620 N)).set 621 (ia 145 f) = hp ((s.setA 621 f).setA 620 N) := by
  refine (hp_sI (s := (s.setA 621 r).setA 620 N) (k := 621) rfl).trans (congrArg hp ?_)
  rw [setA_cm (k := 620) (l := 621) (by decide), setA_setA]
theorem pass_step {Q : AH → Prop} {s : Sg} {r N : Nat → Int32} (hn : (vwS (s.A 514) r).ok) {a : Nat} {L : Lw} (hL : LawT s.b a L) (hX : extL L) {k : Nat} (hk : k < (vwS (s.A 514) r).n) (K : ∀ N, AX Q 63 mX0_passes (hp ((s.setA 515 (pass1 L (s.A 514) r k)).setA 620 N)) 2 [some (.ref 512), some (.ref a), some (.ref 515), some (.int (nI (k + 1)))] [] (.inl none)) : AX Q 63 mX0_passes (hp ((s.setA 515 r).setA 620 N)) 2 [some (.ref 512), some (.ref a), some (.ref 515), some (.int (nI k))] [] (.inl none) := by
  have hou : (vwS (s.A 514) r).hou (nI k) = true := Vw.hou_k hn hk
  refine AX.map (fun _ k_ => AW.iload_n dX0_passes_2 rfl rfl k_) ?_
  refine AX.map (fun _ k_ => AW.aload_n dX0_passes_3 rfl rfl k_) ?_
  refine AX.map (fun _ k_ => AW.get ci0 0 (by decide) q229 dX0_passes_4 gX rfl rfl k_) ?_
  refine AX.map (fun _ k_ => AW.getN ci1 0 (by decide) q191 dX0_passes_7 gN rfl rfl k_) ?_
  refine AX.map (fun _ k_ => AW.iconst (v := 0) dX0_passes_10 (by decide) rfl k_) ?_
  refine AX.map (fun _ k_ => AW.iald dX0_passes_11 g514 (vp_in_iff.mpr (by decide)) (j := 0) (by decide) rfl k_) ?_
  refine AX.map (fun _ k_ => AW.icmp_ge (tgt := 106) dX0_passes_12 (by decide) rfl (fun c_ => by first | exact absurd c_ (loop_in (x := s.A 514 0) hk (by have := Vw.n7 hn; exact Nat.lt_of_le_of_lt this (by decide)) (Vw.nN hn)) | exact absurd (loop_in (x := s.A 514 0) hk (by have := Vw.n7 hn; exact Nat.lt_of_le_of_lt this (by decide)) (Vw.nN hn)) c_ | exact Bool.noConfusion (c_.symm.trans (loop_in (x := s.A 514 0) hk (by have := Vw.n7 hn; exact Nat.lt_of_le_of_lt this (by decide)) (Vw.nN hn)))) (fun _ => k_)) ?_
  refine AX.map (fun _ k_ => AW.aload_n dX0_passes_15 rfl rfl k_) ?_
  refine AX.map (fun _ k_ => AW.iload_n dX0_passes_16 rfl rfl k_) ?_
  refine AX.map (fun _ k_ => AW.callS (Y := mX0_isGone) (n := 2) (r_X0_isGone (s := ((s.setA 515 r).setA 620 N)) (nI k)) (by decide) (by decide) q864 q865 q138 q866 dX0_passes_17 (by decide +kernel) rfl rfl (Nat.le_of_ble_eq_true rfl) rfl k_) ?_
  refine AX.brF (fun _ kt_ kf_ => AW.if_eqB (tgt := 26) dX0_passes_20 (by decide) rfl kt_ kf_) (fun c20 => ?_) (fun c20 => ?_)
  · refine AX.map (fun _ k_ => AW.aload_n dX0_passes_26 rfl rfl k_) ?_
    refine AX.map (fun _ k_ => AW.iconst (v := 3) dX0_passes_27 (by decide) rfl k_) ?_
    refine AX.map (fun _ k_ => AW.iload_n dX0_passes_28 rfl rfl k_) ?_
    refine AX.map (fun _ k_ => AW.iadd dX0_passes_29 rfl k_) ?_
    refine AX.map (fun _ k_ => AW.iald dX0_passes_30 gR515 (in_row (v := (vwS (s.A 514) r)) hn hou (by decide) (by decide)) rfl rfl k_) ?_
    refine AX.map (fun _ k_ => AW.aload_n dX0_passes_31 rfl rfl k_) ?_
    refine AX.map (fun _ k_ => AW.callS (Y := mX0_date) (n := 1) (r_X0_date (s := ((s.setA 515 r).setA 620 N))) (by decide) (by decide) q870 q871 q138 q872 dX0_passes_32 (by decide +kernel) rfl rfl (Nat.le_of_ble_eq_true rfl) rfl k_) ?_
    refine AX.map (fun _ k_ => AW.callS (Y := mX0_has) (n := 2) (r_X0_has _ _) (by decide) (by decide) q867 q868 q138 q869 dX0_passes_35 (by decide +kernel) rfl rfl (Nat.le_of_ble_eq_true rfl) rfl k_) ?_
    refine AX.brF (fun _ kt_ kf_ => AW.if_eqB (tgt := 71) dX0_passes_38 (by decide) rfl kt_ kf_) (fun c38 => ?_) (fun c38 => ?_)
    · refine AX.map (fun _ k_ => AW.aload_n dX0_passes_71 rfl rfl k_) ?_
      refine AX.map (fun _ k_ => AW.bipush (v := 10) dX0_passes_72 (by decide) rfl k_) ?_
      refine AX.map (fun _ k_ => AW.iload_n dX0_passes_74 rfl rfl k_) ?_
      refine AX.map (fun _ k_ => AW.iadd dX0_passes_75 rfl k_) ?_
      refine AX.map (fun _ k_ => AW.sipush (v := 9999) dX0_passes_76 (by decide) rfl k_) ?_
      refine AX.map (fun _ k_ => AW.aload_n dX0_passes_79 rfl rfl k_) ?_
      refine AX.map (fun _ k_ => AW.bipush (v := 10) dX0_passes_80 (by decide) rfl k_) ?_
      refine AX.map (fun _ k_ => AW.iload_n dX0_passes_82 rfl rfl k_) ?_
      refine AX.map (fun _ k_ => AW.iadd dX0_passes_83 rfl k_) ?_
      refine AX.map (fun _ k_ => AW.iald dX0_passes_84 gR515 (in_row (v := (vwS (s.A 514) r)) hn hou (by decide) (by decide)) rfl rfl k_) ?_
      refine AX.map (fun _ k_ => AW.aload_n dX0_passes_85 rfl rfl k_) ?_
      refine AX.map (fun _ k_ => AW.aload_n dX0_passes_86 rfl rfl k_) ?_
      refine AX.map (fun _ k_ => AW.aload_n dX0_passes_87 rfl rfl k_) ?_
      refine AX.map (fun _ k_ => AW.iload_n dX0_passes_88 rfl rfl k_) ?_
      refine AX.map (fun _ k_ => AW.aload_n dX0_passes_89 rfl rfl k_) ?_
      refine AX.map (fun _ k_ => AW.iconst (v := 0) dX0_passes_90 (by decide) rfl k_) ?_
      refine AX.map (fun _ k_ => AW.iald dX0_passes_91 gR515 (vp_in_iff.mpr (by decide)) (j := 0) (by decide) rfl k_) ?_
      refine AX.map (fun _ k_ => AW.callV (Y := mX0_earnsBy) (n := 4) (r_X0_earnsBy (s := s.setA 515 r) hn hL (nI k) (r 0) hou) (by decide) (by decide) rfl gX q971 q973 qs32 q138 q974 dX0_passes_92 (by decide +kernel) rfl rfl (Nat.le_of_ble_eq_true rfl) rfl k_) ?_
      refine AX.map (fun _ k_ => AW.iadd dX0_passes_95 rfl k_) ?_
      refine AX.map (fun _ k_ => AW.mmin dX0_passes_96 q975 q452 q151 q453 (by decide) (Nat.le_of_ble_eq_true rfl) rfl k_) ?_
      refine AX.map (fun _ k_ => AW.iast dX0_passes_99 (by decide) gR515 (in_row (v := (vwS (s.A 514) r)) hn hou (by decide) (by decide)) rfl sR515 rfl k_) ?_
      refine AX.map (fun _ k_ => AW.iinc (v := 1) dX0_passes_100 rfl (by decide) rfl rfl rfl k_) ?_
      refine AX.map (fun _ k_ => AW.goto (tgt := 2) dX0_passes_103 (by decide) k_) ?_
      refine AX.hpE (h1 := hp ((s.setA 515 (pass1 L (s.A 514) r k)).setA 620 (nmS N (vwS (s.A 514) r) (nI k) (r 0)))) (by unfold pass1; rw [if_neg (by rw [show hasI (r 2) (nI k) = false from c20]; decide), if_neg (by rw [show hasI (r (cI (3 + nI k))) (r 0 % 20) = false from c38]; decide), ← earnX_e hX _ N]; rfl) ?_
      exact AX.lsE (by rw [nI_succ]; rfl) (K _)
    · refine AX.map (fun _ k_ => AW.aload_n dX0_passes_41 rfl rfl k_) ?_
      refine AX.map (fun _ k_ => AW.bipush (v := 10) dX0_passes_42 (by decide) rfl k_) ?_
      refine AX.map (fun _ k_ => AW.iload_n dX0_passes_44 rfl rfl k_) ?_
      refine AX.map (fun _ k_ => AW.iadd dX0_passes_45 rfl k_) ?_
      refine AX.map (fun _ k_ => AW.iconst (v := 0) dX0_passes_46 (by decide) rfl k_) ?_
      refine AX.map (fun _ k_ => AW.aload_n dX0_passes_47 rfl rfl k_) ?_
      refine AX.map (fun _ k_ => AW.bipush (v := 10) dX0_passes_48 (by decide) rfl k_) ?_
      refine AX.map (fun _ k_ => AW.iload_n dX0_passes_50 rfl rfl k_) ?_
      refine AX.map (fun _ k_ => AW.iadd dX0_passes_51 rfl k_) ?_
      refine AX.map (fun _ k_ => AW.iald dX0_passes_52 gR515 (in_row (v := (vwS (s.A 514) r)) hn hou (by decide) (by decide)) rfl rfl k_) ?_
      refine AX.map (fun _ k_ => AW.aload_n dX0_passes_53 rfl rfl k_) ?_
      refine AX.map (fun _ k_ => AW.aload_n dX0_passes_54 rfl rfl k_) ?_
      refine AX.map (fun _ k_ => AW.aload_n dX0_passes_55 rfl rfl k_) ?_
      refine AX.map (fun _ k_ => AW.iload_n dX0_passes_56 rfl rfl k_) ?_
      refine AX.map (fun _ k_ => AW.aload_n dX0_passes_57 rfl rfl k_) ?_
      refine AX.map (fun _ k_ => AW.iconst (v := 0) dX0_passes_58 (by decide) rfl k_) ?_
      refine AX.map (fun _ k_ => AW.iald dX0_passes_59 gR515 (vp_in_iff.mpr (by decide)) (j := 0) (by decide) rfl k_) ?_
      refine AX.map (fun _ k_ => AW.callV (Y := mX0_losesBy) (n := 4) (r_X0_losesBy (s := s.setA 515 r) hn hL (nI k) (r 0) hou) (by decide) (by decide) rfl gX q873 q875 qs26 q138 q876 dX0_passes_60 (by decide +kernel) rfl rfl (Nat.le_of_ble_eq_true rfl) rfl k_) ?_
      refine AX.map (fun _ k_ => AW.isub dX0_passes_63 rfl k_) ?_
      refine AX.map (fun _ k_ => AW.mmax dX0_passes_64 q970 q667 q151 q668 (by decide) (Nat.le_of_ble_eq_true rfl) rfl k_) ?_
      refine AX.map (fun _ k_ => AW.iast dX0_passes_67 (by decide) gR515 (in_row (v := (vwS (s.A 514) r)) hn hou (by decide) (by decide)) rfl sR515 rfl k_) ?_
      refine AX.map (fun _ k_ => AW.goto (tgt := 100) dX0_passes_68 (by decide) k_) ?_
      refine AX.map (fun _ k_ => AW.iinc (v := 1) dX0_passes_100 rfl (by decide) rfl rfl rfl k_) ?_
      refine AX.map (fun _ k_ => AW.goto (tgt := 2) dX0_passes_103 (by decide) k_) ?_
      refine AX.hpE (h1 := hp ((s.setA 515 (pass1 L (s.A 514) r k)).setA 620 (nmS N (vwS (s.A 514) r) (nI k) (r 0)))) (by unfold pass1; rw [if_neg (by rw [show hasI (r 2) (nI k) = false from c20]; decide), if_pos (show hasI (r (cI (3 + nI k))) (r 0 % 20) = true from c38), ← loseX_e hX _ N]; rfl) ?_
      exact AX.lsE (by rw [nI_succ]; rfl) (K _)
  · refine AX.map (fun _ k_ => AW.goto (tgt := 100) dX0_passes_23 (by decide) k_) ?_
    refine AX.map (fun _ k_ => AW.iinc (v := 1) dX0_passes_100 rfl (by decide) rfl rfl rfl k_) ?_
    refine AX.map (fun _ k_ => AW.goto (tgt := 2) dX0_passes_103 (by decide) k_) ?_
    refine AX.hpE (h1 := hp ((s.setA 515 (pass1 L (s.A 514) r k)).setA 620 N)) (by unfold pass1; rw [if_pos (show hasI (r 2) (nI k) = true from c20)]) ?_
    exact AX.lsE (by rw [nI_succ]; rfl) (K _)
theorem r_X0_passes {s : Sg} {N : Nat → Int32} (hn : (vwS (s.A 514) (s.A 515)).ok) {a : Nat} {L : Lw} (hL : LawT s.b a L) (hX : extL L) : RX (Q6 (s.setA 515 (passS L (s.A 514) (s.A 515)))) 63 mX0_passes [.ref 512, .ref a, .ref 515] (hp (s.setA 620 N)) none := by
  have e8 : nI 0 = (0 : Int32) := rfl
  unfold passS
  have e9 : s.A 514 0 ≤ nI (cI (s.A 514 0)) := by rw [show nI (cI (s.A 514 0)) = s.A 514 0 from nI_cI hn.1]; exact Int32.le_refl _
  have e7 : ∀ (R : Nat → Int32) (k : Nat), k < cI (s.A 514 0) → k < (vwS (s.A 514) R).n := fun R k h => h
  generalize cI (s.A 514 0) = m at e9 e7 ⊢
  refine RX.of rfl (Nat.le_of_ble_eq_true rfl) rfl ?_
  refine AX.map (fun _ k_ => AW.iconst (v := 0) dX0_passes_0 (by decide) rfl k_) ?_
  refine AX.map (fun _ k_ => AW.istore_n (i := 3) dX0_passes_1 rfl rfl (Nat.le_of_ble_eq_true rfl) rfl rfl k_) ?_
  refine AX.hpE (h1 := hp ((s.setA 515 (passR L (s.A 514) (s.A 515) 0)).setA 620 N)) (by show hp (s.setA 620 N) = hp ((s.setA 515 (s.A 515)).setA 620 N); rw [setA_id]) ?_
  refine AX.lsE (ls1 := [some (.ref 512), some (.ref a), some (.ref 515), some (.int (nI 0))]) (by rw [e8]; rfl) ?_
  refine loopUp (P := fun k => ∀ N, AX (Q6 (s.setA 515 (up (passR L (s.A 514) (s.A 515) m) 0 (passR L (s.A 514) (s.A 515) m 0 + 1)))) 63 mX0_passes (hp ((s.setA 515 (passR L (s.A 514) (s.A 515) k)).setA 620 N)) 2 [some (.ref 512), some (.ref a), some (.ref 515), some (.int (nI k))] [] (.inl none)) m ?_ ?_ 0 (Nat.zero_le _) N
  · intro N
    generalize passR L (s.A 514) (s.A 515) m = R
    refine AX.map (fun _ k_ => AW.iload_n dX0_passes_2 rfl rfl k_) ?_
    refine AX.map (fun _ k_ => AW.aload_n dX0_passes_3 rfl rfl k_) ?_
    refine AX.map (fun _ k_ => AW.get ci0 0 (by decide) q229 dX0_passes_4 gX rfl rfl k_) ?_
    refine AX.map (fun _ k_ => AW.getN ci1 0 (by decide) q191 dX0_passes_7 gN rfl rfl k_) ?_
    refine AX.map (fun _ k_ => AW.iconst (v := 0) dX0_passes_10 (by decide) rfl k_) ?_
    refine AX.map (fun _ k_ => AW.iald dX0_passes_11 g514 (vp_in_iff.mpr (by decide)) (j := 0) (by decide) rfl k_) ?_
    refine AX.map (fun _ k_ => AW.icmp_ge (tgt := 106) dX0_passes_12 (by decide) rfl (fun _ => k_) (fun c_ => by first | exact absurd c_ e9 | exact absurd e9 c_ | exact absurd c_ (not_not_intro e9) | exact Bool.noConfusion (c_.symm.trans e9))) ?_
    refine AX.map (fun _ k_ => AW.aload_n dX0_passes_106 rfl rfl k_) ?_
    refine AX.map (fun _ k_ => AW.iconst (v := 0) dX0_passes_107 (by decide) rfl k_) ?_
    refine AX.map (fun _ k_ => AW.dup2 dX0_passes_108 rfl rfl rfl k_) ?_
    refine AX.map (fun _ k_ => AW.iald dX0_passes_109 gR515 (vp_in_iff.mpr (by decide)) (j := 0) (by decide) rfl k_) ?_
    refine AX.map (fun _ k_ => AW.iconst (v := 1) dX0_passes_110 (by decide) rfl k_) ?_
    refine AX.map (fun _ k_ => AW.iadd dX0_passes_111 rfl k_) ?_
    refine AX.map (fun _ k_ => AW.iast dX0_passes_112 (by decide) gR515 (vp_in_iff.mpr (by decide)) (j := 0) (by decide) sR515 rfl k_) ?_
    refine ⟨hp ((s.setA 515 (up R 0 (R 0 + 1))).setA 620 N), ⟨N, rfl⟩, ?_⟩
    exact AW.vretE dX0_passes_113 rfl rfl rfl
  · intro k hk ihk N
    exact pass_step (r := passR L (s.A 514) (s.A 515) k) (ok_n hn) hL hX (e7 _ k hk) (fun N => ihk N)
theorem pass_step_t {Q : AH → Prop} {s : Sg} {r N : Nat → Int32} (hn : (vwS (s.A 514) r).ok) {a : Nat} {L : Lw} (hL : LawT s.b a L) (hX : extL L) {k : Nat} (hk : k < (vwS (s.A 514) r).n) (K : ∀ N, AX Q 63 mX0_passes (hp ((s.setA 621 (pass1 L (s.A 514) r k)).setA 620 N)) 2 [some (.ref 512), some (.ref a), some (.ref 621), some (.int (nI (k + 1)))] [] (.inl none)) : AX Q 63 mX0_passes (hp ((s.setA 621 r).setA 620 N)) 2 [some (.ref 512), some (.ref a), some (.ref 621), some (.int (nI k))] [] (.inl none) := by
  have hou : (vwS (s.A 514) r).hou (nI k) = true := Vw.hou_k hn hk
  refine AX.map (fun _ k_ => AW.iload_n dX0_passes_2 rfl rfl k_) ?_
  refine AX.map (fun _ k_ => AW.aload_n dX0_passes_3 rfl rfl k_) ?_
  refine AX.map (fun _ k_ => AW.get ci0 0 (by decide) q229 dX0_passes_4 gX rfl rfl k_) ?_
  refine AX.map (fun _ k_ => AW.getN ci1 0 (by decide) q191 dX0_passes_7 gN rfl rfl k_) ?_
  refine AX.map (fun _ k_ => AW.iconst (v := 0) dX0_passes_10 (by decide) rfl k_) ?_
  refine AX.map (fun _ k_ => AW.iald dX0_passes_11 g514 (vp_in_iff.mpr (by decide)) (j := 0) (by decide) rfl k_) ?_
  refine AX.map (fun _ k_ => AW.icmp_ge (tgt := 106) dX0_passes_12 (by decide) rfl (fun c_ => by first | exact absurd c_ (loop_in (x := s.A 514 0) hk (by have := Vw.n7 hn; exact Nat.lt_of_le_of_lt this (by decide)) (Vw.nN hn)) | exact absurd (loop_in (x := s.A 514 0) hk (by have := Vw.n7 hn; exact Nat.lt_of_le_of_lt this (by decide)) (Vw.nN hn)) c_ | exact Bool.noConfusion (c_.symm.trans (loop_in (x := s.A 514 0) hk (by have := Vw.n7 hn; exact Nat.lt_of_le_of_lt this (by decide)) (Vw.nN hn)))) (fun _ => k_)) ?_
  refine AX.map (fun _ k_ => AW.aload_n dX0_passes_15 rfl rfl k_) ?_
  refine AX.map (fun _ k_ => AW.iload_n dX0_passes_16 rfl rfl k_) ?_
  refine AX.map (fun _ k_ => AW.callS (Y := mX0_isGone) (n := 2) (r_X0_isGone_t (s := ((s.setA 621 r).setA 620 N)) (nI k)) (by decide) (by decide) q864 q865 q138 q866 dX0_passes_17 (by decide +kernel) rfl rfl (Nat.le_of_ble_eq_true rfl) rfl k_) ?_
  refine AX.brF (fun _ kt_ kf_ => AW.if_eqB (tgt := 26) dX0_passes_20 (by decide) rfl kt_ kf_) (fun c20 => ?_) (fun c20 => ?_)
  · refine AX.map (fun _ k_ => AW.aload_n dX0_passes_26 rfl rfl k_) ?_
    refine AX.map (fun _ k_ => AW.iconst (v := 3) dX0_passes_27 (by decide) rfl k_) ?_
    refine AX.map (fun _ k_ => AW.iload_n dX0_passes_28 rfl rfl k_) ?_
    refine AX.map (fun _ k_ => AW.iadd dX0_passes_29 rfl k_) ?_
    refine AX.map (fun _ k_ => AW.iald dX0_passes_30 gR621 (in_row (v := (vwS (s.A 514) r)) hn hou (by decide) (by decide)) rfl rfl k_) ?_
    refine AX.map (fun _ k_ => AW.aload_n dX0_passes_31 rfl rfl k_) ?_
    refine AX.map (fun _ k_ => AW.callS (Y := mX0_date) (n := 1) (r_X0_date_t (s := ((s.setA 621 r).setA 620 N))) (by decide) (by decide) q870 q871 q138 q872 dX0_passes_32 (by decide +kernel) rfl rfl (Nat.le_of_ble_eq_true rfl) rfl k_) ?_
    refine AX.map (fun _ k_ => AW.callS (Y := mX0_has) (n := 2) (r_X0_has _ _) (by decide) (by decide) q867 q868 q138 q869 dX0_passes_35 (by decide +kernel) rfl rfl (Nat.le_of_ble_eq_true rfl) rfl k_) ?_
    refine AX.brF (fun _ kt_ kf_ => AW.if_eqB (tgt := 71) dX0_passes_38 (by decide) rfl kt_ kf_) (fun c38 => ?_) (fun c38 => ?_)
    · refine AX.map (fun _ k_ => AW.aload_n dX0_passes_71 rfl rfl k_) ?_
      refine AX.map (fun _ k_ => AW.bipush (v := 10) dX0_passes_72 (by decide) rfl k_) ?_
      refine AX.map (fun _ k_ => AW.iload_n dX0_passes_74 rfl rfl k_) ?_
      refine AX.map (fun _ k_ => AW.iadd dX0_passes_75 rfl k_) ?_
      refine AX.map (fun _ k_ => AW.sipush (v := 9999) dX0_passes_76 (by decide) rfl k_) ?_
      refine AX.map (fun _ k_ => AW.aload_n dX0_passes_79 rfl rfl k_) ?_
      refine AX.map (fun _ k_ => AW.bipush (v := 10) dX0_passes_80 (by decide) rfl k_) ?_
      refine AX.map (fun _ k_ => AW.iload_n dX0_passes_82 rfl rfl k_) ?_
      refine AX.map (fun _ k_ => AW.iadd dX0_passes_83 rfl k_) ?_
      refine AX.map (fun _ k_ => AW.iald dX0_passes_84 gR621 (in_row (v := (vwS (s.A 514) r)) hn hou (by decide) (by decide)) rfl rfl k_) ?_
      refine AX.map (fun _ k_ => AW.aload_n dX0_passes_85 rfl rfl k_) ?_
      refine AX.map (fun _ k_ => AW.aload_n dX0_passes_86 rfl rfl k_) ?_
      refine AX.map (fun _ k_ => AW.aload_n dX0_passes_87 rfl rfl k_) ?_
      refine AX.map (fun _ k_ => AW.iload_n dX0_passes_88 rfl rfl k_) ?_
      refine AX.map (fun _ k_ => AW.aload_n dX0_passes_89 rfl rfl k_) ?_
      refine AX.map (fun _ k_ => AW.iconst (v := 0) dX0_passes_90 (by decide) rfl k_) ?_
      refine AX.map (fun _ k_ => AW.iald dX0_passes_91 gR621 (vp_in_iff.mpr (by decide)) (j := 0) (by decide) rfl k_) ?_
      refine AX.map (fun _ k_ => AW.callV (Y := mX0_earnsBy) (n := 4) (r_X0_earnsBy_t (s := s.setA 621 r) hn hL (nI k) (r 0) hou) (by decide) (by decide) rfl gX q971 q973 qs32 q138 q974 dX0_passes_92 (by decide +kernel) rfl rfl (Nat.le_of_ble_eq_true rfl) rfl k_) ?_
      refine AX.map (fun _ k_ => AW.iadd dX0_passes_95 rfl k_) ?_
      refine AX.map (fun _ k_ => AW.mmin dX0_passes_96 q975 q452 q151 q453 (by decide) (Nat.le_of_ble_eq_true rfl) rfl k_) ?_
      refine AX.map (fun _ k_ => AW.iast dX0_passes_99 (by decide) gR621 (in_row (v := (vwS (s.A 514) r)) hn hou (by decide) (by decide)) rfl sR621 rfl k_) ?_
      refine AX.map (fun _ k_ => AW.iinc (v := 1) dX0_passes_100 rfl (by decide) rfl rfl rfl k_) ?_
      refine AX.map (fun _ k_ => AW.goto (tgt := 2) dX0_passes_103 (by decide) k_) ?_
      refine AX.hpE (h1 := hp ((s.setA 621 (pass1 L (s.A 514) r k)).setA 620 (nmS N (vwS (s.A 514) r) (nI k) (r 0)))) (by unfold pass1; rw [if_neg (by rw [show hasI (r 2) (nI k) = false from c20]; decide), if_neg (by rw [show hasI (r (cI (3 + nI k))) (r 0 % 20) = false from c38]; decide), ← earnX_e hX _ N]; rfl) ?_
      exact AX.lsE (by rw [nI_succ]; rfl) (K _)
    · refine AX.map (fun _ k_ => AW.aload_n dX0_passes_41 rfl rfl k_) ?_
      refine AX.map (fun _ k_ => AW.bipush (v := 10) dX0_passes_42 (by decide) rfl k_) ?_
      refine AX.map (fun _ k_ => AW.iload_n dX0_passes_44 rfl rfl k_) ?_
      refine AX.map (fun _ k_ => AW.iadd dX0_passes_45 rfl k_) ?_
      refine AX.map (fun _ k_ => AW.iconst (v := 0) dX0_passes_46 (by decide) rfl k_) ?_
      refine AX.map (fun _ k_ => AW.aload_n dX0_passes_47 rfl rfl k_) ?_
      refine AX.map (fun _ k_ => AW.bipush (v := 10) dX0_passes_48 (by decide) rfl k_) ?_
      refine AX.map (fun _ k_ => AW.iload_n dX0_passes_50 rfl rfl k_) ?_
      refine AX.map (fun _ k_ => AW.iadd dX0_passes_51 rfl k_) ?_
      refine AX.map (fun _ k_ => AW.iald dX0_passes_52 gR621 (in_row (v := (vwS (s.A 514) r)) hn hou (by decide) (by decide)) rfl rfl k_) ?_
      refine AX.map (fun _ k_ => AW.aload_n dX0_passes_53 rfl rfl k_) ?_
      refine AX.map (fun _ k_ => AW.aload_n dX0_passes_54 rfl rfl k_) ?_
      refine AX.map (fun _ k_ => AW.aload_n dX0_passes_55 rfl rfl k_) ?_
      refine AX.map (fun _ k_ => AW.iload_n dX0_passes_56 rfl rfl k_) ?_
      refine AX.map (fun _ k_ => AW.aload_n dX0_passes_57 rfl rfl k_) ?_
      refine AX.map (fun _ k_ => AW.iconst (v := 0) dX0_passes_58 (by decide) rfl k_) ?_
      refine AX.map (fun _ k_ => AW.iald dX0_passes_59 gR621 (vp_in_iff.mpr (by decide)) (j := 0) (by decide) rfl k_) ?_
      refine AX.map (fun _ k_ => AW.callV (Y := mX0_losesBy) (n := 4) (r_X0_losesBy_t (s := s.setA 621 r) hn hL (nI k) (r 0) hou) (by decide) (by decide) rfl gX q873 q875 qs26 q138 q876 dX0_passes_60 (by decide +kernel) rfl rfl (Nat.le_of_ble_eq_true rfl) rfl k_) ?_
      refine AX.map (fun _ k_ => AW.isub dX0_passes_63 rfl k_) ?_
      refine AX.map (fun _ k_ => AW.mmax dX0_passes_64 q970 q667 q151 q668 (by decide) (Nat.le_of_ble_eq_true rfl) rfl k_) ?_
      refine AX.map (fun _ k_ => AW.iast dX0_passes_67 (by decide) gR621 (in_row (v := (vwS (s.A 514) r)) hn hou (by decide) (by decide)) rfl sR621 rfl k_) ?_
      refine AX.map (fun _ k_ => AW.goto (tgt := 100) dX0_passes_68 (by decide) k_) ?_
      refine AX.map (fun _ k_ => AW.iinc (v := 1) dX0_passes_100 rfl (by decide) rfl rfl rfl k_) ?_
      refine AX.map (fun _ k_ => AW.goto (tgt := 2) dX0_passes_103 (by decide) k_) ?_
      refine AX.hpE (h1 := hp ((s.setA 621 (pass1 L (s.A 514) r k)).setA 620 (nmS N (vwS (s.A 514) r) (nI k) (r 0)))) (by unfold pass1; rw [if_neg (by rw [show hasI (r 2) (nI k) = false from c20]; decide), if_pos (show hasI (r (cI (3 + nI k))) (r 0 % 20) = true from c38), ← loseX_e hX _ N]; rfl) ?_
      exact AX.lsE (by rw [nI_succ]; rfl) (K _)
  · refine AX.map (fun _ k_ => AW.goto (tgt := 100) dX0_passes_23 (by decide) k_) ?_
    refine AX.map (fun _ k_ => AW.iinc (v := 1) dX0_passes_100 rfl (by decide) rfl rfl rfl k_) ?_
    refine AX.map (fun _ k_ => AW.goto (tgt := 2) dX0_passes_103 (by decide) k_) ?_
    refine AX.hpE (h1 := hp ((s.setA 621 (pass1 L (s.A 514) r k)).setA 620 N)) (by unfold pass1; rw [if_pos (show hasI (r 2) (nI k) = true from c20)]) ?_
    exact AX.lsE (by rw [nI_succ]; rfl) (K _)
theorem r_X0_passes_t {s : Sg} {N : Nat → Int32} (hn : (vwS (s.A 514) (s.A 621)).ok) {a : Nat} {L : Lw} (hL : LawT s.b a L) (hX : extL L) : RX (Q6 (s.setA 621 (passS L (s.A 514) (s.A 621)))) 63 mX0_passes [.ref 512, .ref a, .ref 621] (hp (s.setA 620 N)) none := by
  have e8 : nI 0 = (0 : Int32) := rfl
  unfold passS
  have e9 : s.A 514 0 ≤ nI (cI (s.A 514 0)) := by rw [show nI (cI (s.A 514 0)) = s.A 514 0 from nI_cI hn.1]; exact Int32.le_refl _
  have e7 : ∀ (R : Nat → Int32) (k : Nat), k < cI (s.A 514 0) → k < (vwS (s.A 514) R).n := fun R k h => h
  generalize cI (s.A 514 0) = m at e9 e7 ⊢
  refine RX.of rfl (Nat.le_of_ble_eq_true rfl) rfl ?_
  refine AX.map (fun _ k_ => AW.iconst (v := 0) dX0_passes_0 (by decide) rfl k_) ?_
  refine AX.map (fun _ k_ => AW.istore_n (i := 3) dX0_passes_1 rfl rfl (Nat.le_of_ble_eq_true rfl) rfl rfl k_) ?_
  refine AX.hpE (h1 := hp ((s.setA 621 (passR L (s.A 514) (s.A 621) 0)).setA 620 N)) (by show hp (s.setA 620 N) = hp ((s.setA 621 (s.A 621)).setA 620 N); rw [setA_id]) ?_
  refine AX.lsE (ls1 := [some (.ref 512), some (.ref a), some (.ref 621), some (.int (nI 0))]) (by rw [e8]; rfl) ?_
  refine loopUp (P := fun k => ∀ N, AX (Q6 (s.setA 621 (up (passR L (s.A 514) (s.A 621) m) 0 (passR L (s.A 514) (s.A 621) m 0 + 1)))) 63 mX0_passes (hp ((s.setA 621 (passR L (s.A 514) (s.A 621) k)).setA 620 N)) 2 [some (.ref 512), some (.ref a), some (.ref 621), some (.int (nI k))] [] (.inl none)) m ?_ ?_ 0 (Nat.zero_le _) N
  · intro N
    generalize passR L (s.A 514) (s.A 621) m = R
    refine AX.map (fun _ k_ => AW.iload_n dX0_passes_2 rfl rfl k_) ?_
    refine AX.map (fun _ k_ => AW.aload_n dX0_passes_3 rfl rfl k_) ?_
    refine AX.map (fun _ k_ => AW.get ci0 0 (by decide) q229 dX0_passes_4 gX rfl rfl k_) ?_
    refine AX.map (fun _ k_ => AW.getN ci1 0 (by decide) q191 dX0_passes_7 gN rfl rfl k_) ?_
    refine AX.map (fun _ k_ => AW.iconst (v := 0) dX0_passes_10 (by decide) rfl k_) ?_
    refine AX.map (fun _ k_ => AW.iald dX0_passes_11 g514 (vp_in_iff.mpr (by decide)) (j := 0) (by decide) rfl k_) ?_
    refine AX.map (fun _ k_ => AW.icmp_ge (tgt := 106) dX0_passes_12 (by decide) rfl (fun _ => k_) (fun c_ => by first | exact absurd c_ e9 | exact absurd e9 c_ | exact absurd c_ (not_not_intro e9) | exact Bool.noConfusion (c_.symm.trans e9))) ?_
    refine AX.map (fun _ k_ => AW.aload_n dX0_passes_106 rfl rfl k_) ?_
    refine AX.map (fun _ k_ => AW.iconst (v := 0) dX0_passes_107 (by decide) rfl k_) ?_
    refine AX.map (fun _ k_ => AW.dup2 dX0_passes_108 rfl rfl rfl k_) ?_
    refine AX.map (fun _ k_ => AW.iald dX0_passes_109 gR621 (vp_in_iff.mpr (by decide)) (j := 0) (by decide) rfl k_) ?_
    refine AX.map (fun _ k_ => AW.iconst (v := 1) dX0_passes_110 (by decide) rfl k_) ?_
    refine AX.map (fun _ k_ => AW.iadd dX0_passes_111 rfl k_) ?_
    refine AX.map (fun _ k_ => AW.iast dX0_passes_112 (by decide) gR621 (vp_in_iff.mpr (by decide)) (j := 0) (by decide) sR621 rfl k_) ?_
    refine ⟨hp ((s.setA 621 (up R 0 (R 0 + 1))).setA 620 N), ⟨N, rfl⟩, ?_⟩
    exact AW.vretE dX0_passes_113 rfl rfl rfl
  · intro k hk ihk N
    exact pass_step_t (r := passR L (s.A 514) (s.A 621) k) (ok_n hn) hL hX (e7 _ k hk) (fun N => ihk N)
