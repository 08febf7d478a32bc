/-! SYSTEM 4: steps, what is told, undo (printed by tools/x4.py) -/
set_option maxRecDepth 100000
/-- the first k of the steps dropped by one -/
def shf (s : Sg) (k : Nat) : Sg := (fun j => if 535 ≤ j ∧ j < 535 + k then mv0 (s.A j) (s.A (j + 1)) 145 else s.A j, s.2)
theorem shf_0 {s : Sg} : shf s 0 = s := by
  show ((fun j => if 535 ≤ j ∧ j < 535 + 0 then mv0 (s.A j) (s.A (j + 1)) 145 else s.A j), s.2) = s
  have : (fun j => if 535 ≤ j ∧ j < 535 + 0 then mv0 (s.A j) (s.A (j + 1)) 145 else s.A j) = s.A := by
    funext j
    rw [if_neg (by omega)]
  rw [this]
  rfl
theorem shf_out {s : Sg} {k j : Nat} (h : j < 535 ∨ 535 + k ≤ j) : (shf s k).A j = s.A j := by
  show (if 535 ≤ j ∧ j < 535 + k then _ else _) = _
  rw [if_neg (by omega)]
theorem shf_step {s : Sg} {k : Nat} : (shf s k).setA (535 + k) (mv0 ((shf s k).A (535 + k)) ((shf s k).A (535 + (k + 1))) 145) = shf s (k + 1) := by
  rw [shf_out (j := 535 + k) (by omega), shf_out (j := 535 + (k + 1)) (by omega)]
  refine Prod.ext (funext fun j => ?_) rfl
  show up (shf s k).A (535 + k) _ j = (if 535 ≤ j ∧ j < 535 + (k + 1) then mv0 (s.A j) (s.A (j + 1)) 145 else s.A j)
  by_cases h : j = 535 + k
  · subst h
    rw [up_eq, if_pos (by omega)]
    rfl
  · rw [up_ne h]
    show (if 535 ≤ j ∧ j < 535 + k then _ else _) = _
    by_cases h2 : 535 ≤ j ∧ j < 535 + k
    · rw [if_pos h2, if_pos (by omega)]
    · rw [if_neg h2, if_neg (by omega)]
/-- the row laid as step c -/
def layS (s : Sg) (c : Nat) : Sg := (s.setA (535 + c) (mv0 (s.A (535 + c)) (s.A 515) 145)).setA 514 (up (s.A 514) 3 (nI c + 1))
def keepS (s : Sg) (c : Nat) : Sg := if c = 30 then layS ((shf s 29).setA 514 (up (s.A 514) 3 (nI 30 - 1))) 29 else layS s c
theorem xI_pred {k : Nat} : nI (k + 1) - 1 = nI k := by rw [nI_succ, Int32.add_sub_cancel]
theorem sA_ne {s : Sg} {k j : Nat} {f : Nat → Int32} (h : j ≠ k) : (s.setA k f).A j = s.A j := up_ne h
theorem sA_eq {s : Sg} {k : Nat} {f : Nat → Int32} : (s.setA k f).A k = f := up_eq
/-- v laid at place a of the first k steps -/
def telS (s : Sg) (a : Nat) (v : Int32) (k : Nat) : Sg := (fun j => if 535 ≤ j ∧ j < 535 + k then up (s.A j) a v else s.A j, s.2)
theorem telS_0 {s : Sg} {a : Nat} {v : Int32} : telS s a v 0 = s := by
  show ((fun j => if 535 ≤ j ∧ j < 535 + 0 then up (s.A j) a v else s.A j), s.2) = s
  have : (fun j => if 535 ≤ j ∧ j < 535 + 0 then up (s.A j) a v else s.A j) = s.A := by
    funext j
    rw [if_neg (by omega)]
  rw [this]
  rfl
theorem telS_out {s : Sg} {a : Nat} {v : Int32} {k j : Nat} (h : j < 535 ∨ 535 + k ≤ j) : (telS s a v k).A j = s.A j := by
  show (if 535 ≤ j ∧ j < 535 + k then _ else _) = _
  rw [if_neg (by omega)]
theorem telS_step {s : Sg} {a : Nat} {v : Int32} {k : Nat} : (telS s a v k).setA (535 + k) (up ((telS s a v k).A (535 + k)) a v) = telS s a v (k + 1) := by
  rw [telS_out (j := 535 + k) (by omega)]
  refine Prod.ext (funext fun j => ?_) rfl
  show up (telS s a v k).A (535 + k) _ j = (if 535 ≤ j ∧ j < 535 + (k + 1) then up (s.A j) a v else s.A j)
  by_cases h : j = 535 + k
  · subst h
    rw [up_eq, if_pos (by omega)]
  · rw [up_ne h]
    show (if 535 ≤ j ∧ j < 535 + k then _ else _) = _
    by_cases h2 : 535 ≤ j ∧ j < 535 + k
    · rw [if_pos h2, if_pos (by omega)]
    · rw [if_neg h2, if_neg (by omega)]
theorem nI_ne {a b : Nat} (ha : a < 2147483648) (hb : b < 2147483648) (h : a ≠ b) : ¬ nI a = nI b := fun q => h (by have := congrArg Int32.toInt q; rw [nI_t ha, nI_t hb] at this; omega)
theorem r_X1_keeps_f {s : Sg} (c : Nat) (hc : s.A 514 3 = nI c) (h30 : c < 30) : Run 3 mX1_keeps [.ref 513] (hp s) (.inl none) (hp (keepS s c)) := by
  refine Run.of rfl (Nat.le_of_ble_eq_true rfl) rfl ?_
  refine AW.aload_n dX1_keeps_0 rfl rfl ?_
  refine AW.get ci1 0 (by decide) q190 dX1_keeps_1 gN rfl rfl ?_
  refine AW.iconst (v := 3) dX1_keeps_4 (by decide) rfl ?_
  refine AW.iald dX1_keeps_5 g514 (vp_in_iff.mpr (by decide)) (j := 3) (by decide) rfl ?_
  refine AW.bipush (v := 30) dX1_keeps_6 (by decide) rfl ?_
  refine AW.icmp_ne (tgt := 52) dX1_keeps_8 (by decide) rfl (fun _ => ?_) (fun c_ => by first | exact absurd c_ (by rw [hc]; exact (nI_ne (b := 30) (by omega) (by omega) (by omega))) | exact absurd (by rw [hc]; exact (nI_ne (b := 30) (by omega) (by omega) (by omega))) c_ | exact absurd c_ (not_not_intro (by rw [hc]; exact (nI_ne (b := 30) (by omega) (by omega) (by omega)))) | exact Bool.noConfusion (c_.symm.trans (by rw [hc]; exact (nI_ne (b := 30) (by omega) (by omega) (by omega)))))
  refine AW.aload_n dX1_keeps_52 rfl rfl ?_
  refine AW.get ci1 1 (by decide) q192 dX1_keeps_53 gN rfl rfl ?_
  refine AW.aload_n dX1_keeps_56 rfl rfl ?_
  refine AW.get ci1 4 (by decide) q198 dX1_keeps_57 gN rfl rfl ?_
  refine AW.aload_n dX1_keeps_60 rfl rfl ?_
  refine AW.get ci1 0 (by decide) q190 dX1_keeps_61 gN rfl rfl ?_
  refine AW.iconst (v := 3) dX1_keeps_64 (by decide) rfl ?_
  refine AW.iald dX1_keeps_65 g514 (vp_in_iff.mpr (by decide)) (j := 3) (by decide) rfl ?_
  refine AW.aald dX1_keeps_66 g534 rfl rfl (by rw [hc]; exact xI_in (n := 30) h30 (by decide)) (j := c) (by rw [hc]; exact nI_cl (by omega)) rfl ?_
  refine AW.callS (Y := mX1_copy) (n := 2) (r_X1_copy (h2 := hp (s.setA (535 + c) (mv0 (s.A (535 + c)) (s.A 515) 145))) g515 (by omega) (rowg (r535 c (by omega))) (Nat.le_refl _) (by decide) (rowset (r535 c (by omega)) rfl)) (by decide) (by decide) q220 q221 q139 q222 dX1_keeps_67 (by decide +kernel) rfl rfl (Nat.le_of_ble_eq_true rfl) rfl ?_
  refine AW.aload_n dX1_keeps_70 rfl rfl ?_
  refine AW.get ci1 0 (by decide) q190 dX1_keeps_71 gN rfl rfl ?_
  refine AW.iconst (v := 3) dX1_keeps_74 (by decide) rfl ?_
  refine AW.dup2 dX1_keeps_75 rfl rfl rfl ?_
  refine AW.iald dX1_keeps_76 g514 (vp_in_iff.mpr (by decide)) (j := 3) (by decide) rfl ?_
  refine AW.iconst (v := 1) dX1_keeps_77 (by decide) rfl ?_
  refine AW.iadd dX1_keeps_78 rfl ?_
  refine AW.iast dX1_keeps_79 (by decide) g514 (vp_in_iff.mpr (by decide)) (j := 3) (by decide) s514 rfl ?_
  have e : (s.setA (535 + c) (mv0 (s.A (535 + c)) (s.A 515) 145)).A 514 = s.A 514 := up_ne (by omega)
  exact AW.vretE dX1_keeps_80 rfl rfl (congrArg hp (by unfold keepS layS; rw [if_neg (by omega), e, hc]))
theorem r_X1_keeps_t {s : Sg} (hc : s.A 514 3 = nI 30) : Run 3 mX1_keeps [.ref 513] (hp s) (.inl none) (hp (keepS s 30)) := by
  refine Run.of rfl (Nat.le_of_ble_eq_true rfl) rfl ?_
  refine AW.aload_n dX1_keeps_0 rfl rfl ?_
  refine AW.get ci1 0 (by decide) q190 dX1_keeps_1 gN rfl rfl ?_
  refine AW.iconst (v := 3) dX1_keeps_4 (by decide) rfl ?_
  refine AW.iald dX1_keeps_5 g514 (vp_in_iff.mpr (by decide)) (j := 3) (by decide) rfl ?_
  refine AW.bipush (v := 30) dX1_keeps_6 (by decide) rfl ?_
  refine AW.icmp_ne (tgt := 52) dX1_keeps_8 (by decide) rfl (fun c_ => by first | exact absurd c_ (not_not_intro hc) | exact absurd (not_not_intro hc) c_ | exact Bool.noConfusion (c_.symm.trans (not_not_intro hc))) (fun _ => ?_)
  refine AW.iconst (v := 1) dX1_keeps_11 (by decide) rfl ?_
  refine AW.istore_n (i := 1) dX1_keeps_12 rfl rfl (Nat.le_of_ble_eq_true rfl) rfl rfl ?_
  refine AW.hp (h2 := hp (shf s 0)) (by rw [shf_0]) ?_
  refine loopUp (P := fun k => AW 3 mX1_keeps (hp (shf s k)) 13 [some (.ref 513), some (.int (nI (k + 1)))] [] (.inl none) (hp (keepS s 30))) 29 ?_ ?_ 0 (by first | exact Nat.zero_le _ | omega)
  · have e9 : (shf s 29).A 514 = s.A 514 := shf_out (by omega)
    refine AW.iload_n dX1_keeps_13 rfl rfl ?_
    refine AW.bipush (v := 30) dX1_keeps_14 (by decide) rfl ?_
    refine AW.icmp_ge (tgt := 42) dX1_keeps_16 (by decide) rfl (fun _ => ?_) (fun c_ => by first | exact absurd c_ (by decide) | exact absurd (by decide) c_ | exact absurd c_ (not_not_intro (by decide)) | exact Bool.noConfusion (c_.symm.trans (by decide)))
    refine AW.aload_n dX1_keeps_42 rfl rfl ?_
    refine AW.get ci1 0 (by decide) q190 dX1_keeps_43 gN rfl rfl ?_
    refine AW.iconst (v := 3) dX1_keeps_46 (by decide) rfl ?_
    refine AW.dup2 dX1_keeps_47 rfl rfl rfl ?_
    refine AW.iald dX1_keeps_48 g514 (vp_in_iff.mpr (by decide)) (j := 3) (by decide) rfl ?_
    refine AW.iconst (v := 1) dX1_keeps_49 (by decide) rfl ?_
    refine AW.isub dX1_keeps_50 rfl ?_
    refine AW.iast dX1_keeps_51 (by decide) g514 (vp_in_iff.mpr (by decide)) (j := 3) (by decide) s514 rfl ?_
    refine AW.hp (h2 := hp ((shf s 29).setA 514 (up (s.A 514) 3 (nI 30 - 1)))) (by rw [e9, hc]) ?_
    refine AW.aload_n dX1_keeps_52 rfl rfl ?_
    refine AW.get ci1 1 (by decide) q192 dX1_keeps_53 gN rfl rfl ?_
    refine AW.aload_n dX1_keeps_56 rfl rfl ?_
    refine AW.get ci1 4 (by decide) q198 dX1_keeps_57 gN rfl rfl ?_
    refine AW.aload_n dX1_keeps_60 rfl rfl ?_
    refine AW.get ci1 0 (by decide) q190 dX1_keeps_61 gN rfl rfl ?_
    refine AW.iconst (v := 3) dX1_keeps_64 (by decide) rfl ?_
    refine AW.iald dX1_keeps_65 g514 (vp_in_iff.mpr (by decide)) (j := 3) (by decide) rfl ?_
    refine AW.aald dX1_keeps_66 g534 rfl rfl (show vp_in (nI 30 - 1) 30 from vp_in_iff.mpr (by decide)) (j := 29) (show (nI 30 - 1).toNatClampNeg = 29 by decide) rfl ?_
    refine AW.callS (Y := mX1_copy) (n := 2) (r_X1_copy (h2 := hp (((shf s 29).setA 514 (up (s.A 514) 3 (nI 30 - 1))).setA (535 + 29) (mv0 (((shf s 29).setA 514 (up (s.A 514) 3 (nI 30 - 1))).A (535 + 29)) (((shf s 29).setA 514 (up (s.A 514) 3 (nI 30 - 1))).A 515) 145))) g515 (by omega) (rowg (r535 29 (by omega))) (Nat.le_refl _) (by decide) (rowset (r535 29 (by omega)) rfl)) (by decide) (by decide) q220 q221 q139 q222 dX1_keeps_67 (by decide +kernel) rfl rfl (Nat.le_of_ble_eq_true rfl) rfl ?_
    refine AW.aload_n dX1_keeps_70 rfl rfl ?_
    refine AW.get ci1 0 (by decide) q190 dX1_keeps_71 gN rfl rfl ?_
    refine AW.iconst (v := 3) dX1_keeps_74 (by decide) rfl ?_
    refine AW.dup2 dX1_keeps_75 rfl rfl rfl ?_
    refine AW.iald dX1_keeps_76 g514 (vp_in_iff.mpr (by decide)) (j := 3) (by decide) rfl ?_
    refine AW.iconst (v := 1) dX1_keeps_77 (by decide) rfl ?_
    refine AW.iadd dX1_keeps_78 rfl ?_
    refine AW.iast dX1_keeps_79 (by decide) g514 (vp_in_iff.mpr (by decide)) (j := 3) (by decide) s514 rfl ?_
    have e : (((shf s 29).setA 514 (up (s.A 514) 3 (nI 30 - 1))).setA (535 + 29) (mv0 (((shf s 29).setA 514 (up (s.A 514) 3 (nI 30 - 1))).A (535 + 29)) (((shf s 29).setA 514 (up (s.A 514) 3 (nI 30 - 1))).A 515) 145)).A 514 = ((shf s 29).setA 514 (up (s.A 514) 3 (nI 30 - 1))).A 514 := sA_ne (by decide)
    have e3 : ((shf s 29).setA 514 (up (s.A 514) 3 (nI 30 - 1))).A 514 3 = nI 29 := (up_eq (f := s.A 514) (k := 3)).trans (xI_pred (k := 29))
    exact AW.vretE dX1_keeps_80 rfl rfl (congrArg hp (by unfold keepS layS; rw [if_pos rfl, e, e3]))
  · intro k hk ihk
    refine AW.iload_n dX1_keeps_13 rfl rfl ?_
    refine AW.bipush (v := 30) dX1_keeps_14 (by decide) rfl ?_
    refine AW.icmp_ge (tgt := 42) dX1_keeps_16 (by decide) rfl (fun c_ => by first | exact absurd c_ (Int32.not_le.mpr ((xI_lt (i := k + 1) (j := 30) (by omega) (by omega)).mpr (by omega))) | exact absurd (Int32.not_le.mpr ((xI_lt (i := k + 1) (j := 30) (by omega) (by omega)).mpr (by omega))) c_ | exact Bool.noConfusion (c_.symm.trans (Int32.not_le.mpr ((xI_lt (i := k + 1) (j := 30) (by omega) (by omega)).mpr (by omega))))) (fun _ => ?_)
    refine AW.aload_n dX1_keeps_19 rfl rfl ?_
    refine AW.get ci1 4 (by decide) q198 dX1_keeps_20 gN rfl rfl ?_
    refine AW.iload_n dX1_keeps_23 rfl rfl ?_
    refine AW.aald dX1_keeps_24 g534 rfl rfl (xI_in (k := k + 1) (n := 30) (by omega) (by decide)) (nI_cl (k := k + 1) (by omega)) rfl ?_
    refine AW.aload_n dX1_keeps_25 rfl rfl ?_
    refine AW.get ci1 4 (by decide) q198 dX1_keeps_26 gN rfl rfl ?_
    refine AW.iload_n dX1_keeps_29 rfl rfl ?_
    refine AW.iconst (v := 1) dX1_keeps_30 (by decide) rfl ?_
    refine AW.isub dX1_keeps_31 rfl ?_
    refine AW.aald dX1_keeps_32 g534 rfl rfl (by rw [xI_pred]; exact xI_in (k := k) (n := 30) (by omega) (by decide)) (j := k) (by rw [xI_pred]; exact nI_cl (k := k) (by omega)) rfl ?_
    refine AW.callS (Y := mX1_copy) (n := 2) (r_X1_copy (h2 := hp (shf s (k + 1))) (rowg (r535 (k + 1) (by omega))) (by omega) (rowg (r535 k (by omega))) (Nat.le_refl _) (by decide) (rowset (r535 k (by omega)) shf_step)) (by decide) (by decide) q220 q221 q139 q222 dX1_keeps_33 (by decide +kernel) rfl rfl (Nat.le_of_ble_eq_true rfl) rfl ?_
    refine AW.iinc (v := 1) dX1_keeps_36 rfl (by decide) rfl rfl rfl ?_
    refine AW.goto (tgt := 13) dX1_keeps_39 (by decide) ?_
    exact AW.ls (by rw [nI_succ (k + 1)]; rfl) ihk
theorem r_X1_tells {s : Sg} (c : Nat) (hc : s.A 514 3 = nI c) (h30 : c ≤ 30) (a v : Int32) (ha : vp_in a 145) : Run 1 mX1_tells [.ref 513, .int a, .int v] (hp s) (.inl none) (hp (telS (s.setA 515 (up (s.A 515) (cI a) v)) (cI a) v c)) := by
  refine Run.of rfl (Nat.le_of_ble_eq_true rfl) rfl ?_
  refine AW.aload_n dX1_tells_0 rfl rfl ?_
  refine AW.get ci1 1 (by decide) q192 dX1_tells_1 gN rfl rfl ?_
  refine AW.iload_n dX1_tells_4 rfl rfl ?_
  refine AW.iload_n dX1_tells_5 rfl rfl ?_
  refine AW.iast dX1_tells_6 (by decide) g515 ha rfl s515 rfl ?_
  refine AW.iconst (v := 0) dX1_tells_7 (by decide) rfl ?_
  refine AW.istore_n (i := 3) dX1_tells_8 rfl rfl (Nat.le_of_ble_eq_true rfl) rfl rfl ?_
  refine AW.hp (h2 := hp (telS (s.setA 515 (up (s.A 515) (cI a) v)) (cI a) v 0)) (by rw [telS_0]) ?_
  refine loopUp (P := fun k => AW 1 mX1_tells (hp (telS (s.setA 515 (up (s.A 515) (cI a) v)) (cI a) v k)) 9 [some (.ref 513), some (.int a), some (.int v), some (.int (nI k))] [] (.inl none) (hp (telS (s.setA 515 (up (s.A 515) (cI a) v)) (cI a) v c))) c ?_ ?_ 0 (by first | exact Nat.zero_le _ | omega)
  · have ec : (telS (s.setA 515 (up (s.A 515) (cI a) v)) (cI a) v c).A 514 3 = nI c := by rw [telS_out (by omega)]; exact hc
    refine AW.iload_n dX1_tells_9 rfl rfl ?_
    refine AW.aload_n dX1_tells_10 rfl rfl ?_
    refine AW.get ci1 0 (by decide) q190 dX1_tells_11 gN rfl rfl ?_
    refine AW.iconst (v := 3) dX1_tells_14 (by decide) rfl ?_
    refine AW.iald dX1_tells_15 g514 (vp_in_iff.mpr (by decide)) (j := 3) (by decide) rfl ?_
    refine AW.icmp_ge (tgt := 34) dX1_tells_16 (by decide) rfl (fun _ => ?_) (fun c_ => by first | exact absurd c_ (by rw [ec]; exact (xI_le (by omega) (by omega)).mpr (Nat.le_refl _)) | exact absurd (by rw [ec]; exact (xI_le (by omega) (by omega)).mpr (Nat.le_refl _)) c_ | exact absurd c_ (not_not_intro (by rw [ec]; exact (xI_le (by omega) (by omega)).mpr (Nat.le_refl _))) | exact Bool.noConfusion (c_.symm.trans (by rw [ec]; exact (xI_le (by omega) (by omega)).mpr (Nat.le_refl _))))
    exact AW.vretE dX1_tells_34 rfl rfl rfl
  · intro k hk ihk
    have ec : (telS (s.setA 515 (up (s.A 515) (cI a) v)) (cI a) v k).A 514 3 = nI c := by rw [telS_out (by omega)]; exact hc
    refine AW.iload_n dX1_tells_9 rfl rfl ?_
    refine AW.aload_n dX1_tells_10 rfl rfl ?_
    refine AW.get ci1 0 (by decide) q190 dX1_tells_11 gN rfl rfl ?_
    refine AW.iconst (v := 3) dX1_tells_14 (by decide) rfl ?_
    refine AW.iald dX1_tells_15 g514 (vp_in_iff.mpr (by decide)) (j := 3) (by decide) rfl ?_
    refine AW.icmp_ge (tgt := 34) dX1_tells_16 (by decide) rfl (fun c_ => by first | exact absurd c_ (by rw [ec]; exact Int32.not_le.mpr ((xI_lt (by omega) (by omega)).mpr hk)) | exact absurd (by rw [ec]; exact Int32.not_le.mpr ((xI_lt (by omega) (by omega)).mpr hk)) c_ | exact Bool.noConfusion (c_.symm.trans (by rw [ec]; exact Int32.not_le.mpr ((xI_lt (by omega) (by omega)).mpr hk)))) (fun _ => ?_)
    refine AW.aload_n dX1_tells_19 rfl rfl ?_
    refine AW.get ci1 4 (by decide) q198 dX1_tells_20 gN rfl rfl ?_
    refine AW.iload_n dX1_tells_23 rfl rfl ?_
    refine AW.aald dX1_tells_24 g534 rfl rfl (xI_in (k := k) (n := 30) (by omega) (by decide)) (nI_cl (k := k) (by omega)) rfl ?_
    refine AW.iload_n dX1_tells_25 rfl rfl ?_
    refine AW.iload_n dX1_tells_26 rfl rfl ?_
    refine AW.iast dX1_tells_27 (by omega) (rowg (r535 k (by omega))) ha rfl (rowset (r535 k (by omega)) telS_step) rfl ?_
    refine AW.iinc (v := 1) dX1_tells_28 rfl (by decide) rfl rfl rfl ?_
    refine AW.goto (tgt := 9) dX1_tells_31 (by decide) ?_
    exact AW.ls (by rw [nI_succ]; rfl) ihk
theorem r_X1_adds_seen {s : Sg} {a : Nat} {f : Nat → Int32} (c : Nat) (hc : s.A 514 4 = nI c) (h8 : c < 8) (gv : (hp s).g a = some (ia 3 f)) : Run 3 mX1_adds [.ref 513, .ref 516, .int 4, .ref a] (hp s) (.inl (some (.int (nI c + 1)))) (hp ((s.setA (517 + c) (mv0 (s.A (517 + c)) f 3)).setA 514 (up (s.A 514) 4 (nI c + 1)))) := by
  refine Run.of rfl (Nat.le_of_ble_eq_true rfl) rfl ?_
  refine AW.aload_n dX1_adds_0 rfl rfl ?_
  refine AW.aload_n dX1_adds_1 rfl rfl ?_
  refine AW.aload_n dX1_adds_2 rfl rfl ?_
  refine AW.get ci1 0 (by decide) q190 dX1_adds_3 gN rfl rfl ?_
  refine AW.iload_n dX1_adds_6 rfl rfl ?_
  refine AW.iald dX1_adds_7 g514 (vp_in_iff.mpr (by decide)) (j := 4) (by decide) rfl ?_
  refine AW.aald dX1_adds_8 g516 rfl rfl (by rw [hc]; exact xI_in (n := 8) h8 (by decide)) (j := c) (by show (s.A 514 4).toNatClampNeg = c; rw [hc]; exact nI_cl (by omega)) rfl ?_
  refine AW.callS (Y := mX1_copy) (n := 2) (r_X1_copy (h2 := hp (s.setA (517 + c) (mv0 (s.A (517 + c)) f 3))) gv (by omega) (rowg (r517 c (by omega))) (Nat.le_refl _) (by decide) (rowset (r517 c (by omega)) rfl)) (by decide) (by decide) q220 q221 q139 q222 dX1_adds_9 (by decide +kernel) rfl rfl (Nat.le_of_ble_eq_true rfl) rfl ?_
  refine AW.aload_n dX1_adds_12 rfl rfl ?_
  refine AW.get ci1 0 (by decide) q190 dX1_adds_13 gN rfl rfl ?_
  refine AW.iload_n dX1_adds_16 rfl rfl ?_
  refine AW.dup2 dX1_adds_17 rfl rfl rfl ?_
  refine AW.iald dX1_adds_18 g514 (vp_in_iff.mpr (by decide)) (j := 4) (by decide) rfl ?_
  refine AW.iconst (v := 1) dX1_adds_19 (by decide) rfl ?_
  refine AW.iadd dX1_adds_20 rfl ?_
  refine AW.iast dX1_adds_21 (by decide) g514 (vp_in_iff.mpr (by decide)) (j := 4) (by decide) s514 rfl ?_
  refine AW.aload_n dX1_adds_22 rfl rfl ?_
  refine AW.get ci1 0 (by decide) q190 dX1_adds_23 gN rfl rfl ?_
  refine AW.iload_n dX1_adds_26 rfl rfl ?_
  refine AW.iald dX1_adds_27 g514 (vp_in_iff.mpr (by decide)) (j := 4) (by decide) rfl ?_
  have e : (s.setA (517 + c) (mv0 (s.A (517 + c)) f 3)).A 514 = s.A 514 := up_ne (by omega)
  exact AW.iretE dX1_adds_28 rfl rfl (by rw [e]; show up (s.A 514) 4 (s.A 514 4 + 1) 4 = _; rw [up_eq, hc]) (by rw [e, hc])
theorem r_X1_clears_seen {s : Sg} : Run 1 mX1_clears [.ref 513, .int 4] (hp s) (.inl (some (.int (0)))) (hp (s.setA 514 (up (s.A 514) 4 0))) := by
  refine Run.of rfl (Nat.le_of_ble_eq_true rfl) rfl ?_
  refine AW.aload_n dX1_clears_0 rfl rfl ?_
  refine AW.get ci1 0 (by decide) q190 dX1_clears_1 gN rfl rfl ?_
  refine AW.iload_n dX1_clears_4 rfl rfl ?_
  refine AW.iconst (v := 0) dX1_clears_5 (by decide) rfl ?_
  refine AW.iast dX1_clears_6 (by decide) g514 (vp_in_iff.mpr (by decide)) (j := 4) (by decide) s514 rfl ?_
  refine AW.iconst (v := 0) dX1_clears_7 (by decide) rfl ?_
  exact AW.iretE dX1_clears_8 rfl rfl rfl rfl
theorem r_X1_adds_gossip {s : Sg} {a : Nat} {f : Nat → Int32} (c : Nat) (hc : s.A 514 5 = nI c) (h8 : c < 8) (gv : (hp s).g a = some (ia 2 f)) : Run 3 mX1_adds [.ref 513, .ref 525, .int 5, .ref a] (hp s) (.inl (some (.int (nI c + 1)))) (hp ((s.setA (526 + c) (mv0 (s.A (526 + c)) f 2)).setA 514 (up (s.A 514) 5 (nI c + 1)))) := by
  refine Run.of rfl (Nat.le_of_ble_eq_true rfl) rfl ?_
  refine AW.aload_n dX1_adds_0 rfl rfl ?_
  refine AW.aload_n dX1_adds_1 rfl rfl ?_
  refine AW.aload_n dX1_adds_2 rfl rfl ?_
  refine AW.get ci1 0 (by decide) q190 dX1_adds_3 gN rfl rfl ?_
  refine AW.iload_n dX1_adds_6 rfl rfl ?_
  refine AW.iald dX1_adds_7 g514 (vp_in_iff.mpr (by decide)) (j := 5) (by decide) rfl ?_
  refine AW.aald dX1_adds_8 g525 rfl rfl (by rw [hc]; exact xI_in (n := 8) h8 (by decide)) (j := c) (by show (s.A 514 5).toNatClampNeg = c; rw [hc]; exact nI_cl (by omega)) rfl ?_
  refine AW.callS (Y := mX1_copy) (n := 2) (r_X1_copy (h2 := hp (s.setA (526 + c) (mv0 (s.A (526 + c)) f 2))) gv (by omega) (rowg (r526 c (by omega))) (Nat.le_refl _) (by decide) (rowset (r526 c (by omega)) rfl)) (by decide) (by decide) q220 q221 q139 q222 dX1_adds_9 (by decide +kernel) rfl rfl (Nat.le_of_ble_eq_true rfl) rfl ?_
  refine AW.aload_n dX1_adds_12 rfl rfl ?_
  refine AW.get ci1 0 (by decide) q190 dX1_adds_13 gN rfl rfl ?_
  refine AW.iload_n dX1_adds_16 rfl rfl ?_
  refine AW.dup2 dX1_adds_17 rfl rfl rfl ?_
  refine AW.iald dX1_adds_18 g514 (vp_in_iff.mpr (by decide)) (j := 5) (by decide) rfl ?_
  refine AW.iconst (v := 1) dX1_adds_19 (by decide) rfl ?_
  refine AW.iadd dX1_adds_20 rfl ?_
  refine AW.iast dX1_adds_21 (by decide) g514 (vp_in_iff.mpr (by decide)) (j := 5) (by decide) s514 rfl ?_
  refine AW.aload_n dX1_adds_22 rfl rfl ?_
  refine AW.get ci1 0 (by decide) q190 dX1_adds_23 gN rfl rfl ?_
  refine AW.iload_n dX1_adds_26 rfl rfl ?_
  refine AW.iald dX1_adds_27 g514 (vp_in_iff.mpr (by decide)) (j := 5) (by decide) rfl ?_
  have e : (s.setA (526 + c) (mv0 (s.A (526 + c)) f 2)).A 514 = s.A 514 := up_ne (by omega)
  exact AW.iretE dX1_adds_28 rfl rfl (by rw [e]; show up (s.A 514) 5 (s.A 514 5 + 1) 5 = _; rw [up_eq, hc]) (by rw [e, hc])
theorem r_X1_clears_gossip {s : Sg} : Run 1 mX1_clears [.ref 513, .int 5] (hp s) (.inl (some (.int (0)))) (hp (s.setA 514 (up (s.A 514) 5 0))) := by
  refine Run.of rfl (Nat.le_of_ble_eq_true rfl) rfl ?_
  refine AW.aload_n dX1_clears_0 rfl rfl ?_
  refine AW.get ci1 0 (by decide) q190 dX1_clears_1 gN rfl rfl ?_
  refine AW.iload_n dX1_clears_4 rfl rfl ?_
  refine AW.iconst (v := 0) dX1_clears_5 (by decide) rfl ?_
  refine AW.iast dX1_clears_6 (by decide) g514 (vp_in_iff.mpr (by decide)) (j := 5) (by decide) s514 rfl ?_
  refine AW.iconst (v := 0) dX1_clears_7 (by decide) rfl ?_
  exact AW.iretE dX1_clears_8 rfl rfl rfl rfl
theorem r_X0_undo_0 {s : Sg} (hc : s.A 514 3 = 0) : Run 3 mX0_undo [.ref 512] (hp s) (.inl (some (.int (-1)))) (hp s) := by
  refine Run.of rfl (Nat.le_of_ble_eq_true rfl) rfl ?_
  refine AW.aload_n dX0_undo_0 rfl rfl ?_
  refine AW.get ci0 0 (by decide) q229 dX0_undo_1 gX rfl rfl ?_
  refine AW.getN ci1 0 (by decide) q191 dX0_undo_4 gN rfl rfl ?_
  refine AW.iconst (v := 3) dX0_undo_7 (by decide) rfl ?_
  refine AW.iald dX0_undo_8 g514 (vp_in_iff.mpr (by decide)) (j := 3) (by decide) rfl ?_
  refine AW.if_ne (tgt := 14) dX0_undo_9 (by decide) rfl (fun c_ => by first | exact absurd c_ (not_not_intro hc) | exact absurd (not_not_intro hc) c_ | exact Bool.noConfusion (c_.symm.trans (not_not_intro hc))) (fun _ => ?_)
  refine AW.iconst (v := (-1)) dX0_undo_12 (by decide) rfl ?_
  exact AW.iretE dX0_undo_13 rfl rfl rfl rfl
def undS (s : Sg) (c : Nat) : Sg := let t := s.setA 514 (up (s.A 514) 3 (nI c)); t.setA 515 (mv0 (t.A 515) (t.A (535 + c)) 145)
theorem undS_n {s : Sg} {c : Nat} : (undS s c).A 514 3 = nI c := rfl
theorem r_X0_undo {s : Sg} (c : Nat) (hc : s.A 514 3 = nI (c + 1)) (h30 : c < 30) : Run 3 mX0_undo [.ref 512] (hp s) (.inl (some (.int (nI c)))) (hp (undS s c)) := by
  have ec : s.A 514 3 - 1 = nI c := by rw [hc]; exact xI_pred
  refine Run.of rfl (Nat.le_of_ble_eq_true rfl) rfl ?_
  refine AW.aload_n dX0_undo_0 rfl rfl ?_
  refine AW.get ci0 0 (by decide) q229 dX0_undo_1 gX rfl rfl ?_
  refine AW.getN ci1 0 (by decide) q191 dX0_undo_4 gN rfl rfl ?_
  refine AW.iconst (v := 3) dX0_undo_7 (by decide) rfl ?_
  refine AW.iald dX0_undo_8 g514 (vp_in_iff.mpr (by decide)) (j := 3) (by decide) rfl ?_
  refine AW.if_ne (tgt := 14) dX0_undo_9 (by decide) rfl (fun _ => ?_) (fun c_ => by first | exact absurd c_ (by rw [hc]; exact (nI_ne (b := 0) (by omega) (by omega) (by omega))) | exact absurd (by rw [hc]; exact (nI_ne (b := 0) (by omega) (by omega) (by omega))) c_ | exact absurd c_ (not_not_intro (by rw [hc]; exact (nI_ne (b := 0) (by omega) (by omega) (by omega)))) | exact Bool.noConfusion (c_.symm.trans (by rw [hc]; exact (nI_ne (b := 0) (by omega) (by omega) (by omega)))))
  refine AW.aload_n dX0_undo_14 rfl rfl ?_
  refine AW.get ci0 0 (by decide) q229 dX0_undo_15 gX rfl rfl ?_
  refine AW.getN ci1 0 (by decide) q191 dX0_undo_18 gN rfl rfl ?_
  refine AW.iconst (v := 3) dX0_undo_21 (by decide) rfl ?_
  refine AW.dup2 dX0_undo_22 rfl rfl rfl ?_
  refine AW.iald dX0_undo_23 g514 (vp_in_iff.mpr (by decide)) (j := 3) (by decide) rfl ?_
  refine AW.iconst (v := 1) dX0_undo_24 (by decide) rfl ?_
  refine AW.isub dX0_undo_25 rfl ?_
  refine AW.iast dX0_undo_26 (by decide) g514 (vp_in_iff.mpr (by decide)) (j := 3) (by decide) s514 rfl ?_
  refine AW.hp (h2 := hp (s.setA 514 (up (s.A 514) 3 (nI c)))) (by rw [ec]) ?_
  refine AW.aload_n dX0_undo_27 rfl rfl ?_
  refine AW.get ci0 0 (by decide) q229 dX0_undo_28 gX rfl rfl ?_
  refine AW.getN ci1 4 (by decide) q199 dX0_undo_31 gN rfl rfl ?_
  refine AW.aload_n dX0_undo_34 rfl rfl ?_
  refine AW.get ci0 0 (by decide) q229 dX0_undo_35 gX rfl rfl ?_
  refine AW.getN ci1 0 (by decide) q191 dX0_undo_38 gN rfl rfl ?_
  refine AW.iconst (v := 3) dX0_undo_41 (by decide) rfl ?_
  refine AW.iald dX0_undo_42 g514 (vp_in_iff.mpr (by decide)) (j := 3) (by decide) rfl ?_
  refine AW.aald dX0_undo_43 g534 rfl rfl (xI_in (n := 30) h30 (by decide)) (j := c) (nI_cl (by omega)) rfl ?_
  refine AW.aload_n dX0_undo_44 rfl rfl ?_
  refine AW.get ci0 0 (by decide) q229 dX0_undo_45 gX rfl rfl ?_
  refine AW.getN ci1 1 (by decide) q193 dX0_undo_48 gN rfl rfl ?_
  refine AW.callSN (Y := mX1_copy) (n := 2) (r_X1_copy (h2 := hp (undS s c)) (rowg (r535 c (by omega))) (by decide) g515 (Nat.le_refl _) (by decide) s515) (by decide) (by decide) q1124 q221 q139 q222 dX0_undo_51 (by decide +kernel) rfl rfl (Nat.le_of_ble_eq_true rfl) rfl ?_
  refine AW.aload_n dX0_undo_54 rfl rfl ?_
  refine AW.get ci0 0 (by decide) q229 dX0_undo_55 gX rfl rfl ?_
  refine AW.getN ci1 0 (by decide) q191 dX0_undo_58 gN rfl rfl ?_
  refine AW.iconst (v := 3) dX0_undo_61 (by decide) rfl ?_
  refine AW.iald dX0_undo_62 g514 (vp_in_iff.mpr (by decide)) (j := 3) (by decide) rfl ?_
  exact AW.iretE dX0_undo_63 rfl rfl rfl rfl
