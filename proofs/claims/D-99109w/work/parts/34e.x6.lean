/-! SYSTEM 6: by hand: hats, forgetting, weddings, houses, what is fed (printed by tools/x6.py) -/
set_option maxRecDepth 100000
def Vw.canHatS (v : Vw) (h : Int32) : Bool := v.her h && decide (bcI (v.sh h) < 3)
def wedS (x y : Int32) : Int32 := if x &&& y = 0 then (if bcI (x ||| y) ≤ 3 then x ||| y else -1) else x &&& y
def drawI (x : Int32) : Int32 := (x * 359 + 239) % 30431
def drawR (r : Nat → Int32) : Nat → Int32 := up r 1 (drawI (r 1))
def hatL (h : Int32) : Nat → (Nat → Int32) → Int32 × (Nat → Int32)
  | 0, r => (-1, r)
  | m + 1, r => if hasI (drawR r (cI (3 + h))) (r 1 % 20) = true then hatL h m (drawR r) else (r 1 % 20, up (drawR r) (cI (3 + h)) (drawR r (cI (3 + h)) ||| bit (r 1 % 20)))
def mar1 (r : Nat → Int32) (h e : Int32) : Nat → Int32 := up r (cI (3 + e)) (wedS (r (cI (3 + h))) (r (cI (3 + e))))
def mar2 (r : Nat → Int32) (h e : Int32) : Nat → Int32 := up (mar1 r h e) (cI (10 + e)) (minI 9999 (mar1 r h e (cI (10 + e)) + mar1 r h e (cI (10 + h))))
def mar3 (r : Nat → Int32) (h e : Int32) : Nat → Int32 := up (mar2 r h e) (cI (17 + e)) (minI 99 (mar2 r h e (cI (17 + e)) + mar2 r h e (cI (17 + h))))
def marryR (r : Nat → Int32) (h e : Int32) : Nat → Int32 := up (mar3 r h e) 2 (mar3 r h e 2 ||| bit h)
theorem layS_515 {s : Sg} {c : Nat} (hc : c ≤ 30) : (layS s c).A 515 = s.A 515 := (sA_ne (by decide)).trans (sA_ne (by omega))
theorem keepS_515 {s : Sg} {c : Nat} (hc : c ≤ 30) : (keepS s c).A 515 = s.A 515 := by
  unfold keepS
  split
  · rw [layS_515 (by omega), sA_ne (by decide), shf_out (by omega)]
  · exact layS_515 hc
theorem keepS_514 {s : Sg} {c : Nat} (hc : c ≤ 30) {k : Nat} (hk : k ≠ 3) : (keepS s c).A 514 k = s.A 514 k := by
  unfold keepS layS
  split
  · rw [sA_eq, up_ne hk, sA_eq, up_ne hk]
  · rw [sA_eq, up_ne hk]
theorem keepS_3 {s : Sg} {c : Nat} (hc : c ≤ 30) : (keepS s c).A 514 3 = nI (min c 29 + 1) := by
  unfold keepS
  split
  · next h => subst h; exact ((congrFun sA_eq 3).trans up_eq).trans (nI_succ' 29)
  · rw [show min c 29 = c by omega]; exact ((congrFun sA_eq 3).trans up_eq).trans (nI_succ' c)
theorem keepS_b {s : Sg} {c : Nat} : (keepS s c).b = s.b := by
  unfold keepS
  split <;> rfl
theorem vwS_n {n n2 r : Nat → Int32} (h : n2 0 = n 0) : vwS n2 r = vwS n r := by unfold vwS; rw [h]
theorem keepS_v {s : Sg} {c : Nat} (hc : c ≤ 30) : vwS ((keepS s c).A 514) ((keepS s c).A 515) = vwS (s.A 514) (s.A 515) := by
  rw [keepS_515 hc]
  exact vwS_n (keepS_514 hc (by decide))
theorem setA_setA5 {s : Sg} {k : Nat} {f g : Nat → Int32} : (s.setA k f).setA k g = s.setA k g := setA_setA
theorem setA_id5 {s : Sg} {k : Nat} : s.setA k (s.A k) = s := setA_id
theorem r_X0_canHat {s : Sg} (hn : (vwS (s.A 514) (s.A 515)).ok) (h : Int32) : Run 4 mX0_canHat [.ref 512, .int h] (hp s) (.inl (some (.int (b2i ((vwS (s.A 514) (s.A 515)).canHatS h))))) (hp s) := by
  refine Run.of rfl (Nat.le_of_ble_eq_true rfl) rfl ?_
  refine AW.aload_n dX0_canHat_0 rfl rfl ?_
  refine AW.iload_n dX0_canHat_1 rfl rfl ?_
  refine AW.callV (Y := mX0_isThere) (n := 1) (r_X0_isThere _) (by decide) (by decide) rfl gX q980 q982 qs33 q138 q983 dX0_canHat_2 (by decide +kernel) rfl rfl (Nat.le_of_ble_eq_true rfl) rfl ?_
  refine AW.if_eqB (tgt := 30) dX0_canHat_5 (by decide) rfl (fun c5 => ?_) (fun c5 => ?_)
  · refine AW.iconst (v := 0) dX0_canHat_30 (by decide) rfl ?_
    exact AW.bretE dX0_canHat_31 rfl rfl (by unfold Vw.canHatS; first | (rw [c5]; rfl) | (rw [c5, vwS_sh (Vw.her_hou c5)]; first | (rw [dec_f (Int32.not_lt.mpr c23)]; rfl) | (rw [dec_t (Int32.not_le.mp c23)]; rfl))) rfl
  · refine AW.aload_n dX0_canHat_8 rfl rfl ?_
    refine AW.get ci0 0 (by decide) q229 dX0_canHat_9 gX rfl rfl ?_
    refine AW.getN ci1 1 (by decide) q193 dX0_canHat_12 gN rfl rfl ?_
    refine AW.iconst (v := 3) dX0_canHat_15 (by decide) rfl ?_
    refine AW.iload_n dX0_canHat_16 rfl rfl ?_
    refine AW.iadd dX0_canHat_17 rfl ?_
    refine AW.iald dX0_canHat_18 g515 (in_row hn (Vw.her_hou c5) (by decide) (by decide)) rfl rfl ?_
    refine AW.callS (Y := mJ12_bitCount) (n := 1) (r_J12_bitCount _) (by decide) (by decide) q881 q882 q162 q883 dX0_canHat_19 (by decide +kernel) rfl rfl (Nat.le_of_ble_eq_true rfl) rfl ?_
    refine AW.iconst (v := 3) dX0_canHat_22 (by decide) rfl ?_
    refine AW.icmp_ge (tgt := 30) dX0_canHat_23 (by decide) rfl (fun c23 => ?_) (fun c23 => ?_)
    · refine AW.iconst (v := 0) dX0_canHat_30 (by decide) rfl ?_
      exact AW.bretE dX0_canHat_31 rfl rfl (by unfold Vw.canHatS; first | (rw [c5]; rfl) | (rw [c5, vwS_sh (Vw.her_hou c5)]; first | (rw [dec_f (Int32.not_lt.mpr c23)]; rfl) | (rw [dec_t (Int32.not_le.mp c23)]; rfl))) rfl
    · refine AW.iconst (v := 1) dX0_canHat_26 (by decide) rfl ?_
      refine AW.goto (tgt := 31) dX0_canHat_27 (by decide) ?_
      exact AW.bretE dX0_canHat_31 rfl rfl (by unfold Vw.canHatS; first | (rw [c5]; rfl) | (rw [c5, vwS_sh (Vw.her_hou c5)]; first | (rw [dec_f (Int32.not_lt.mpr c23)]; rfl) | (rw [dec_t (Int32.not_le.mp c23)]; rfl))) rfl
theorem r_X0_canForget {s : Sg} (hn : (vwS (s.A 514) (s.A 515)).ok) (dt h : Int32) : Run 4 mX0_canForget [.ref 512, .int dt, .int h] (hp s) (.inl (some (.int (b2i ((vwS (s.A 514) (s.A 515)).forgets dt h))))) (hp s) := by
  refine Run.of rfl (Nat.le_of_ble_eq_true rfl) rfl ?_
  refine AW.iload_n dX0_canForget_0 rfl rfl ?_
  refine AW.callS (Y := mX0_isDate) (n := 1) (r_X0_isDate _) (by decide) (by decide) q1064 q1065 q138 q1066 dX0_canForget_1 (by decide +kernel) rfl rfl (Nat.le_of_ble_eq_true rfl) rfl ?_
  refine AW.if_eqB (tgt := 37) dX0_canForget_4 (by decide) rfl (fun c4 => ?_) (fun c4 => ?_)
  · refine AW.iconst (v := 0) dX0_canForget_37 (by decide) rfl ?_
    exact AW.bretE dX0_canForget_38 rfl rfl (by unfold Vw.forgets; first | (rw [c4, Bool.false_and, Bool.and_false]; rfl) | (rw [c12]; rfl) | (rw [c12, c4, vwS_sh (Vw.her_hou c12), c30]; rfl)) rfl
  · refine AW.aload_n dX0_canForget_7 rfl rfl ?_
    refine AW.iload_n dX0_canForget_8 rfl rfl ?_
    refine AW.callV (Y := mX0_isThere) (n := 1) (r_X0_isThere _) (by decide) (by decide) rfl gX q980 q982 qs33 q138 q983 dX0_canForget_9 (by decide +kernel) rfl rfl (Nat.le_of_ble_eq_true rfl) rfl ?_
    refine AW.if_eqB (tgt := 37) dX0_canForget_12 (by decide) rfl (fun c12 => ?_) (fun c12 => ?_)
    · refine AW.iconst (v := 0) dX0_canForget_37 (by decide) rfl ?_
      exact AW.bretE dX0_canForget_38 rfl rfl (by unfold Vw.forgets; first | (rw [c4, Bool.false_and, Bool.and_false]; rfl) | (rw [c12]; rfl) | (rw [c12, c4, vwS_sh (Vw.her_hou c12), c30]; rfl)) rfl
    · refine AW.aload_n dX0_canForget_15 rfl rfl ?_
      refine AW.get ci0 0 (by decide) q229 dX0_canForget_16 gX rfl rfl ?_
      refine AW.getN ci1 1 (by decide) q193 dX0_canForget_19 gN rfl rfl ?_
      refine AW.iconst (v := 3) dX0_canForget_22 (by decide) rfl ?_
      refine AW.iload_n dX0_canForget_23 rfl rfl ?_
      refine AW.iadd dX0_canForget_24 rfl ?_
      refine AW.iald dX0_canForget_25 g515 (in_row hn (Vw.her_hou c12) (by decide) (by decide)) rfl rfl ?_
      refine AW.iload_n dX0_canForget_26 rfl rfl ?_
      refine AW.callS (Y := mX0_has) (n := 2) (r_X0_has _ _) (by decide) (by decide) q867 q868 q138 q869 dX0_canForget_27 (by decide +kernel) rfl rfl (Nat.le_of_ble_eq_true rfl) rfl ?_
      refine AW.if_eqB (tgt := 37) dX0_canForget_30 (by decide) rfl (fun c30 => ?_) (fun c30 => ?_)
      · refine AW.iconst (v := 0) dX0_canForget_37 (by decide) rfl ?_
        exact AW.bretE dX0_canForget_38 rfl rfl (by unfold Vw.forgets; first | (rw [c4, Bool.false_and, Bool.and_false]; rfl) | (rw [c12]; rfl) | (rw [c12, c4, vwS_sh (Vw.her_hou c12), c30]; rfl)) rfl
      · refine AW.iconst (v := 1) dX0_canForget_33 (by decide) rfl ?_
        refine AW.goto (tgt := 38) dX0_canForget_34 (by decide) ?_
        exact AW.bretE dX0_canForget_38 rfl rfl (by unfold Vw.forgets; first | (rw [c4, Bool.false_and, Bool.and_false]; rfl) | (rw [c12]; rfl) | (rw [c12, c4, vwS_sh (Vw.her_hou c12), c30]; rfl)) rfl
theorem r_X0_wedDates {s : Sg} (hn : (vwS (s.A 514) (s.A 515)).ok) (h e : Int32) (hh : (vwS (s.A 514) (s.A 515)).hou h = true) (he : (vwS (s.A 514) (s.A 515)).hou e = true) : Run 2 mX0_wedDates [.ref 512, .int h, .int e] (hp s) (.inl (some (.int (wedS (s.A 515 (cI (3 + h))) (s.A 515 (cI (3 + e))))))) (hp s) := by
  refine Run.of rfl (Nat.le_of_ble_eq_true rfl) rfl ?_
  refine AW.aload_n dX0_wedDates_0 rfl rfl ?_
  refine AW.get ci0 0 (by decide) q229 dX0_wedDates_1 gX rfl rfl ?_
  refine AW.getN ci1 1 (by decide) q193 dX0_wedDates_4 gN rfl rfl ?_
  refine AW.iconst (v := 3) dX0_wedDates_7 (by decide) rfl ?_
  refine AW.iload_n dX0_wedDates_8 rfl rfl ?_
  refine AW.iadd dX0_wedDates_9 rfl ?_
  refine AW.iald dX0_wedDates_10 g515 (in_row hn hh (by decide) (by decide)) rfl rfl ?_
  refine AW.aload_n dX0_wedDates_11 rfl rfl ?_
  refine AW.get ci0 0 (by decide) q229 dX0_wedDates_12 gX rfl rfl ?_
  refine AW.getN ci1 1 (by decide) q193 dX0_wedDates_15 gN rfl rfl ?_
  refine AW.iconst (v := 3) dX0_wedDates_18 (by decide) rfl ?_
  refine AW.iload_n dX0_wedDates_19 rfl rfl ?_
  refine AW.iadd dX0_wedDates_20 rfl ?_
  refine AW.iald dX0_wedDates_21 g515 (in_row hn he (by decide) (by decide)) rfl rfl ?_
  refine AW.iand dX0_wedDates_22 rfl ?_
  refine AW.istore_n (i := 3) dX0_wedDates_23 rfl rfl (Nat.le_of_ble_eq_true rfl) rfl rfl ?_
  refine AW.aload_n dX0_wedDates_24 rfl rfl ?_
  refine AW.get ci0 0 (by decide) q229 dX0_wedDates_25 gX rfl rfl ?_
  refine AW.getN ci1 1 (by decide) q193 dX0_wedDates_28 gN rfl rfl ?_
  refine AW.iconst (v := 3) dX0_wedDates_31 (by decide) rfl ?_
  refine AW.iload_n dX0_wedDates_32 rfl rfl ?_
  refine AW.iadd dX0_wedDates_33 rfl ?_
  refine AW.iald dX0_wedDates_34 g515 (in_row hn hh (by decide) (by decide)) rfl rfl ?_
  refine AW.aload_n dX0_wedDates_35 rfl rfl ?_
  refine AW.get ci0 0 (by decide) q229 dX0_wedDates_36 gX rfl rfl ?_
  refine AW.getN ci1 1 (by decide) q193 dX0_wedDates_39 gN rfl rfl ?_
  refine AW.iconst (v := 3) dX0_wedDates_42 (by decide) rfl ?_
  refine AW.iload_n dX0_wedDates_43 rfl rfl ?_
  refine AW.iadd dX0_wedDates_44 rfl ?_
  refine AW.iald dX0_wedDates_45 g515 (in_row hn he (by decide) (by decide)) rfl rfl ?_
  refine AW.ior dX0_wedDates_46 rfl ?_
  refine AW.istore dX0_wedDates_47 rfl (Nat.le_of_ble_eq_true rfl) rfl rfl ?_
  refine AW.iload_n dX0_wedDates_49 rfl rfl ?_
  refine AW.if_eq (tgt := 57) dX0_wedDates_50 (by decide) rfl (fun c50 => ?_) (fun c50 => ?_)
  · refine AW.iload dX0_wedDates_57 rfl rfl ?_
    refine AW.callS (Y := mJ12_bitCount) (n := 1) (r_J12_bitCount _) (by decide) (by decide) q881 q882 q162 q883 dX0_wedDates_59 (by decide +kernel) rfl rfl (Nat.le_of_ble_eq_true rfl) rfl ?_
    refine AW.iconst (v := 3) dX0_wedDates_62 (by decide) rfl ?_
    refine AW.icmp_gt (tgt := 71) dX0_wedDates_63 (by decide) rfl (fun c63 => ?_) (fun c63 => ?_)
    · refine AW.iconst (v := (-1)) dX0_wedDates_71 (by decide) rfl ?_
      exact AW.iretE dX0_wedDates_72 rfl rfl (by unfold wedS; first | (rw [if_pos c50]; first | (rw [if_pos (Int32.not_lt.mp c63)]; done) | (rw [if_neg (Int32.not_le.mpr c63)]; done)) | (rw [if_neg c50]; done)) rfl
    · refine AW.iload dX0_wedDates_66 rfl rfl ?_
      refine AW.goto (tgt := 72) dX0_wedDates_68 (by decide) ?_
      exact AW.iretE dX0_wedDates_72 rfl rfl (by unfold wedS; first | (rw [if_pos c50]; first | (rw [if_pos (Int32.not_lt.mp c63)]; done) | (rw [if_neg (Int32.not_le.mpr c63)]; done)) | (rw [if_neg c50]; done)) rfl
  · refine AW.iload_n dX0_wedDates_53 rfl rfl ?_
    refine AW.goto (tgt := 72) dX0_wedDates_54 (by decide) ?_
    exact AW.iretE dX0_wedDates_72 rfl rfl (by unfold wedS; first | (rw [if_pos c50]; first | (rw [if_pos (Int32.not_lt.mp c63)]; done) | (rw [if_neg (Int32.not_le.mpr c63)]; done)) | (rw [if_neg c50]; done)) rfl
theorem r_X0_draws {s : Sg} : Run 1 mX0_draws [.ref 512] (hp s) (.inl none) (hp (s.setA 515 (drawR (s.A 515)))) := by
  refine Run.of rfl (Nat.le_of_ble_eq_true rfl) rfl ?_
  refine AW.aload_n dX0_draws_0 rfl rfl ?_
  refine AW.get ci0 0 (by decide) q229 dX0_draws_1 gX rfl rfl ?_
  refine AW.getN ci1 1 (by decide) q193 dX0_draws_4 gN rfl rfl ?_
  refine AW.iconst (v := 1) dX0_draws_7 (by decide) rfl ?_
  refine AW.aload_n dX0_draws_8 rfl rfl ?_
  refine AW.get ci0 0 (by decide) q229 dX0_draws_9 gX rfl rfl ?_
  refine AW.getN ci1 1 (by decide) q193 dX0_draws_12 gN rfl rfl ?_
  refine AW.iconst (v := 1) dX0_draws_15 (by decide) rfl ?_
  refine AW.iald dX0_draws_16 g515 (vp_in_iff.mpr (by decide)) (j := 1) (by decide) rfl ?_
  refine AW.sipush (v := 359) dX0_draws_17 (by decide) rfl ?_
  refine AW.imul dX0_draws_20 rfl ?_
  refine AW.sipush (v := 239) dX0_draws_21 (by decide) rfl ?_
  refine AW.iadd dX0_draws_24 rfl ?_
  refine AW.sipush (v := 30431) dX0_draws_25 (by decide) rfl ?_
  refine AW.irem dX0_draws_28 (by decide) rfl ?_
  refine AW.iast dX0_draws_29 (by decide) g515 (vp_in_iff.mpr (by decide)) (j := 1) (by decide) s515 rfl ?_
  exact AW.vretE dX0_draws_30 rfl rfl rfl
theorem in_c3 {h : Int32} (hh : 0 ≤ h.toInt ∧ h.toInt ≤ 6) {c : Int32} (h1 : 0 ≤ c.toInt) (h2 : c.toInt ≤ 138) : vp_in (c + h) 145 := vp_in_iff.mpr (by have := addI (a := c) (b := h) (by omega) (by omega); omega)
theorem r_X0_hats {s : Sg} (h : Int32) (hh : 0 ≤ h.toInt ∧ h.toInt ≤ 6) : Run 3 mX0_hats [.ref 512, .int h] (hp s) (.inl (some (.int ((hatL h 20 (s.A 515)).1)))) (hp (s.setA 515 (hatL h 20 (s.A 515)).2)) := by
  refine Run.of rfl (Nat.le_of_ble_eq_true rfl) rfl ?_
  refine AW.iconst (v := 0) dX0_hats_0 (by decide) rfl ?_
  refine AW.istore_n (i := 2) dX0_hats_1 rfl rfl (Nat.le_of_ble_eq_true rfl) rfl rfl ?_
  refine AW.hp (h2 := hp (s.setA 515 (s.A 515))) (by rw [setA_id5]) ?_
  refine loopUp (P := fun k => ∀ r : Nat → Int32, AW 3 mX0_hats (hp (s.setA 515 r)) 2 [some (.ref 512), some (.int (h)), some (.int (nI k)), none] [] (.inl (some (.int ((hatL h (20 - k) r).1)))) (hp (s.setA 515 (hatL h (20 - k) r).2))) 20 ?_ ?_ 0 (by first | exact Nat.zero_le _ | omega) (s.A 515)
  · intro r
    refine AW.iload_n dX0_hats_2 rfl rfl ?_
    refine AW.bipush (v := 20) dX0_hats_3 (by decide) rfl ?_
    refine AW.icmp_ge (tgt := 71) dX0_hats_5 (by decide) rfl (fun _ => ?_) (fun c_ => by first | exact absurd c_ (by decide) | exact absurd (by decide) c_ | exact absurd c_ (not_not_intro (by decide)) | exact Bool.noConfusion (c_.symm.trans (by decide)))
    refine AW.iconst (v := (-1)) dX0_hats_71 (by decide) rfl ?_
    exact AW.iretE dX0_hats_72 rfl rfl rfl rfl
  · intro k hk ihk
    intro r
    refine AW.iload_n dX0_hats_2 rfl rfl ?_
    refine AW.bipush (v := 20) dX0_hats_3 (by decide) rfl ?_
    refine AW.icmp_ge (tgt := 71) dX0_hats_5 (by decide) rfl (fun c_ => by first | exact absurd c_ (nI_nle20' hk) | exact absurd (nI_nle20' hk) c_ | exact Bool.noConfusion (c_.symm.trans (nI_nle20' hk))) (fun _ => ?_)
    refine AW.aload_n dX0_hats_8 rfl rfl ?_
    refine AW.get ci0 0 (by decide) q229 dX0_hats_9 gX rfl rfl ?_
    refine AW.getN ci1 1 (by decide) q193 dX0_hats_12 gN rfl rfl ?_
    refine AW.iconst (v := 1) dX0_hats_15 (by decide) rfl ?_
    refine AW.iald dX0_hats_16 g515 (vp_in_iff.mpr (by decide)) (j := 1) (by decide) rfl ?_
    refine AW.bipush (v := 20) dX0_hats_17 (by decide) rfl ?_
    refine AW.irem dX0_hats_19 (by decide) rfl ?_
    refine AW.istore_n (i := 3) dX0_hats_20 rfl rfl (Nat.le_of_ble_eq_true rfl) rfl rfl ?_
    refine AW.aload_n dX0_hats_21 rfl rfl ?_
    refine AW.callV (Y := mX0_draws) (n := 0) (r_X0_draws) (by decide) (by decide) rfl gX q1052 q1054 qs39 q138 q1055 dX0_hats_22 (by decide +kernel) rfl rfl (Nat.le_of_ble_eq_true rfl) rfl ?_
    refine AW.hp (h2 := hp (s.setA 515 (drawR r))) (by rw [setA_at, setA_setA]) ?_
    refine AW.aload_n dX0_hats_25 rfl rfl ?_
    refine AW.get ci0 0 (by decide) q229 dX0_hats_26 gX rfl rfl ?_
    refine AW.getN ci1 1 (by decide) q193 dX0_hats_29 gN rfl rfl ?_
    refine AW.iconst (v := 3) dX0_hats_32 (by decide) rfl ?_
    refine AW.iload_n dX0_hats_33 rfl rfl ?_
    refine AW.iadd dX0_hats_34 rfl ?_
    refine AW.iald dX0_hats_35 g515 (in_c3 hh (by decide) (by decide)) rfl rfl ?_
    refine AW.iload_n dX0_hats_36 rfl rfl ?_
    refine AW.callS (Y := mX0_has) (n := 2) (r_X0_has _ _) (by decide) (by decide) q867 q868 q138 q869 dX0_hats_37 (by decide +kernel) rfl rfl (Nat.le_of_ble_eq_true rfl) rfl ?_
    refine AW.if_eqB (tgt := 46) dX0_hats_40 (by decide) rfl (fun c => ?_) (fun c => ?_)
    · refine AW.aload_n dX0_hats_46 rfl rfl ?_
      refine AW.get ci0 0 (by decide) q229 dX0_hats_47 gX rfl rfl ?_
      refine AW.getN ci1 1 (by decide) q193 dX0_hats_50 gN rfl rfl ?_
      refine AW.iconst (v := 3) dX0_hats_53 (by decide) rfl ?_
      refine AW.iload_n dX0_hats_54 rfl rfl ?_
      refine AW.iadd dX0_hats_55 rfl ?_
      refine AW.dup2 dX0_hats_56 rfl rfl rfl ?_
      refine AW.iald dX0_hats_57 g515 (in_c3 hh (by decide) (by decide)) rfl rfl ?_
      refine AW.iconst (v := 1) dX0_hats_58 (by decide) rfl ?_
      refine AW.iload_n dX0_hats_59 rfl rfl ?_
      refine AW.ishl dX0_hats_60 rfl ?_
      refine AW.ior dX0_hats_61 rfl ?_
      refine AW.iast dX0_hats_62 (by decide) g515 (in_c3 hh (by decide) (by decide)) rfl s515 rfl ?_
      refine AW.iload_n dX0_hats_63 rfl rfl ?_
      have ek : 20 - k = (20 - (k + 1)) + 1 := by omega
      exact AW.iretE dX0_hats_64 rfl rfl (by rw [ek, hatL, if_neg (by rw [show hasI (drawR r (cI (3 + h))) (r 1 % 20) = false from c]; decide)]; rfl) (by rw [ek, hatL, if_neg (by rw [show hasI (drawR r (cI (3 + h))) (r 1 % 20) = false from c]; decide)]; exact congrArg hp setA_setA)
    · refine AW.goto (tgt := 65) dX0_hats_43 (by decide) ?_
      refine AW.iinc (v := 1) dX0_hats_65 rfl (by decide) rfl rfl rfl ?_
      refine AW.goto (tgt := 2) dX0_hats_68 (by decide) ?_
      have ek : 20 - k = (20 - (k + 1)) + 1 := by omega
      have e2 : hatL h (20 - k) r = hatL h (20 - (k + 1)) (drawR r) := by rw [ek, hatL, if_pos (show hasI (drawR r (cI (3 + h))) (r 1 % 20) = true from c)]
      rw [e2]
      exact AW.fg 3 rfl (AW.ls (by rw [nI_succ]; rfl) (ihk (drawR r)))
theorem r_X0_hat_f {s : Sg} (hn : (vwS (s.A 514) (s.A 515)).ok) (h : Int32) (hc : (vwS (s.A 514) (s.A 515)).canHatS h = false) : Run 5 mX0_hat [.ref 512, .int h] (hp s) (.inl (some (.int (-1)))) (hp s) := by
  refine Run.of rfl (Nat.le_of_ble_eq_true rfl) rfl ?_
  refine AW.aload_n dX0_hat_0 rfl rfl ?_
  refine AW.iload_n dX0_hat_1 rfl rfl ?_
  refine AW.callV (Y := mX0_canHat) (n := 1) (r_X0_canHat hn _) (by decide) (by decide) rfl gX q1044 q1046 qs37 q138 q1047 dX0_hat_2 (by decide +kernel) rfl rfl (Nat.le_of_ble_eq_true rfl) rfl ?_
  refine AW.if_neB (tgt := 10) dX0_hat_5 (by decide) rfl (fun c_ => by first | exact absurd c_ hc | exact absurd hc c_ | exact Bool.noConfusion (c_.symm.trans hc)) (fun _ => ?_)
  refine AW.iconst (v := (-1)) dX0_hat_8 (by decide) rfl ?_
  exact AW.iretE dX0_hat_9 rfl rfl rfl rfl
theorem r_X1_keeps {s : Sg} {c : Nat} (hc : s.A 514 3 = nI c) (h30 : c ≤ 30) : Run 3 mX1_keeps [.ref 513] (hp s) (.inl none) (hp (keepS s c)) := by
  by_cases h : c = 30
  · subst h; exact r_X1_keeps_t hc
  · exact r_X1_keeps_f c hc (by omega)
theorem r_X0_hat_t {s : Sg} (hn : (vwS (s.A 514) (s.A 515)).ok) (h : Int32) (hc : (vwS (s.A 514) (s.A 515)).canHatS h = true) (c : Nat) (hc3 : s.A 514 3 = nI c) (h30 : c ≤ 30) : Run 5 mX0_hat [.ref 512, .int h] (hp s) (.inl (some (.int ((hatL h 20 (s.A 515)).1)))) (hp ((keepS s c).setA 515 (hatL h 20 (s.A 515)).2)) := by
  have hb := Vw.hou_b hn (Vw.her_hou (Bool.and_eq_true_iff.mp hc).1)
  have hh : 0 ≤ h.toInt ∧ h.toInt ≤ 6 := ⟨hb.1, hb.2.2⟩
  refine Run.of rfl (Nat.le_of_ble_eq_true rfl) rfl ?_
  refine AW.aload_n dX0_hat_0 rfl rfl ?_
  refine AW.iload_n dX0_hat_1 rfl rfl ?_
  refine AW.callV (Y := mX0_canHat) (n := 1) (r_X0_canHat hn _) (by decide) (by decide) rfl gX q1044 q1046 qs37 q138 q1047 dX0_hat_2 (by decide +kernel) rfl rfl (Nat.le_of_ble_eq_true rfl) rfl ?_
  refine AW.if_neB (tgt := 10) dX0_hat_5 (by decide) rfl (fun _ => ?_) (fun c_ => by first | exact absurd c_ hc | exact absurd hc c_ | exact absurd c_ (not_not_intro hc) | exact Bool.noConfusion (c_.symm.trans hc))
  refine AW.aload_n dX0_hat_10 rfl rfl ?_
  refine AW.get ci0 0 (by decide) q229 dX0_hat_11 gX rfl rfl ?_
  refine AW.callV (Y := mX1_keeps) (n := 0) (r_X1_keeps hc3 h30) (by decide) (by decide) rfl gN q850 q851 q852 q139 q853 dX0_hat_14 (by decide +kernel) rfl rfl (Nat.le_of_ble_eq_true rfl) rfl ?_
  refine AW.aload_n dX0_hat_17 rfl rfl ?_
  refine AW.iload_n dX0_hat_18 rfl rfl ?_
  refine AW.callV (Y := mX0_hats) (n := 1) (r_X0_hats _ hh) (by decide) (by decide) rfl gX q1048 q1050 qs38 q138 q1051 dX0_hat_19 (by decide +kernel) rfl rfl (Nat.le_of_ble_eq_true rfl) rfl ?_
  exact AW.iretE dX0_hat_22 rfl rfl (by rw [keepS_515 h30]) (by rw [keepS_515 h30])
theorem r_X0_hatted_f {s : Sg} (hn : (vwS (s.A 514) (s.A 515)).ok) (h : Int32) (hc : (vwS (s.A 514) (s.A 515)).canHatS h = false) : Run 6 mX0_hatted [.ref 512, .int h] (hp s) (.inl (some (.int (b2i false)))) (hp s) := by
  refine Run.of rfl (Nat.le_of_ble_eq_true rfl) rfl ?_
  refine AW.aload_n dX0_hatted_0 rfl rfl ?_
  refine AW.iload_n dX0_hatted_1 rfl rfl ?_
  refine AW.callV (Y := mX0_canHat) (n := 1) (r_X0_canHat hn _) (by decide) (by decide) rfl gX q1044 q1046 qs37 q138 q1047 dX0_hatted_2 (by decide +kernel) rfl rfl (Nat.le_of_ble_eq_true rfl) rfl ?_
  refine AW.if_neB (tgt := 10) dX0_hatted_5 (by decide) rfl (fun c_ => by first | exact absurd c_ hc | exact absurd hc c_ | exact Bool.noConfusion (c_.symm.trans hc)) (fun _ => ?_)
  refine AW.iconst (v := 0) dX0_hatted_8 (by decide) rfl ?_
  exact AW.bretE dX0_hatted_9 rfl rfl rfl rfl
theorem r_X0_hatted_t {s : Sg} (hn : (vwS (s.A 514) (s.A 515)).ok) (h : Int32) (hc : (vwS (s.A 514) (s.A 515)).canHatS h = true) (c : Nat) (hc3 : s.A 514 3 = nI c) (h30 : c ≤ 30) : Run 6 mX0_hatted [.ref 512, .int h] (hp s) (.inl (some (.int (b2i true)))) (hp ((keepS s c).setA 515 (hatL h 20 (s.A 515)).2)) := by
  refine Run.of rfl (Nat.le_of_ble_eq_true rfl) rfl ?_
  refine AW.aload_n dX0_hatted_0 rfl rfl ?_
  refine AW.iload_n dX0_hatted_1 rfl rfl ?_
  refine AW.callV (Y := mX0_canHat) (n := 1) (r_X0_canHat hn _) (by decide) (by decide) rfl gX q1044 q1046 qs37 q138 q1047 dX0_hatted_2 (by decide +kernel) rfl rfl (Nat.le_of_ble_eq_true rfl) rfl ?_
  refine AW.if_neB (tgt := 10) dX0_hatted_5 (by decide) rfl (fun _ => ?_) (fun c_ => by first | exact absurd c_ hc | exact absurd hc c_ | exact absurd c_ (not_not_intro hc) | exact Bool.noConfusion (c_.symm.trans hc))
  refine AW.aload_n dX0_hatted_10 rfl rfl ?_
  refine AW.iload_n dX0_hatted_11 rfl rfl ?_
  refine AW.callV (Y := mX0_hat) (n := 1) (r_X0_hat_t hn h hc c hc3 h30) (by decide) (by decide) rfl gX q1101 q1041 q1042 q138 q1043 dX0_hatted_12 (by decide +kernel) rfl rfl (Nat.le_of_ble_eq_true rfl) rfl ?_
  refine AW.istore_n (i := 2) dX0_hatted_15 rfl rfl (Nat.le_of_ble_eq_true rfl) rfl rfl ?_
  refine AW.iconst (v := 1) dX0_hatted_16 (by decide) rfl ?_
  exact AW.bretE dX0_hatted_17 rfl rfl rfl rfl
theorem r_X0_forget_f {s : Sg} (hn : (vwS (s.A 514) (s.A 515)).ok) (dt h : Int32) (hc : (vwS (s.A 514) (s.A 515)).forgets dt h = false) : Run 5 mX0_forget [.ref 512, .int dt, .int h] (hp s) (.inl (some (.int (b2i false)))) (hp s) := by
  refine Run.of rfl (Nat.le_of_ble_eq_true rfl) rfl ?_
  refine AW.aload_n dX0_forget_0 rfl rfl ?_
  refine AW.iload_n dX0_forget_1 rfl rfl ?_
  refine AW.iload_n dX0_forget_2 rfl rfl ?_
  refine AW.callV (Y := mX0_canForget) (n := 2) (r_X0_canForget hn _ _) (by decide) (by decide) rfl gX q1060 q1062 qs40 q138 q1063 dX0_forget_3 (by decide +kernel) rfl rfl (Nat.le_of_ble_eq_true rfl) rfl ?_
  refine AW.if_neB (tgt := 11) dX0_forget_6 (by decide) rfl (fun c_ => by first | exact absurd c_ hc | exact absurd hc c_ | exact Bool.noConfusion (c_.symm.trans hc)) (fun _ => ?_)
  refine AW.iconst (v := 0) dX0_forget_9 (by decide) rfl ?_
  exact AW.bretE dX0_forget_10 rfl rfl rfl rfl
theorem r_X0_forget_t {s : Sg} (hn : (vwS (s.A 514) (s.A 515)).ok) (dt h : Int32) (hc : (vwS (s.A 514) (s.A 515)).forgets dt h = true) (c : Nat) (hc3 : s.A 514 3 = nI c) (h30 : c ≤ 30) : Run 5 mX0_forget [.ref 512, .int dt, .int h] (hp s) (.inl (some (.int (b2i true)))) (hp ((keepS s c).setA 515 (up (s.A 515) (cI (3 + h)) (s.A 515 (cI (3 + h)) ^^^ bit dt)))) := by
  have hb := Vw.hou_b hn (Vw.her_hou (Bool.and_eq_true_iff.mp hc).1)
  have hh : 0 ≤ h.toInt ∧ h.toInt ≤ 6 := ⟨hb.1, hb.2.2⟩
  refine Run.of rfl (Nat.le_of_ble_eq_true rfl) rfl ?_
  refine AW.aload_n dX0_forget_0 rfl rfl ?_
  refine AW.iload_n dX0_forget_1 rfl rfl ?_
  refine AW.iload_n dX0_forget_2 rfl rfl ?_
  refine AW.callV (Y := mX0_canForget) (n := 2) (r_X0_canForget hn _ _) (by decide) (by decide) rfl gX q1060 q1062 qs40 q138 q1063 dX0_forget_3 (by decide +kernel) rfl rfl (Nat.le_of_ble_eq_true rfl) rfl ?_
  refine AW.if_neB (tgt := 11) dX0_forget_6 (by decide) rfl (fun _ => ?_) (fun c_ => by first | exact absurd c_ hc | exact absurd hc c_ | exact absurd c_ (not_not_intro hc) | exact Bool.noConfusion (c_.symm.trans hc))
  refine AW.aload_n dX0_forget_11 rfl rfl ?_
  refine AW.get ci0 0 (by decide) q229 dX0_forget_12 gX rfl rfl ?_
  refine AW.callV (Y := mX1_keeps) (n := 0) (r_X1_keeps hc3 h30) (by decide) (by decide) rfl gN q850 q851 q852 q139 q853 dX0_forget_15 (by decide +kernel) rfl rfl (Nat.le_of_ble_eq_true rfl) rfl ?_
  refine AW.aload_n dX0_forget_18 rfl rfl ?_
  refine AW.get ci0 0 (by decide) q229 dX0_forget_19 gX rfl rfl ?_
  refine AW.getN ci1 1 (by decide) q193 dX0_forget_22 gN rfl rfl ?_
  refine AW.iconst (v := 3) dX0_forget_25 (by decide) rfl ?_
  refine AW.iload_n dX0_forget_26 rfl rfl ?_
  refine AW.iadd dX0_forget_27 rfl ?_
  refine AW.dup2 dX0_forget_28 rfl rfl rfl ?_
  refine AW.iald dX0_forget_29 g515 (in_c3 hh (by decide) (by decide)) rfl rfl ?_
  refine AW.iconst (v := 1) dX0_forget_30 (by decide) rfl ?_
  refine AW.iload_n dX0_forget_31 rfl rfl ?_
  refine AW.ishl dX0_forget_32 rfl ?_
  refine AW.ixor dX0_forget_33 rfl ?_
  refine AW.iast dX0_forget_34 (by decide) g515 (in_c3 hh (by decide) (by decide)) rfl s515 rfl ?_
  refine AW.iconst (v := 1) dX0_forget_35 (by decide) rfl ?_
  exact AW.bretE dX0_forget_36 rfl rfl rfl (by rw [keepS_515 h30]; rfl)
def Vw.wedsS (v : Vw) (h e : Int32) : Bool := v.her h && v.her e && !decide (h = e) && !decide (wedS (v.sh h) (v.sh e) = -1)
theorem r_X0_marry_f {s : Sg} (hn : (vwS (s.A 514) (s.A 515)).ok) (h e : Int32) (hc : (vwS (s.A 514) (s.A 515)).wedsS h e = false) : Run 4 mX0_marry [.ref 512, .int h, .int e] (hp s) (.inl (some (.int (-1)))) (hp s) := by
  refine Run.of rfl (Nat.le_of_ble_eq_true rfl) rfl ?_
  refine AW.aload_n dX0_marry_0 rfl rfl ?_
  refine AW.iload_n dX0_marry_1 rfl rfl ?_
  refine AW.callV (Y := mX0_isThere) (n := 1) (r_X0_isThere _) (by decide) (by decide) rfl gX q980 q982 qs33 q138 q983 dX0_marry_2 (by decide +kernel) rfl rfl (Nat.le_of_ble_eq_true rfl) rfl ?_
  refine AW.if_eqB (tgt := 31) dX0_marry_5 (by decide) rfl (fun c5 => ?_) (fun c5 => ?_)
  · refine AW.iconst (v := (-1)) dX0_marry_31 (by decide) rfl ?_
    exact AW.iretE dX0_marry_32 rfl rfl rfl rfl
  · refine AW.aload_n dX0_marry_8 rfl rfl ?_
    refine AW.iload_n dX0_marry_9 rfl rfl ?_
    refine AW.callV (Y := mX0_isThere) (n := 1) (r_X0_isThere _) (by decide) (by decide) rfl gX q980 q982 qs33 q138 q983 dX0_marry_10 (by decide +kernel) rfl rfl (Nat.le_of_ble_eq_true rfl) rfl ?_
    refine AW.if_eqB (tgt := 31) dX0_marry_13 (by decide) rfl (fun c13 => ?_) (fun c13 => ?_)
    · refine AW.iconst (v := (-1)) dX0_marry_31 (by decide) rfl ?_
      exact AW.iretE dX0_marry_32 rfl rfl rfl rfl
    · refine AW.iload_n dX0_marry_16 rfl rfl ?_
      refine AW.iload_n dX0_marry_17 rfl rfl ?_
      refine AW.icmp_eq (tgt := 31) dX0_marry_18 (by decide) rfl (fun c18 => ?_) (fun c18 => ?_)
      · refine AW.iconst (v := (-1)) dX0_marry_31 (by decide) rfl ?_
        exact AW.iretE dX0_marry_32 rfl rfl rfl rfl
      · refine AW.aload_n dX0_marry_21 rfl rfl ?_
        refine AW.iload_n dX0_marry_22 rfl rfl ?_
        refine AW.iload_n dX0_marry_23 rfl rfl ?_
        refine AW.callV (Y := mX0_wedDates) (n := 2) (r_X0_wedDates hn _ _ (Vw.her_hou c5) (Vw.her_hou c13)) (by decide) (by decide) rfl gX q1036 q1038 qs36 q138 q1039 dX0_marry_24 (by decide +kernel) rfl rfl (Nat.le_of_ble_eq_true rfl) rfl ?_
        refine AW.iconst (v := (-1)) dX0_marry_27 (by decide) rfl ?_
        refine AW.icmp_ne (tgt := 33) dX0_marry_28 (by decide) rfl (fun c28 => ?_) (fun c28 => ?_)
        · rw [← vwS_sh (Vw.her_hou c5), ← vwS_sh (Vw.her_hou c13)] at c28
          exact absurd hc (by unfold Vw.wedsS; rw [c5, c13, dec_f c18, dec_f c28]; decide)
        · refine AW.iconst (v := (-1)) dX0_marry_31 (by decide) rfl ?_
          exact AW.iretE dX0_marry_32 rfl rfl rfl rfl
theorem r_X0_marry_t {s : Sg} (hn : (vwS (s.A 514) (s.A 515)).ok) (h e : Int32) (hc : (vwS (s.A 514) (s.A 515)).wedsS h e = true) (c : Nat) (hc3 : s.A 514 3 = nI c) (h30 : c ≤ 30) : Run 4 mX0_marry [.ref 512, .int h, .int e] (hp s) (.inl (some (.int (marryR (s.A 515) h e (cI (3 + e)))))) (hp ((keepS s c).setA 515 (marryR (s.A 515) h e))) := by
  simp only [Vw.wedsS, Bool.and_eq_true, Bool.not_eq_true', decide_eq_false_iff_not] at hc
  obtain ⟨⟨⟨c5, c13⟩, c18⟩, c28⟩ := hc
  have bh := Vw.hou_b hn (Vw.her_hou c5)
  have be := Vw.hou_b hn (Vw.her_hou c13)
  have hh : 0 ≤ h.toInt ∧ h.toInt ≤ 6 := ⟨bh.1, bh.2.2⟩
  have he : 0 ≤ e.toInt ∧ e.toInt ≤ 6 := ⟨be.1, be.2.2⟩
  rw [vwS_sh (Vw.her_hou c5), vwS_sh (Vw.her_hou c13)] at c28
  refine Run.of rfl (Nat.le_of_ble_eq_true rfl) rfl ?_
  refine AW.aload_n dX0_marry_0 rfl rfl ?_
  refine AW.iload_n dX0_marry_1 rfl rfl ?_
  refine AW.callV (Y := mX0_isThere) (n := 1) (r_X0_isThere _) (by decide) (by decide) rfl gX q980 q982 qs33 q138 q983 dX0_marry_2 (by decide +kernel) rfl rfl (Nat.le_of_ble_eq_true rfl) rfl ?_
  refine AW.if_eqB (tgt := 31) dX0_marry_5 (by decide) rfl (fun c_ => by first | exact absurd c_ c5 | exact absurd c5 c_ | exact Bool.noConfusion (c_.symm.trans c5)) (fun _ => ?_)
  refine AW.aload_n dX0_marry_8 rfl rfl ?_
  refine AW.iload_n dX0_marry_9 rfl rfl ?_
  refine AW.callV (Y := mX0_isThere) (n := 1) (r_X0_isThere _) (by decide) (by decide) rfl gX q980 q982 qs33 q138 q983 dX0_marry_10 (by decide +kernel) rfl rfl (Nat.le_of_ble_eq_true rfl) rfl ?_
  refine AW.if_eqB (tgt := 31) dX0_marry_13 (by decide) rfl (fun c_ => by first | exact absurd c_ c13 | exact absurd c13 c_ | exact Bool.noConfusion (c_.symm.trans c13)) (fun _ => ?_)
  refine AW.iload_n dX0_marry_16 rfl rfl ?_
  refine AW.iload_n dX0_marry_17 rfl rfl ?_
  refine AW.icmp_eq (tgt := 31) dX0_marry_18 (by decide) rfl (fun c_ => by first | exact absurd c_ c18 | exact absurd c18 c_ | exact Bool.noConfusion (c_.symm.trans c18)) (fun _ => ?_)
  refine AW.aload_n dX0_marry_21 rfl rfl ?_
  refine AW.iload_n dX0_marry_22 rfl rfl ?_
  refine AW.iload_n dX0_marry_23 rfl rfl ?_
  refine AW.callV (Y := mX0_wedDates) (n := 2) (r_X0_wedDates hn _ _ (Vw.her_hou c5) (Vw.her_hou c13)) (by decide) (by decide) rfl gX q1036 q1038 qs36 q138 q1039 dX0_marry_24 (by decide +kernel) rfl rfl (Nat.le_of_ble_eq_true rfl) rfl ?_
  refine AW.iconst (v := (-1)) dX0_marry_27 (by decide) rfl ?_
  refine AW.icmp_ne (tgt := 33) dX0_marry_28 (by decide) rfl (fun _ => ?_) (fun c_ => by first | exact absurd c_ c28 | exact absurd c28 c_ | exact absurd c_ (not_not_intro c28) | exact Bool.noConfusion (c_.symm.trans c28))
  refine AW.aload_n dX0_marry_33 rfl rfl ?_
  refine AW.get ci0 0 (by decide) q229 dX0_marry_34 gX rfl rfl ?_
  refine AW.getN ci1 1 (by decide) q193 dX0_marry_37 gN rfl rfl ?_
  refine AW.astore_n (i := 3) dX0_marry_40 rfl rfl (Nat.le_of_ble_eq_true rfl) rfl rfl ?_
  refine AW.aload_n dX0_marry_41 rfl rfl ?_
  refine AW.get ci0 0 (by decide) q229 dX0_marry_42 gX rfl rfl ?_
  refine AW.callV (Y := mX1_keeps) (n := 0) (r_X1_keeps hc3 h30) (by decide) (by decide) rfl gN q850 q851 q852 q139 q853 dX0_marry_45 (by decide +kernel) rfl rfl (Nat.le_of_ble_eq_true rfl) rfl ?_
  refine AW.aload_n dX0_marry_48 rfl rfl ?_
  refine AW.iconst (v := 3) dX0_marry_49 (by decide) rfl ?_
  refine AW.iload_n dX0_marry_50 rfl rfl ?_
  refine AW.iadd dX0_marry_51 rfl ?_
  refine AW.aload_n dX0_marry_52 rfl rfl ?_
  refine AW.iload_n dX0_marry_53 rfl rfl ?_
  refine AW.iload_n dX0_marry_54 rfl rfl ?_
  refine AW.callV (Y := mX0_wedDates) (n := 2) (r_X0_wedDates (s := keepS s c) (by rw [keepS_v h30]; exact hn) h e (by rw [keepS_v h30]; exact Vw.her_hou c5) (by rw [keepS_v h30]; exact Vw.her_hou c13)) (by decide) (by decide) rfl gX q1036 q1038 qs36 q138 q1039 dX0_marry_55 (by decide +kernel) rfl rfl (Nat.le_of_ble_eq_true rfl) rfl ?_
  refine AW.iast dX0_marry_58 (by decide) g515 (in_c3 he (by decide) (by decide)) rfl s515 rfl ?_
  refine AW.hp (h2 := hp ((keepS s c).setA 515 (mar1 (s.A 515) h e))) (by rw [keepS_515 h30]; rfl) ?_
  refine AW.aload_n dX0_marry_59 rfl rfl ?_
  refine AW.bipush (v := 10) dX0_marry_60 (by decide) rfl ?_
  refine AW.iload_n dX0_marry_62 rfl rfl ?_
  refine AW.iadd dX0_marry_63 rfl ?_
  refine AW.sipush (v := 9999) dX0_marry_64 (by decide) rfl ?_
  refine AW.aload_n dX0_marry_67 rfl rfl ?_
  refine AW.bipush (v := 10) dX0_marry_68 (by decide) rfl ?_
  refine AW.iload_n dX0_marry_70 rfl rfl ?_
  refine AW.iadd dX0_marry_71 rfl ?_
  refine AW.iald dX0_marry_72 g515 (in_c3 he (by decide) (by decide)) rfl rfl ?_
  refine AW.aload_n dX0_marry_73 rfl rfl ?_
  refine AW.bipush (v := 10) dX0_marry_74 (by decide) rfl ?_
  refine AW.iload_n dX0_marry_76 rfl rfl ?_
  refine AW.iadd dX0_marry_77 rfl ?_
  refine AW.iald dX0_marry_78 g515 (in_c3 hh (by decide) (by decide)) rfl rfl ?_
  refine AW.iadd dX0_marry_79 rfl ?_
  refine AW.mmin dX0_marry_80 q975 q452 q151 q453 (by decide) (Nat.le_of_ble_eq_true rfl) rfl ?_
  refine AW.iast dX0_marry_83 (by decide) g515 (in_c3 he (by decide) (by decide)) rfl s515 rfl ?_
  refine AW.hp (h2 := hp ((keepS s c).setA 515 (mar2 (s.A 515) h e))) (by rw [setA_at, setA_setA]; rfl) ?_
  refine AW.aload_n dX0_marry_84 rfl rfl ?_
  refine AW.bipush (v := 17) dX0_marry_85 (by decide) rfl ?_
  refine AW.iload_n dX0_marry_87 rfl rfl ?_
  refine AW.iadd dX0_marry_88 rfl ?_
  refine AW.bipush (v := 99) dX0_marry_89 (by decide) rfl ?_
  refine AW.aload_n dX0_marry_91 rfl rfl ?_
  refine AW.bipush (v := 17) dX0_marry_92 (by decide) rfl ?_
  refine AW.iload_n dX0_marry_94 rfl rfl ?_
  refine AW.iadd dX0_marry_95 rfl ?_
  refine AW.iald dX0_marry_96 g515 (in_c3 he (by decide) (by decide)) rfl rfl ?_
  refine AW.aload_n dX0_marry_97 rfl rfl ?_
  refine AW.bipush (v := 17) dX0_marry_98 (by decide) rfl ?_
  refine AW.iload_n dX0_marry_100 rfl rfl ?_
  refine AW.iadd dX0_marry_101 rfl ?_
  refine AW.iald dX0_marry_102 g515 (in_c3 hh (by decide) (by decide)) rfl rfl ?_
  refine AW.iadd dX0_marry_103 rfl ?_
  refine AW.mmin dX0_marry_104 q975 q452 q151 q453 (by decide) (Nat.le_of_ble_eq_true rfl) rfl ?_
  refine AW.iast dX0_marry_107 (by decide) g515 (in_c3 he (by decide) (by decide)) rfl s515 rfl ?_
  refine AW.hp (h2 := hp ((keepS s c).setA 515 (mar3 (s.A 515) h e))) (by rw [setA_at, setA_setA]; rfl) ?_
  refine AW.aload_n dX0_marry_108 rfl rfl ?_
  refine AW.iconst (v := 2) dX0_marry_109 (by decide) rfl ?_
  refine AW.dup2 dX0_marry_110 rfl rfl rfl ?_
  refine AW.iald dX0_marry_111 g515 (vp_in_iff.mpr (by decide)) (j := 2) (by decide) rfl ?_
  refine AW.iconst (v := 1) dX0_marry_112 (by decide) rfl ?_
  refine AW.iload_n dX0_marry_113 rfl rfl ?_
  refine AW.ishl dX0_marry_114 rfl ?_
  refine AW.ior dX0_marry_115 rfl ?_
  refine AW.iast dX0_marry_116 (by decide) g515 (vp_in_iff.mpr (by decide)) (j := 2) (by decide) s515 rfl ?_
  refine AW.aload_n dX0_marry_117 rfl rfl ?_
  refine AW.iconst (v := 3) dX0_marry_118 (by decide) rfl ?_
  refine AW.iload_n dX0_marry_119 rfl rfl ?_
  refine AW.iadd dX0_marry_120 rfl ?_
  refine AW.iald dX0_marry_121 g515 (in_c3 he (by decide) (by decide)) rfl rfl ?_
  exact AW.iretE dX0_marry_122 rfl rfl rfl (congrArg hp setA_setA5)
