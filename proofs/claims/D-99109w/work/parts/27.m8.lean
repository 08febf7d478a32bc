/-! MODEL 8: marry, feed (printed by tools/m8.py) -/
set_option maxRecDepth 100000
def Vw.weds (v : Vw) (h e : Int32) : Bool := v.her h && v.her e && !decide (h = e) && decide (bitsI (wedI (v.sh h) (v.sh e)) ≤ 3)
theorem r_X2_marry_f {s : Sg} (hn : (vwM (s.A 626)).ok) (h e : Int32) (hb : (vwM (s.A 626)).weds h e = false) : Run 4 mX2_marry [.ref 625, .int h, .int e] (hp s) (.inl (some (.int (-1)))) (hp s) := by
  refine Run.of rfl (Nat.le_of_ble_eq_true rfl) rfl ?_
  refine AW.aload_n dX2_marry_0 rfl rfl ?_
  refine AW.iload_n dX2_marry_1 rfl rfl ?_
  refine AW.callV (Y := mX2_isHere) (n := 1) (r_X2_isHere hn _) (by decide) (by decide) rfl gM q1649 q1651 qs91 q141 q1652 dX2_marry_2 (by decide +kernel) rfl rfl (Nat.le_of_ble_eq_true rfl) rfl ?_
  refine AW.if_eqB (tgt := 21) dX2_marry_5 (by decide) rfl (fun c5 => ?_) (fun c5 => ?_)
  · refine AW.iconst (v := (-1)) dX2_marry_21 (by decide) rfl ?_
    exact AW.iretE dX2_marry_22 rfl rfl rfl rfl
  · refine AW.aload_n dX2_marry_8 rfl rfl ?_
    refine AW.iload_n dX2_marry_9 rfl rfl ?_
    refine AW.callV (Y := mX2_isHere) (n := 1) (r_X2_isHere hn _) (by decide) (by decide) rfl gM q1649 q1651 qs91 q141 q1652 dX2_marry_10 (by decide +kernel) rfl rfl (Nat.le_of_ble_eq_true rfl) rfl ?_
    refine AW.if_eqB (tgt := 21) dX2_marry_13 (by decide) rfl (fun c13 => ?_) (fun c13 => ?_)
    · refine AW.iconst (v := (-1)) dX2_marry_21 (by decide) rfl ?_
      exact AW.iretE dX2_marry_22 rfl rfl rfl rfl
    · refine AW.iload_n dX2_marry_16 rfl rfl ?_
      refine AW.iload_n dX2_marry_17 rfl rfl ?_
      refine AW.icmp_ne (tgt := 23) dX2_marry_18 (by decide) rfl (fun c18 => ?_) (fun c18 => ?_)
      · refine AW.aload_n dX2_marry_23 rfl rfl ?_
        refine AW.iload_n dX2_marry_24 rfl rfl ?_
        refine AW.iconst (v := 0) dX2_marry_25 (by decide) rfl ?_
        refine AW.callV (Y := mX2_get) (n := 2) (r_X2_get _ _ (in_get hn (Vw.her_hou c5) (by decide) (by decide))) (by decide) (by decide) rfl gM q1477 q1479 qs63 q141 q1480 dX2_marry_26 (by decide +kernel) rfl rfl (Nat.le_of_ble_eq_true rfl) rfl ?_
        refine AW.aload_n dX2_marry_29 rfl rfl ?_
        refine AW.iload_n dX2_marry_30 rfl rfl ?_
        refine AW.iconst (v := 0) dX2_marry_31 (by decide) rfl ?_
        refine AW.callV (Y := mX2_get) (n := 2) (r_X2_get _ _ (in_get hn (Vw.her_hou c13) (by decide) (by decide))) (by decide) (by decide) rfl gM q1477 q1479 qs63 q141 q1480 dX2_marry_32 (by decide +kernel) rfl rfl (Nat.le_of_ble_eq_true rfl) rfl ?_
        refine AW.iand dX2_marry_35 rfl ?_
        refine AW.istore_n (i := 3) dX2_marry_36 rfl rfl (Nat.le_of_ble_eq_true rfl) rfl rfl ?_
        refine AW.iload_n dX2_marry_37 rfl rfl ?_
        refine AW.if_eq (tgt := 45) dX2_marry_38 (by decide) rfl (fun c38 => ?_) (fun c38 => ?_)
        · refine AW.aload_n dX2_marry_45 rfl rfl ?_
          refine AW.iload_n dX2_marry_46 rfl rfl ?_
          refine AW.iconst (v := 0) dX2_marry_47 (by decide) rfl ?_
          refine AW.callV (Y := mX2_get) (n := 2) (r_X2_get _ _ (in_get hn (Vw.her_hou c5) (by decide) (by decide))) (by decide) (by decide) rfl gM q1477 q1479 qs63 q141 q1480 dX2_marry_48 (by decide +kernel) rfl rfl (Nat.le_of_ble_eq_true rfl) rfl ?_
          refine AW.aload_n dX2_marry_51 rfl rfl ?_
          refine AW.iload_n dX2_marry_52 rfl rfl ?_
          refine AW.iconst (v := 0) dX2_marry_53 (by decide) rfl ?_
          refine AW.callV (Y := mX2_get) (n := 2) (r_X2_get _ _ (in_get hn (Vw.her_hou c13) (by decide) (by decide))) (by decide) (by decide) rfl gM q1477 q1479 qs63 q141 q1480 dX2_marry_54 (by decide +kernel) rfl rfl (Nat.le_of_ble_eq_true rfl) rfl ?_
          refine AW.ior dX2_marry_57 rfl ?_
          refine AW.istore dX2_marry_58 rfl (Nat.le_of_ble_eq_true rfl) rfl rfl ?_
          refine AW.iload dX2_marry_60 rfl rfl ?_
          refine AW.callS (Y := mX2_bits) (n := 1) (r_X2_bits _) (by decide) (by decide) q1685 q1686 q141 q1687 dX2_marry_62 (by decide +kernel) rfl rfl (Nat.le_of_ble_eq_true rfl) rfl ?_
          refine AW.iconst (v := 3) dX2_marry_65 (by decide) rfl ?_
          refine AW.icmp_le (tgt := 71) dX2_marry_66 (by decide) rfl (fun c66 => ?_) (fun c66 => ?_)
          · have e1 := vwM_sh (Vw.her_hou c5)
            have e2 := vwM_sh (Vw.her_hou c13)
            exfalso
            revert hb
            have hw : bitsI (wedI ((vwM (s.A 626)).sh h) ((vwM (s.A 626)).sh e)) ≤ 3 := by rw [e1, e2]; unfold wedI; first | (rw [if_pos c38]; exact c66) | (rw [if_neg c38]; exact c66)
            simp [Vw.weds, c5, c13, c18, hw]
          · refine AW.iconst (v := (-1)) dX2_marry_69 (by decide) rfl ?_
            exact AW.iretE dX2_marry_70 rfl rfl rfl rfl
        · refine AW.iload_n dX2_marry_41 rfl rfl ?_
          refine AW.goto (tgt := 58) dX2_marry_42 (by decide) ?_
          refine AW.istore dX2_marry_58 rfl (Nat.le_of_ble_eq_true rfl) rfl rfl ?_
          refine AW.iload dX2_marry_60 rfl rfl ?_
          refine AW.callS (Y := mX2_bits) (n := 1) (r_X2_bits _) (by decide) (by decide) q1685 q1686 q141 q1687 dX2_marry_62 (by decide +kernel) rfl rfl (Nat.le_of_ble_eq_true rfl) rfl ?_
          refine AW.iconst (v := 3) dX2_marry_65 (by decide) rfl ?_
          refine AW.icmp_le (tgt := 71) dX2_marry_66 (by decide) rfl (fun c66 => ?_) (fun c66 => ?_)
          · have e1 := vwM_sh (Vw.her_hou c5)
            have e2 := vwM_sh (Vw.her_hou c13)
            exfalso
            revert hb
            have hw : bitsI (wedI ((vwM (s.A 626)).sh h) ((vwM (s.A 626)).sh e)) ≤ 3 := by rw [e1, e2]; unfold wedI; first | (rw [if_pos c38]; exact c66) | (rw [if_neg c38]; exact c66)
            simp [Vw.weds, c5, c13, c18, hw]
          · refine AW.iconst (v := (-1)) dX2_marry_69 (by decide) rfl ?_
            exact AW.iretE dX2_marry_70 rfl rfl rfl rfl
      · refine AW.iconst (v := (-1)) dX2_marry_21 (by decide) rfl ?_
        exact AW.iretE dX2_marry_22 rfl rfl rfl rfl
theorem r_X2_marry_t {s : Sg} (hn : (vwM (s.A 626)).ok) (h e : Int32) (hb : (vwM (s.A 626)).weds h e = true) (c : Nat) (h3 : s.A 626 3 = nI c) (h30 : c ≤ 30) : Run 4 mX2_marry [.ref 625, .int h, .int e] (hp s) (.inl (some (.int (wedI ((vwM (s.A 626)).sh h) ((vwM (s.A 626)).sh e))))) (hp (s.setA 626 (marryM (keepM (s.A 626) c) h e (wedI ((vwM (s.A 626)).sh h) ((vwM (s.A 626)).sh e))))) := by
  simp only [Vw.weds, Bool.and_eq_true, Bool.not_eq_true', decide_eq_false_iff_not, decide_eq_true_eq] at hb
  obtain ⟨⟨⟨c5, c13⟩, c18⟩, c66⟩ := hb
  have e1 := vwM_sh (Vw.her_hou c5)
  have e2 := vwM_sh (Vw.her_hou c13)
  have bh := Vw.hou_b hn (Vw.her_hou c5)
  have be := Vw.hou_b hn (Vw.her_hou c13)
  have ih : ∀ w : Int32, 0 ≤ w.toInt → w.toInt ≤ 7 → vp_in (12 + 8 * h + w) 2308 := fun w q1 q2 => in_lin bh.1 (by omega) q1 q2
  have ie : ∀ w : Int32, 0 ≤ w.toInt → w.toInt ≤ 7 → vp_in (12 + 8 * e + w) 2308 := fun w q1 q2 => in_lin be.1 (by omega) q1 q2
  refine Run.of rfl (Nat.le_of_ble_eq_true rfl) rfl ?_
  refine AW.aload_n dX2_marry_0 rfl rfl ?_
  refine AW.iload_n dX2_marry_1 rfl rfl ?_
  refine AW.callV (Y := mX2_isHere) (n := 1) (r_X2_isHere hn _) (by decide) (by decide) rfl gM q1649 q1651 qs91 q141 q1652 dX2_marry_2 (by decide +kernel) rfl rfl (Nat.le_of_ble_eq_true rfl) rfl ?_
  refine AW.if_eqB (tgt := 21) dX2_marry_5 (by decide) rfl (fun c_ => by first | exact absurd c_ c5 | exact absurd c5 c_ | exact Bool.noConfusion (c_.symm.trans c5)) (fun _ => ?_)
  refine AW.aload_n dX2_marry_8 rfl rfl ?_
  refine AW.iload_n dX2_marry_9 rfl rfl ?_
  refine AW.callV (Y := mX2_isHere) (n := 1) (r_X2_isHere hn _) (by decide) (by decide) rfl gM q1649 q1651 qs91 q141 q1652 dX2_marry_10 (by decide +kernel) rfl rfl (Nat.le_of_ble_eq_true rfl) rfl ?_
  refine AW.if_eqB (tgt := 21) dX2_marry_13 (by decide) rfl (fun c_ => by first | exact absurd c_ c13 | exact absurd c13 c_ | exact Bool.noConfusion (c_.symm.trans c13)) (fun _ => ?_)
  refine AW.iload_n dX2_marry_16 rfl rfl ?_
  refine AW.iload_n dX2_marry_17 rfl rfl ?_
  refine AW.icmp_ne (tgt := 23) dX2_marry_18 (by decide) rfl (fun _ => ?_) (fun c_ => by first | exact absurd c_ c18 | exact absurd c18 c_ | exact absurd c_ (not_not_intro c18) | exact Bool.noConfusion (c_.symm.trans c18))
  refine AW.aload_n dX2_marry_23 rfl rfl ?_
  refine AW.iload_n dX2_marry_24 rfl rfl ?_
  refine AW.iconst (v := 0) dX2_marry_25 (by decide) rfl ?_
  refine AW.callV (Y := mX2_get) (n := 2) (r_X2_get _ _ (in_get hn (Vw.her_hou c5) (by decide) (by decide))) (by decide) (by decide) rfl gM q1477 q1479 qs63 q141 q1480 dX2_marry_26 (by decide +kernel) rfl rfl (Nat.le_of_ble_eq_true rfl) rfl ?_
  refine AW.aload_n dX2_marry_29 rfl rfl ?_
  refine AW.iload_n dX2_marry_30 rfl rfl ?_
  refine AW.iconst (v := 0) dX2_marry_31 (by decide) rfl ?_
  refine AW.callV (Y := mX2_get) (n := 2) (r_X2_get _ _ (in_get hn (Vw.her_hou c13) (by decide) (by decide))) (by decide) (by decide) rfl gM q1477 q1479 qs63 q141 q1480 dX2_marry_32 (by decide +kernel) rfl rfl (Nat.le_of_ble_eq_true rfl) rfl ?_
  refine AW.iand dX2_marry_35 rfl ?_
  refine AW.istore_n (i := 3) dX2_marry_36 rfl rfl (Nat.le_of_ble_eq_true rfl) rfl rfl ?_
  refine AW.iload_n dX2_marry_37 rfl rfl ?_
  refine AW.if_eq (tgt := 45) dX2_marry_38 (by decide) rfl (fun c38 => ?_) (fun c38 => ?_)
  · refine AW.aload_n dX2_marry_45 rfl rfl ?_
    refine AW.iload_n dX2_marry_46 rfl rfl ?_
    refine AW.iconst (v := 0) dX2_marry_47 (by decide) rfl ?_
    refine AW.callV (Y := mX2_get) (n := 2) (r_X2_get _ _ (in_get hn (Vw.her_hou c5) (by decide) (by decide))) (by decide) (by decide) rfl gM q1477 q1479 qs63 q141 q1480 dX2_marry_48 (by decide +kernel) rfl rfl (Nat.le_of_ble_eq_true rfl) rfl ?_
    refine AW.aload_n dX2_marry_51 rfl rfl ?_
    refine AW.iload_n dX2_marry_52 rfl rfl ?_
    refine AW.iconst (v := 0) dX2_marry_53 (by decide) rfl ?_
    refine AW.callV (Y := mX2_get) (n := 2) (r_X2_get _ _ (in_get hn (Vw.her_hou c13) (by decide) (by decide))) (by decide) (by decide) rfl gM q1477 q1479 qs63 q141 q1480 dX2_marry_54 (by decide +kernel) rfl rfl (Nat.le_of_ble_eq_true rfl) rfl ?_
    refine AW.ior dX2_marry_57 rfl ?_
    refine AW.istore dX2_marry_58 rfl (Nat.le_of_ble_eq_true rfl) rfl rfl ?_
    refine AW.iload dX2_marry_60 rfl rfl ?_
    refine AW.callS (Y := mX2_bits) (n := 1) (r_X2_bits _) (by decide) (by decide) q1685 q1686 q141 q1687 dX2_marry_62 (by decide +kernel) rfl rfl (Nat.le_of_ble_eq_true rfl) rfl ?_
    refine AW.iconst (v := 3) dX2_marry_65 (by decide) rfl ?_
    refine AW.icmp_le (tgt := 71) dX2_marry_66 (by decide) rfl (fun _ => ?_) (fun c_ => by first | exact absurd c_ (by rw [e1, e2] at c66; unfold wedI at c66; first | (rw [if_pos c38] at c66; exact c66) | (rw [if_neg c38] at c66; exact c66)) | exact absurd (by rw [e1, e2] at c66; unfold wedI at c66; first | (rw [if_pos c38] at c66; exact c66) | (rw [if_neg c38] at c66; exact c66)) c_ | exact absurd c_ (not_not_intro (by rw [e1, e2] at c66; unfold wedI at c66; first | (rw [if_pos c38] at c66; exact c66) | (rw [if_neg c38] at c66; exact c66))) | exact Bool.noConfusion (c_.symm.trans (by rw [e1, e2] at c66; unfold wedI at c66; first | (rw [if_pos c38] at c66; exact c66) | (rw [if_neg c38] at c66; exact c66))))
    refine AW.aload_n dX2_marry_71 rfl rfl ?_
    refine AW.callV (Y := mX2_keep) (n := 0) (r_X2_keep c h3 h30) (by decide) (by decide) rfl gM q1657 q1659 qs93 q141 q1660 dX2_marry_72 (by decide +kernel) rfl rfl (Nat.le_of_ble_eq_true rfl) rfl ?_
    refine AW.aload_n dX2_marry_75 rfl rfl ?_
    refine AW.iload_n dX2_marry_76 rfl rfl ?_
    refine AW.iconst (v := 0) dX2_marry_77 (by decide) rfl ?_
    refine AW.iload dX2_marry_78 rfl rfl ?_
    refine AW.callV (Y := mX2_put) (n := 3) (r_X2_put (s := s.setA 626 _) _ 0 _ (ie 0 (by decide) (by decide))) (by decide) (by decide) rfl gM q1469 q1471 qs61 q141 q1472 dX2_marry_80 (by decide +kernel) rfl rfl (Nat.le_of_ble_eq_true rfl) rfl ?_
    refine AW.aload_n dX2_marry_83 rfl rfl ?_
    refine AW.iload_n dX2_marry_84 rfl rfl ?_
    refine AW.iconst (v := 1) dX2_marry_85 (by decide) rfl ?_
    refine AW.aload_n dX2_marry_86 rfl rfl ?_
    refine AW.iload_n dX2_marry_87 rfl rfl ?_
    refine AW.iconst (v := 1) dX2_marry_88 (by decide) rfl ?_
    refine AW.callV (Y := mX2_get) (n := 2) (r_X2_get (s := (s.setA 626 _).setA 626 _) _ 1 (ie 1 (by decide) (by decide))) (by decide) (by decide) rfl gM q1477 q1479 qs63 q141 q1480 dX2_marry_89 (by decide +kernel) rfl rfl (Nat.le_of_ble_eq_true rfl) rfl ?_
    refine AW.aload_n dX2_marry_92 rfl rfl ?_
    refine AW.iload_n dX2_marry_93 rfl rfl ?_
    refine AW.iconst (v := 1) dX2_marry_94 (by decide) rfl ?_
    refine AW.callV (Y := mX2_get) (n := 2) (r_X2_get (s := (s.setA 626 _).setA 626 _) _ 1 (ih 1 (by decide) (by decide))) (by decide) (by decide) rfl gM q1477 q1479 qs63 q141 q1480 dX2_marry_95 (by decide +kernel) rfl rfl (Nat.le_of_ble_eq_true rfl) rfl ?_
    refine AW.iadd dX2_marry_98 rfl ?_
    refine AW.i2l dX2_marry_99 rfl ?_
    refine AW.iconst (v := 0) dX2_marry_100 (by decide) rfl ?_
    refine AW.sipush (v := 9999) dX2_marry_101 (by decide) rfl ?_
    refine AW.callS (Y := mX2_cut) (n := 3) (r_X2_cut _ _ _) (by decide) (by decide) q1726 q1727 q141 q1728 dX2_marry_104 (by decide +kernel) rfl rfl (Nat.le_of_ble_eq_true rfl) rfl ?_
    refine AW.callV (Y := mX2_put) (n := 3) (r_X2_put (s := (s.setA 626 _).setA 626 _) _ 1 _ (ie 1 (by decide) (by decide))) (by decide) (by decide) rfl gM q1469 q1471 qs61 q141 q1472 dX2_marry_107 (by decide +kernel) rfl rfl (Nat.le_of_ble_eq_true rfl) rfl ?_
    refine AW.aload_n dX2_marry_110 rfl rfl ?_
    refine AW.iload_n dX2_marry_111 rfl rfl ?_
    refine AW.iconst (v := 2) dX2_marry_112 (by decide) rfl ?_
    refine AW.aload_n dX2_marry_113 rfl rfl ?_
    refine AW.iload_n dX2_marry_114 rfl rfl ?_
    refine AW.iconst (v := 2) dX2_marry_115 (by decide) rfl ?_
    refine AW.callV (Y := mX2_get) (n := 2) (r_X2_get (s := ((s.setA 626 _).setA 626 _).setA 626 _) _ 2 (ie 2 (by decide) (by decide))) (by decide) (by decide) rfl gM q1477 q1479 qs63 q141 q1480 dX2_marry_116 (by decide +kernel) rfl rfl (Nat.le_of_ble_eq_true rfl) rfl ?_
    refine AW.aload_n dX2_marry_119 rfl rfl ?_
    refine AW.iload_n dX2_marry_120 rfl rfl ?_
    refine AW.iconst (v := 2) dX2_marry_121 (by decide) rfl ?_
    refine AW.callV (Y := mX2_get) (n := 2) (r_X2_get (s := ((s.setA 626 _).setA 626 _).setA 626 _) _ 2 (ih 2 (by decide) (by decide))) (by decide) (by decide) rfl gM q1477 q1479 qs63 q141 q1480 dX2_marry_122 (by decide +kernel) rfl rfl (Nat.le_of_ble_eq_true rfl) rfl ?_
    refine AW.iadd dX2_marry_125 rfl ?_
    refine AW.i2l dX2_marry_126 rfl ?_
    refine AW.iconst (v := 0) dX2_marry_127 (by decide) rfl ?_
    refine AW.bipush (v := 99) dX2_marry_128 (by decide) rfl ?_
    refine AW.callS (Y := mX2_cut) (n := 3) (r_X2_cut _ _ _) (by decide) (by decide) q1726 q1727 q141 q1728 dX2_marry_130 (by decide +kernel) rfl rfl (Nat.le_of_ble_eq_true rfl) rfl ?_
    refine AW.callV (Y := mX2_put) (n := 3) (r_X2_put (s := ((s.setA 626 _).setA 626 _).setA 626 _) _ 2 _ (ie 2 (by decide) (by decide))) (by decide) (by decide) rfl gM q1469 q1471 qs61 q141 q1472 dX2_marry_133 (by decide +kernel) rfl rfl (Nat.le_of_ble_eq_true rfl) rfl ?_
    refine AW.aload_n dX2_marry_136 rfl rfl ?_
    refine AW.iload_n dX2_marry_137 rfl rfl ?_
    refine AW.iconst (v := 3) dX2_marry_138 (by decide) rfl ?_
    refine AW.iconst (v := 1) dX2_marry_139 (by decide) rfl ?_
    refine AW.callV (Y := mX2_put) (n := 3) (r_X2_put (s := (((s.setA 626 _).setA 626 _).setA 626 _).setA 626 _) _ 3 _ (ih 3 (by decide) (by decide))) (by decide) (by decide) rfl gM q1469 q1471 qs61 q141 q1472 dX2_marry_140 (by decide +kernel) rfl rfl (Nat.le_of_ble_eq_true rfl) rfl ?_
    refine AW.iload dX2_marry_143 rfl rfl ?_
    exact AW.iretE dX2_marry_145 rfl rfl (by rw [e1, e2]; unfold wedI; first | (rw [if_pos c38]; done) | (rw [if_neg c38]; done)) (by rw [e1, e2]; unfold wedI; (first | rw [if_pos c38] | rw [if_neg c38]); simp only [setA_at, setA_setA]; rfl)
  · refine AW.iload_n dX2_marry_41 rfl rfl ?_
    refine AW.goto (tgt := 58) dX2_marry_42 (by decide) ?_
    refine AW.istore dX2_marry_58 rfl (Nat.le_of_ble_eq_true rfl) rfl rfl ?_
    refine AW.iload dX2_marry_60 rfl rfl ?_
    refine AW.callS (Y := mX2_bits) (n := 1) (r_X2_bits _) (by decide) (by decide) q1685 q1686 q141 q1687 dX2_marry_62 (by decide +kernel) rfl rfl (Nat.le_of_ble_eq_true rfl) rfl ?_
    refine AW.iconst (v := 3) dX2_marry_65 (by decide) rfl ?_
    refine AW.icmp_le (tgt := 71) dX2_marry_66 (by decide) rfl (fun _ => ?_) (fun c_ => by first | exact absurd c_ (by rw [e1, e2] at c66; unfold wedI at c66; first | (rw [if_pos c38] at c66; exact c66) | (rw [if_neg c38] at c66; exact c66)) | exact absurd (by rw [e1, e2] at c66; unfold wedI at c66; first | (rw [if_pos c38] at c66; exact c66) | (rw [if_neg c38] at c66; exact c66)) c_ | exact absurd c_ (not_not_intro (by rw [e1, e2] at c66; unfold wedI at c66; first | (rw [if_pos c38] at c66; exact c66) | (rw [if_neg c38] at c66; exact c66))) | exact Bool.noConfusion (c_.symm.trans (by rw [e1, e2] at c66; unfold wedI at c66; first | (rw [if_pos c38] at c66; exact c66) | (rw [if_neg c38] at c66; exact c66))))
    refine AW.aload_n dX2_marry_71 rfl rfl ?_
    refine AW.callV (Y := mX2_keep) (n := 0) (r_X2_keep c h3 h30) (by decide) (by decide) rfl gM q1657 q1659 qs93 q141 q1660 dX2_marry_72 (by decide +kernel) rfl rfl (Nat.le_of_ble_eq_true rfl) rfl ?_
    refine AW.aload_n dX2_marry_75 rfl rfl ?_
    refine AW.iload_n dX2_marry_76 rfl rfl ?_
    refine AW.iconst (v := 0) dX2_marry_77 (by decide) rfl ?_
    refine AW.iload dX2_marry_78 rfl rfl ?_
    refine AW.callV (Y := mX2_put) (n := 3) (r_X2_put (s := s.setA 626 _) _ 0 _ (ie 0 (by decide) (by decide))) (by decide) (by decide) rfl gM q1469 q1471 qs61 q141 q1472 dX2_marry_80 (by decide +kernel) rfl rfl (Nat.le_of_ble_eq_true rfl) rfl ?_
    refine AW.aload_n dX2_marry_83 rfl rfl ?_
    refine AW.iload_n dX2_marry_84 rfl rfl ?_
    refine AW.iconst (v := 1) dX2_marry_85 (by decide) rfl ?_
    refine AW.aload_n dX2_marry_86 rfl rfl ?_
    refine AW.iload_n dX2_marry_87 rfl rfl ?_
    refine AW.iconst (v := 1) dX2_marry_88 (by decide) rfl ?_
    refine AW.callV (Y := mX2_get) (n := 2) (r_X2_get (s := (s.setA 626 _).setA 626 _) _ 1 (ie 1 (by decide) (by decide))) (by decide) (by decide) rfl gM q1477 q1479 qs63 q141 q1480 dX2_marry_89 (by decide +kernel) rfl rfl (Nat.le_of_ble_eq_true rfl) rfl ?_
    refine AW.aload_n dX2_marry_92 rfl rfl ?_
    refine AW.iload_n dX2_marry_93 rfl rfl ?_
    refine AW.iconst (v := 1) dX2_marry_94 (by decide) rfl ?_
    refine AW.callV (Y := mX2_get) (n := 2) (r_X2_get (s := (s.setA 626 _).setA 626 _) _ 1 (ih 1 (by decide) (by decide))) (by decide) (by decide) rfl gM q1477 q1479 qs63 q141 q1480 dX2_marry_95 (by decide +kernel) rfl rfl (Nat.le_of_ble_eq_true rfl) rfl ?_
    refine AW.iadd dX2_marry_98 rfl ?_
    refine AW.i2l dX2_marry_99 rfl ?_
    refine AW.iconst (v := 0) dX2_marry_100 (by decide) rfl ?_
    refine AW.sipush (v := 9999) dX2_marry_101 (by decide) rfl ?_
    refine AW.callS (Y := mX2_cut) (n := 3) (r_X2_cut _ _ _) (by decide) (by decide) q1726 q1727 q141 q1728 dX2_marry_104 (by decide +kernel) rfl rfl (Nat.le_of_ble_eq_true rfl) rfl ?_
    refine AW.callV (Y := mX2_put) (n := 3) (r_X2_put (s := (s.setA 626 _).setA 626 _) _ 1 _ (ie 1 (by decide) (by decide))) (by decide) (by decide) rfl gM q1469 q1471 qs61 q141 q1472 dX2_marry_107 (by decide +kernel) rfl rfl (Nat.le_of_ble_eq_true rfl) rfl ?_
    refine AW.aload_n dX2_marry_110 rfl rfl ?_
    refine AW.iload_n dX2_marry_111 rfl rfl ?_
    refine AW.iconst (v := 2) dX2_marry_112 (by decide) rfl ?_
    refine AW.aload_n dX2_marry_113 rfl rfl ?_
    refine AW.iload_n dX2_marry_114 rfl rfl ?_
    refine AW.iconst (v := 2) dX2_marry_115 (by decide) rfl ?_
    refine AW.callV (Y := mX2_get) (n := 2) (r_X2_get (s := ((s.setA 626 _).setA 626 _).setA 626 _) _ 2 (ie 2 (by decide) (by decide))) (by decide) (by decide) rfl gM q1477 q1479 qs63 q141 q1480 dX2_marry_116 (by decide +kernel) rfl rfl (Nat.le_of_ble_eq_true rfl) rfl ?_
    refine AW.aload_n dX2_marry_119 rfl rfl ?_
    refine AW.iload_n dX2_marry_120 rfl rfl ?_
    refine AW.iconst (v := 2) dX2_marry_121 (by decide) rfl ?_
    refine AW.callV (Y := mX2_get) (n := 2) (r_X2_get (s := ((s.setA 626 _).setA 626 _).setA 626 _) _ 2 (ih 2 (by decide) (by decide))) (by decide) (by decide) rfl gM q1477 q1479 qs63 q141 q1480 dX2_marry_122 (by decide +kernel) rfl rfl (Nat.le_of_ble_eq_true rfl) rfl ?_
    refine AW.iadd dX2_marry_125 rfl ?_
    refine AW.i2l dX2_marry_126 rfl ?_
    refine AW.iconst (v := 0) dX2_marry_127 (by decide) rfl ?_
    refine AW.bipush (v := 99) dX2_marry_128 (by decide) rfl ?_
    refine AW.callS (Y := mX2_cut) (n := 3) (r_X2_cut _ _ _) (by decide) (by decide) q1726 q1727 q141 q1728 dX2_marry_130 (by decide +kernel) rfl rfl (Nat.le_of_ble_eq_true rfl) rfl ?_
    refine AW.callV (Y := mX2_put) (n := 3) (r_X2_put (s := ((s.setA 626 _).setA 626 _).setA 626 _) _ 2 _ (ie 2 (by decide) (by decide))) (by decide) (by decide) rfl gM q1469 q1471 qs61 q141 q1472 dX2_marry_133 (by decide +kernel) rfl rfl (Nat.le_of_ble_eq_true rfl) rfl ?_
    refine AW.aload_n dX2_marry_136 rfl rfl ?_
    refine AW.iload_n dX2_marry_137 rfl rfl ?_
    refine AW.iconst (v := 3) dX2_marry_138 (by decide) rfl ?_
    refine AW.iconst (v := 1) dX2_marry_139 (by decide) rfl ?_
    refine AW.callV (Y := mX2_put) (n := 3) (r_X2_put (s := (((s.setA 626 _).setA 626 _).setA 626 _).setA 626 _) _ 3 _ (ih 3 (by decide) (by decide))) (by decide) (by decide) rfl gM q1469 q1471 qs61 q141 q1472 dX2_marry_140 (by decide +kernel) rfl rfl (Nat.le_of_ble_eq_true rfl) rfl ?_
    refine AW.iload dX2_marry_143 rfl rfl ?_
    exact AW.iretE dX2_marry_145 rfl rfl (by rw [e1, e2]; unfold wedI; first | (rw [if_pos c38]; done) | (rw [if_neg c38]; done)) (by rw [e1, e2]; unfold wedI; (first | rw [if_pos c38] | rw [if_neg c38]); simp only [setA_at, setA_setA]; rfl)
theorem r_X2_four {s : Sg} (p : Nat) (h4 : s.S 4 = nI p) (hp4 : p + 4 ≤ 300) (v : Int32) : Run 1 mX2_four [.ref 625, .int v] (hp s) (.inl none) (hp ((s.setA 629 (fourM (s.A 629) p v)).setS 4 (nI (p + 4)))) := by
  refine Run.of rfl (Nat.le_of_ble_eq_true rfl) rfl ?_
  refine AW.bipush (v := 24) dX2_four_0 (by decide) rfl ?_
  refine AW.istore_n (i := 2) dX2_four_2 rfl rfl (Nat.le_of_ble_eq_true rfl) rfl rfl ?_
  refine AW.hp (h2 := (hp ((s.setA 629 (mv (s.A 629) p (fun j => v >>> (nI (24 - 8 * j) &&& 31) &&& 255) 0)).setS 4 (nI (p + 0))))) (by rw [mv_0, setA_id, Nat.add_zero, ← h4, setS_id]) ?_
  refine loopUp (P := fun k => AW 1 mX2_four (hp ((s.setA 629 (mv (s.A 629) p (fun j => v >>> (nI (24 - 8 * j) &&& 31) &&& 255) k)).setS 4 (nI (p + k)))) 3 [some (.ref 625), some (.int (v)), some (.int (24 - 8 * nI k))] [] (.inl none) (hp ((s.setA 629 (fourM (s.A 629) p v)).setS 4 (nI (p + 4))))) 4 ?_ ?_ 0 (by first | exact Nat.zero_le _ | omega)
  · refine AW.iload_n dX2_four_3 rfl rfl ?_
    refine AW.if_lt (tgt := 39) dX2_four_4 (by decide) rfl (fun _ => ?_) (fun c_ => by first | exact absurd c_ (by decide) | exact absurd (by decide) c_ | exact absurd c_ (not_not_intro (by decide)) | exact Bool.noConfusion (c_.symm.trans (by decide)))
    exact AW.vretE dX2_four_39 rfl rfl rfl
  · intro k hk ihk
    refine AW.iload_n dX2_four_3 rfl rfl ?_
    refine AW.if_lt (tgt := 39) dX2_four_4 (by decide) rfl (fun c_ => by first | exact absurd c_ (by rw [show (24 : Int32) - 8 * nI k = nI (24 - 8 * k) from sh24 k (by omega)]; exact nI_pos (by omega)) | exact absurd (by rw [show (24 : Int32) - 8 * nI k = nI (24 - 8 * k) from sh24 k (by omega)]; exact nI_pos (by omega)) c_ | exact Bool.noConfusion (c_.symm.trans (by rw [show (24 : Int32) - 8 * nI k = nI (24 - 8 * k) from sh24 k (by omega)]; exact nI_pos (by omega)))) (fun _ => ?_)
    refine AW.aload_n dX2_four_7 rfl rfl ?_
    refine AW.get ci2 3 (by decide) q1354 dX2_four_8 gM rfl rfl ?_
    refine AW.aload_n dX2_four_11 rfl rfl ?_
    refine AW.get ci2 4 (by decide) q1355 dX2_four_12 gM rfl rfl ?_
    refine AW.iload_n dX2_four_15 rfl rfl ?_
    refine AW.iload_n dX2_four_16 rfl rfl ?_
    refine AW.ishr dX2_four_17 rfl ?_
    refine AW.sipush (v := 255) dX2_four_18 (by decide) rfl ?_
    refine AW.iand dX2_four_21 rfl ?_
    refine AW.iast dX2_four_22 (by decide) g629 (by rw [SA_S1]; exact in0 (p + k) (by omega) (by decide)) (j := p + k) (by rw [SA_S1]; exact cI_nI (by omega)) s629 rfl ?_
    refine AW.aload_n dX2_four_23 rfl rfl ?_
    refine AW.dup dX2_four_24 rfl rfl ?_
    refine AW.get ci2 4 (by decide) q1355 dX2_four_25 gM rfl rfl ?_
    refine AW.iconst (v := 1) dX2_four_28 (by decide) rfl ?_
    refine AW.iadd dX2_four_29 rfl ?_
    refine AW.put ci2 4 (by decide) q1355 dX2_four_30 (by decide) gM rfl (fun _ => rfl) (fun _ => rfl) (Nat.le_of_ble_eq_true rfl) sM4 rfl ?_
    refine AW.iinc (v := (-8)) dX2_four_33 rfl (by decide) rfl rfl rfl ?_
    refine AW.goto (tgt := 3) dX2_four_36 (by decide) ?_
    exact AW.hp (by rw [SA_s, SA_S, SA_A, nI_1, show (24 : Int32) - 8 * nI k = nI (24 - 8 * k) from sh24 k (by omega)]; exact congrArg (fun q => hp ((s.setA 629 q).setS 4 (nI (p + k + 1)))) mv_s) (AW.ls (by rw [nI_succ k, sh8]; rfl) ihk)
theorem r_X2_feed_f {s : Sg} (a b c e f : Int32) (hb : (300 : Int32) < s.S 4 + 20) : Run 3 mX2_feed [.ref 625, .int a, .int b, .int c, .int e, .int f] (hp s) (.inl (some (.int (-1)))) (hp s) := by
  refine Run.of rfl (Nat.le_of_ble_eq_true rfl) rfl ?_
  refine AW.aload_n dX2_feed_0 rfl rfl ?_
  refine AW.get ci2 4 (by decide) q1355 dX2_feed_1 gM rfl rfl ?_
  refine AW.bipush (v := 20) dX2_feed_4 (by decide) rfl ?_
  refine AW.iadd dX2_feed_6 rfl ?_
  refine AW.sipush (v := 300) dX2_feed_7 (by decide) rfl ?_
  refine AW.icmp_le (tgt := 15) dX2_feed_10 (by decide) rfl (fun c_ => by first | exact absurd c_ (fun q => absurd hb (Int32.not_lt.mpr q)) | exact absurd (fun q => absurd hb (Int32.not_lt.mpr q)) c_ | exact Bool.noConfusion (c_.symm.trans (fun q => absurd hb (Int32.not_lt.mpr q)))) (fun _ => ?_)
  refine AW.iconst (v := (-1)) dX2_feed_13 (by decide) rfl ?_
  exact AW.iretE dX2_feed_14 rfl rfl rfl rfl
theorem r_X2_feed_t {s : Sg} (p : Nat) (h4 : s.S 4 = nI p) (hp20 : p + 20 ≤ 300) (a b c e f : Int32) : Run 3 mX2_feed [.ref 625, .int a, .int b, .int c, .int e, .int f] (hp s) (.inl (some (.int (nI (p + 20))))) (hp ((s.setA 629 (feedM (s.A 629) p a b c e f)).setS 4 (nI (p + 20)))) := by
  refine Run.of rfl (Nat.le_of_ble_eq_true rfl) rfl ?_
  refine AW.aload_n dX2_feed_0 rfl rfl ?_
  refine AW.get ci2 4 (by decide) q1355 dX2_feed_1 gM rfl rfl ?_
  refine AW.bipush (v := 20) dX2_feed_4 (by decide) rfl ?_
  refine AW.iadd dX2_feed_6 rfl ?_
  refine AW.sipush (v := 300) dX2_feed_7 (by decide) rfl ?_
  refine AW.icmp_le (tgt := 15) dX2_feed_10 (by decide) rfl (fun _ => ?_) (fun c_ => by first | exact absurd c_ (by rw [h4, show (20 : Int32) = nI 20 from rfl, nI_add, Int32.le_iff_toInt_le, nI_t (by omega)]; show _ ≤ (300 : Int); omega) | exact absurd (by rw [h4, show (20 : Int32) = nI 20 from rfl, nI_add, Int32.le_iff_toInt_le, nI_t (by omega)]; show _ ≤ (300 : Int); omega) c_ | exact absurd c_ (not_not_intro (by rw [h4, show (20 : Int32) = nI 20 from rfl, nI_add, Int32.le_iff_toInt_le, nI_t (by omega)]; show _ ≤ (300 : Int); omega)) | exact Bool.noConfusion (c_.symm.trans (by rw [h4, show (20 : Int32) = nI 20 from rfl, nI_add, Int32.le_iff_toInt_le, nI_t (by omega)]; show _ ≤ (300 : Int); omega)))
  refine AW.aload_n dX2_feed_15 rfl rfl ?_
  refine AW.iload_n dX2_feed_16 rfl rfl ?_
  refine AW.callV (Y := mX2_four) (n := 1) (r_X2_four p h4 (by omega) a) (by decide) (by decide) rfl gM q1485 q1487 qs64 q141 q1488 dX2_feed_17 (by decide +kernel) rfl rfl (Nat.le_of_ble_eq_true rfl) rfl ?_
  refine AW.hp (h2 := hp ((s.setA 629 (fourM (s.A 629) p a)).setS 4 (nI (p + 4)))) (by first | rfl | (rw [SA_s, SA_A])) ?_
  refine AW.aload_n dX2_feed_20 rfl rfl ?_
  refine AW.iload_n dX2_feed_21 rfl rfl ?_
  refine AW.callV (Y := mX2_four) (n := 1) (r_X2_four (s := ((s.setA 629 (fourM (s.A 629) p a)).setS 4 (nI (p + 4)))) (p + 4) SA_S1 (by omega) b) (by decide) (by decide) rfl gM q1485 q1487 qs64 q141 q1488 dX2_feed_22 (by decide +kernel) rfl rfl (Nat.le_of_ble_eq_true rfl) rfl ?_
  refine AW.hp (h2 := hp ((s.setA 629 (fourM (fourM (s.A 629) p a) (p + 4) b)).setS 4 (nI (p + 8)))) (by first | rfl | (rw [SA_s, SA_A])) ?_
  refine AW.aload_n dX2_feed_25 rfl rfl ?_
  refine AW.iload_n dX2_feed_26 rfl rfl ?_
  refine AW.callV (Y := mX2_four) (n := 1) (r_X2_four (s := ((s.setA 629 (fourM (fourM (s.A 629) p a) (p + 4) b)).setS 4 (nI (p + 8)))) (p + 8) SA_S1 (by omega) c) (by decide) (by decide) rfl gM q1485 q1487 qs64 q141 q1488 dX2_feed_27 (by decide +kernel) rfl rfl (Nat.le_of_ble_eq_true rfl) rfl ?_
  refine AW.hp (h2 := hp ((s.setA 629 (fourM (fourM (fourM (s.A 629) p a) (p + 4) b) (p + 8) c)).setS 4 (nI (p + 12)))) (by first | rfl | (rw [SA_s, SA_A])) ?_
  refine AW.aload_n dX2_feed_30 rfl rfl ?_
  refine AW.iload dX2_feed_31 rfl rfl ?_
  refine AW.callV (Y := mX2_four) (n := 1) (r_X2_four (s := ((s.setA 629 (fourM (fourM (fourM (s.A 629) p a) (p + 4) b) (p + 8) c)).setS 4 (nI (p + 12)))) (p + 12) SA_S1 (by omega) e) (by decide) (by decide) rfl gM q1485 q1487 qs64 q141 q1488 dX2_feed_33 (by decide +kernel) rfl rfl (Nat.le_of_ble_eq_true rfl) rfl ?_
  refine AW.hp (h2 := hp ((s.setA 629 (fourM (fourM (fourM (fourM (s.A 629) p a) (p + 4) b) (p + 8) c) (p + 12) e)).setS 4 (nI (p + 16)))) (by first | rfl | (rw [SA_s, SA_A])) ?_
  refine AW.aload_n dX2_feed_36 rfl rfl ?_
  refine AW.iload dX2_feed_37 rfl rfl ?_
  refine AW.callV (Y := mX2_four) (n := 1) (r_X2_four (s := ((s.setA 629 (fourM (fourM (fourM (fourM (s.A 629) p a) (p + 4) b) (p + 8) c) (p + 12) e)).setS 4 (nI (p + 16)))) (p + 16) SA_S1 (by omega) f) (by decide) (by decide) rfl gM q1485 q1487 qs64 q141 q1488 dX2_feed_39 (by decide +kernel) rfl rfl (Nat.le_of_ble_eq_true rfl) rfl ?_
  refine AW.hp (h2 := hp ((s.setA 629 (fourM (fourM (fourM (fourM (fourM (s.A 629) p a) (p + 4) b) (p + 8) c) (p + 12) e) (p + 16) f)).setS 4 (nI (p + 20)))) (by first | rfl | (rw [SA_s, SA_A])) ?_
  refine AW.aload_n dX2_feed_42 rfl rfl ?_
  refine AW.get ci2 4 (by decide) q1355 dX2_feed_43 gM rfl rfl ?_
  exact AW.iretE dX2_feed_46 rfl rfl SA_S1 rfl
