/-! MODEL 25: appointments, rounds (printed by tools/m25.py) -/
set_option maxRecDepth 100000
def Vw.apCan (v : Vw) (x h : Int32) : Bool := inI x 1 127 && (decide (bitsI x ≤ 5) && (v.areHere x 7 && (decide (h = -1) || (v.hou h && hasI x h))))
theorem r_X2_appointments_f {s : Sg} (hn : (vwM (s.A 626)).ok) (x h : Int32) (hc : (vwM (s.A 626)).apCan x h = false) : Run 6 mX2_appointments [.ref 625, .int x, .int h] (hp s) (.inl (some (.int (-2)))) (hp s) := by
  refine Run.of rfl (Nat.le_of_ble_eq_true rfl) rfl ?_
  refine AW.iload_n dX2_appointments_0 rfl rfl ?_
  refine AW.iconst (v := 1) dX2_appointments_1 (by decide) rfl ?_
  refine AW.bipush (v := 127) dX2_appointments_2 (by decide) rfl ?_
  refine AW.callS (Y := mX2_isIn) (n := 3) (r_X2_isIn _ _ _) (by decide) (by decide) q1466 q1467 q141 q1468 dX2_appointments_4 (by decide +kernel) rfl rfl (Nat.le_of_ble_eq_true rfl) rfl ?_
  refine AW.if_eqB (tgt := 47) dX2_appointments_7 (by decide) rfl (fun c7 => ?_) (fun c7 => ?_)
  · refine AW.bipush (v := (-2)) dX2_appointments_47 (by decide) rfl ?_
    exact AW.iretE dX2_appointments_49 rfl rfl rfl rfl
  · refine AW.iload_n dX2_appointments_10 rfl rfl ?_
    refine AW.callS (Y := mX2_bits) (n := 1) (r_X2_bits _) (by decide) (by decide) q1685 q1686 q141 q1687 dX2_appointments_11 (by decide +kernel) rfl rfl (Nat.le_of_ble_eq_true rfl) rfl ?_
    refine AW.iconst (v := 5) dX2_appointments_14 (by decide) rfl ?_
    refine AW.icmp_gt (tgt := 47) dX2_appointments_15 (by decide) rfl (fun c15 => ?_) (fun c15 => ?_)
    · refine AW.bipush (v := (-2)) dX2_appointments_47 (by decide) rfl ?_
      exact AW.iretE dX2_appointments_49 rfl rfl rfl rfl
    · refine AW.aload_n dX2_appointments_18 rfl rfl ?_
      refine AW.iload_n dX2_appointments_19 rfl rfl ?_
      refine AW.callV (Y := mX2_areHere) (n := 1) (r_X2_areHere hn _) (by decide) (by decide) rfl gM q1938 q1940 qs127 q141 q1941 dX2_appointments_20 (by decide +kernel) rfl rfl (Nat.le_of_ble_eq_true rfl) rfl ?_
      refine AW.if_eqB (tgt := 47) dX2_appointments_23 (by decide) rfl (fun c23 => ?_) (fun c23 => ?_)
      · refine AW.bipush (v := (-2)) dX2_appointments_47 (by decide) rfl ?_
        exact AW.iretE dX2_appointments_49 rfl rfl rfl rfl
      · refine AW.iload_n dX2_appointments_26 rfl rfl ?_
        refine AW.iconst (v := (-1)) dX2_appointments_27 (by decide) rfl ?_
        refine AW.icmp_eq (tgt := 50) dX2_appointments_28 (by decide) rfl (fun c28 => ?_) (fun c28 => ?_)
        · exfalso
          unfold Vw.apCan at hc; revert hc; rw [c7, decide_eq_true (Int32.not_lt.mp c15), c23]; rw [decide_eq_true c28]; simp
        · refine AW.aload_n dX2_appointments_31 rfl rfl ?_
          refine AW.iload_n dX2_appointments_32 rfl rfl ?_
          refine AW.callV (Y := mX2_isHouse) (n := 1) (r_X2_isHouse _) (by decide) (by decide) rfl gM q1653 q1655 qs92 q141 q1656 dX2_appointments_33 (by decide +kernel) rfl rfl (Nat.le_of_ble_eq_true rfl) rfl ?_
          refine AW.if_eqB (tgt := 47) dX2_appointments_36 (by decide) rfl (fun c36 => ?_) (fun c36 => ?_)
          · refine AW.bipush (v := (-2)) dX2_appointments_47 (by decide) rfl ?_
            exact AW.iretE dX2_appointments_49 rfl rfl rfl rfl
          · refine AW.iload_n dX2_appointments_39 rfl rfl ?_
            refine AW.iload_n dX2_appointments_40 rfl rfl ?_
            refine AW.callS (Y := mX2_has) (n := 2) (r_X2_has _ _) (by decide) (by decide) q1547 q1548 q141 q1549 dX2_appointments_41 (by decide +kernel) rfl rfl (Nat.le_of_ble_eq_true rfl) rfl ?_
            refine AW.if_neB (tgt := 50) dX2_appointments_44 (by decide) rfl (fun c44 => ?_) (fun c44 => ?_)
            · exfalso
              unfold Vw.apCan at hc; revert hc; rw [c7, decide_eq_true (Int32.not_lt.mp c15), c23]; rw [c36, c44]; simp
            · refine AW.bipush (v := (-2)) dX2_appointments_47 (by decide) rfl ?_
              exact AW.iretE dX2_appointments_49 rfl rfl rfl rfl
theorem ap_search {s : Sg} {M : Nat → Int32} (hn : (vwM (s.A 626)).ok) (x h : Int32) (n d0 c0 : Nat) (y : Int32) (hn7 : n ≤ 7) (hM : ∀ i, i < n → (vwM (s.A 626)).hou (M i) = true) (hnd : n ≤ d0) (hd0 : d0 < 1000) (hcap : (n + 1) ^ d0 < 2147483648) (hc0 : c0 < (n + 1) ^ d0)
    (hno : ∀ d, n ≤ d → d < d0 → ∀ c, c < (n + 1) ^ d → ∀ D, (laidF (vwM (s.A 626)) M (s.A 626 8) n d c 0 D).1 = false) (hno2 : ∀ c, c < c0 → ∀ D, (laidF (vwM (s.A 626)) M (s.A 626 8) n d0 c 0 D).1 = false) (hyes : ∀ D, (laidF (vwM (s.A 626)) M (s.A 626 8) n d0 c0 0 D).1 = true) (hh : ¬ h = -1 → (vwM (s.A 626)).hou h = true) (hday : ∀ D, ¬ h = -1 → (laidF (vwM (s.A 626)) M (s.A 626 8) n d0 c0 0 D).2 (cI h) = y) (D : Nat → Int32) : AX (fun h2_ => ∃ M D, h2_ = hp (sp s M D)) 6 mX2_appointments (hp (sp s M D)) 59 [some (.ref 625), some (.int (x)), some (.int (h)), some (.int (nI n)), some (.int (nI n)), none, none] [] (.inl (some (.int (if h = -1 then nI d0 else y)))) := by
  refine loopUp (P := fun d => n ≤ d → ∀ D, AX (fun h2_ => ∃ M D, h2_ = hp (sp s M D)) 6 mX2_appointments (hp (sp s M D)) 59 [some (.ref 625), some (.int (x)), some (.int (h)), some (.int (nI n)), some (.int (nI d)), none, none] [] (.inl (some (.int (if h = -1 then nI d0 else y))))) d0 ?_ ?_ n hnd (Nat.le_refl _) D
  · clear D
    intro hnd2 D
    refine AX.map (fun _ k_ => AW.iconst (v := 1) dX2_appointments_59 (by decide) rfl k_) ?_
    refine AX.map (fun _ k_ => AW.istore dX2_appointments_60 rfl (Nat.le_of_ble_eq_true rfl) rfl rfl k_) ?_
    refine AX.map (fun _ k_ => AW.iconst (v := 0) dX2_appointments_62 (by decide) rfl k_) ?_
    refine AX.map (fun _ k_ => AW.istore dX2_appointments_63 rfl (Nat.le_of_ble_eq_true rfl) rfl rfl k_) ?_
    refine AX.lsE (ls1 := [some (.ref 625), some (.int (x)), some (.int (h)), some (.int (nI n)), some (.int (nI d0)), some (.int (nI ((n + 1) ^ 0))), some (.int (nI 0))]) (by rw [Nat.pow_zero]; rfl) ?_
    refine loopUp (P := fun i => AX (fun h2_ => ∃ M D, h2_ = hp (sp s M D)) 6 mX2_appointments (hp (sp s M D)) 65 [some (.ref 625), some (.int (x)), some (.int (h)), some (.int (nI n)), some (.int (nI d0)), some (.int (nI ((n + 1) ^ i))), some (.int (nI i))] [] (.inl (some (.int (if h = -1 then nI d0 else y))))) d0 ?_ ?_ 0 (by first | exact Nat.zero_le _ | omega)
    · refine AX.map (fun _ k_ => AW.iload dX2_appointments_65 rfl rfl k_) ?_
      refine AX.map (fun _ k_ => AW.iload dX2_appointments_67 rfl rfl k_) ?_
      refine AX.map (fun _ k_ => AW.icmp_ge (tgt := 86) dX2_appointments_69 (by decide) rfl (fun _ => k_) (fun c_ => by first | exact absurd c_ (Int32.le_refl _) | exact absurd (Int32.le_refl _) c_ | exact absurd c_ (not_not_intro (Int32.le_refl _)) | exact Bool.noConfusion (c_.symm.trans (Int32.le_refl _)))) ?_
      refine AX.map (fun _ k_ => AW.iconst (v := 0) dX2_appointments_86 (by decide) rfl k_) ?_
      refine AX.map (fun _ k_ => AW.istore dX2_appointments_87 rfl (Nat.le_of_ble_eq_true rfl) rfl rfl k_) ?_
      refine loopUp (P := fun c => ∀ D, AX (fun h2_ => ∃ M D, h2_ = hp (sp s M D)) 6 mX2_appointments (hp (sp s M D)) 89 [some (.ref 625), some (.int (x)), some (.int (h)), some (.int (nI n)), some (.int (nI d0)), some (.int (nI ((n + 1) ^ d0))), some (.int (nI c))] [] (.inl (some (.int (if h = -1 then nI d0 else y))))) c0 ?_ ?_ 0 (by first | exact Nat.zero_le _ | omega) D
      · clear D
        intro D
        refine AX.map (fun _ k_ => AW.iload dX2_appointments_89 rfl rfl k_) ?_
        refine AX.map (fun _ k_ => AW.iload dX2_appointments_91 rfl rfl k_) ?_
        refine AX.map (fun _ k_ => AW.icmp_ge (tgt := 131) dX2_appointments_93 (by decide) rfl (fun c_ => by first | exact absurd c_ (by rw [Int32.le_iff_toInt_le, nI_t (by omega), nI_t (by omega)]; omega) | exact absurd (by rw [Int32.le_iff_toInt_le, nI_t (by omega), nI_t (by omega)]; omega) c_ | exact Bool.noConfusion (c_.symm.trans (by rw [Int32.le_iff_toInt_le, nI_t (by omega), nI_t (by omega)]; omega))) (fun _ => k_)) ?_
        refine AX.map (fun _ k_ => AW.aload_n dX2_appointments_96 rfl rfl k_) ?_
        refine AX.map (fun _ k_ => AW.iload dX2_appointments_97 rfl rfl k_) ?_
        refine AX.map (fun _ k_ => AW.iload_n dX2_appointments_99 rfl rfl k_) ?_
        refine AX.map (fun _ k_ => AW.iload dX2_appointments_100 rfl rfl k_) ?_
        refine AX.map (fun _ k_ => AW.callV (Y := mX2_isLaid) (n := 3) (r_X2_isLaid n d0 c0 hn hn7 (by omega) (by omega) hM) (by decide) (by decide) rfl gM q1946 q1948 qs129 q141 q1949 dX2_appointments_102 (by decide +kernel) rfl rfl (Nat.le_of_ble_eq_true rfl) rfl k_) ?_
        refine AX.map (fun _ k_ => AW.if_eqB (tgt := 125) dX2_appointments_105 (by decide) rfl (fun c_ => by first | exact absurd c_ (hyes D) | exact absurd (hyes D) c_ | exact Bool.noConfusion (c_.symm.trans (hyes D))) (fun _ => k_)) ?_
        refine AX.map (fun _ k_ => AW.iload_n dX2_appointments_108 rfl rfl k_) ?_
        refine AX.map (fun _ k_ => AW.iconst (v := (-1)) dX2_appointments_109 (by decide) rfl k_) ?_
        refine AX.brP (fun _ kt_ kf_ => AW.icmp_ne (tgt := 118) dX2_appointments_110 (by decide) rfl kt_ kf_) (fun c110 => ?_) (fun c110 => ?_)
        · refine AX.map (fun _ k_ => AW.aload_n dX2_appointments_118 rfl rfl k_) ?_
          refine AX.map (fun _ k_ => AW.get ci2 33 (by decide) q1384 dX2_appointments_119 gM rfl rfl k_) ?_
          refine AX.map (fun _ k_ => AW.iload_n dX2_appointments_122 rfl rfl k_) ?_
          refine AX.map (fun _ k_ => AW.iald dX2_appointments_123 gp637 (by have q := hh c110; have q2 := Vw.hou_b hn q; exact vp_in_iff.mpr (by omega)) rfl rfl k_) ?_
          exact ⟨_, ⟨_, _, rfl⟩, AW.iretE dX2_appointments_124 rfl rfl (by first | (rw [if_pos c110]; done) | (rw [if_neg c110]; exact hday D c110)) rfl⟩
        · refine AX.map (fun _ k_ => AW.iload dX2_appointments_113 rfl rfl k_) ?_
          refine AX.map (fun _ k_ => AW.goto (tgt := 124) dX2_appointments_115 (by decide) k_) ?_
          exact ⟨_, ⟨_, _, rfl⟩, AW.iretE dX2_appointments_124 rfl rfl (by first | (rw [if_pos c110]; done) | (rw [if_neg c110]; exact hday D c110)) rfl⟩
      · intro c hc ihc
        clear D
        intro D
        refine AX.map (fun _ k_ => AW.iload dX2_appointments_89 rfl rfl k_) ?_
        refine AX.map (fun _ k_ => AW.iload dX2_appointments_91 rfl rfl k_) ?_
        refine AX.map (fun _ k_ => AW.icmp_ge (tgt := 131) dX2_appointments_93 (by decide) rfl (fun c_ => by first | exact absurd c_ (by rw [Int32.le_iff_toInt_le, nI_t (by omega), nI_t (by omega)]; omega) | exact absurd (by rw [Int32.le_iff_toInt_le, nI_t (by omega), nI_t (by omega)]; omega) c_ | exact Bool.noConfusion (c_.symm.trans (by rw [Int32.le_iff_toInt_le, nI_t (by omega), nI_t (by omega)]; omega))) (fun _ => k_)) ?_
        refine AX.map (fun _ k_ => AW.aload_n dX2_appointments_96 rfl rfl k_) ?_
        refine AX.map (fun _ k_ => AW.iload dX2_appointments_97 rfl rfl k_) ?_
        refine AX.map (fun _ k_ => AW.iload_n dX2_appointments_99 rfl rfl k_) ?_
        refine AX.map (fun _ k_ => AW.iload dX2_appointments_100 rfl rfl k_) ?_
        refine AX.map (fun _ k_ => AW.callV (Y := mX2_isLaid) (n := 3) (r_X2_isLaid n d0 c hn hn7 (by omega) (by omega) hM) (by decide) (by decide) rfl gM q1946 q1948 qs129 q141 q1949 dX2_appointments_102 (by decide +kernel) rfl rfl (Nat.le_of_ble_eq_true rfl) rfl k_) ?_
        refine AX.map (fun _ k_ => AW.if_eqB (tgt := 125) dX2_appointments_105 (by decide) rfl (fun _ => k_) (fun c_ => by first | exact absurd c_ (hno2 c hc D) | exact absurd (hno2 c hc D) c_ | exact absurd c_ (not_not_intro (hno2 c hc D)) | exact Bool.noConfusion (c_.symm.trans (hno2 c hc D)))) ?_
        refine AX.map (fun _ k_ => AW.iinc (v := 1) dX2_appointments_125 rfl (by decide) rfl rfl rfl k_) ?_
        refine AX.map (fun _ k_ => AW.goto (tgt := 89) dX2_appointments_128 (by decide) k_) ?_
        exact AX.lsE (by rw [nI_succ c]; rfl) (ihc _)
    · intro i hi ihi
      refine AX.map (fun _ k_ => AW.iload dX2_appointments_65 rfl rfl k_) ?_
      refine AX.map (fun _ k_ => AW.iload dX2_appointments_67 rfl rfl k_) ?_
      refine AX.map (fun _ k_ => AW.icmp_ge (tgt := 86) dX2_appointments_69 (by decide) rfl (fun c_ => by first | exact absurd c_ (by rw [Int32.le_iff_toInt_le, nI_t (by omega), nI_t (by omega)]; omega) | exact absurd (by rw [Int32.le_iff_toInt_le, nI_t (by omega), nI_t (by omega)]; omega) c_ | exact Bool.noConfusion (c_.symm.trans (by rw [Int32.le_iff_toInt_le, nI_t (by omega), nI_t (by omega)]; omega))) (fun _ => k_)) ?_
      refine AX.map (fun _ k_ => AW.iload dX2_appointments_72 rfl rfl k_) ?_
      refine AX.map (fun _ k_ => AW.iload_n dX2_appointments_74 rfl rfl k_) ?_
      refine AX.map (fun _ k_ => AW.iconst (v := 1) dX2_appointments_75 (by decide) rfl k_) ?_
      refine AX.map (fun _ k_ => AW.iadd dX2_appointments_76 rfl k_) ?_
      refine AX.map (fun _ k_ => AW.imul dX2_appointments_77 rfl k_) ?_
      refine AX.map (fun _ k_ => AW.istore dX2_appointments_78 rfl (Nat.le_of_ble_eq_true rfl) rfl rfl k_) ?_
      refine AX.map (fun _ k_ => AW.iinc (v := 1) dX2_appointments_80 rfl (by decide) rfl rfl rfl k_) ?_
      refine AX.map (fun _ k_ => AW.goto (tgt := 65) dX2_appointments_83 (by decide) k_) ?_
      exact AX.lsE (by rw [nI_succ i, Nat.pow_succ, ← nI_mul, nI_succ n]; rfl) ihi
  · intro d hd ihd
    clear D
    intro hnd2 D
    have hpl : (n + 1) ^ d < (n + 1) ^ d0 ∨ (n + 1) ^ d ≤ (n + 1) ^ d0 := Or.inr (Nat.pow_le_pow_right (by omega) (by omega))
    have hcap2 : (n + 1) ^ d < 2147483648 := by have := Nat.pow_le_pow_right (show 0 < n + 1 by omega) (Nat.le_of_lt hd); omega
    refine AX.map (fun _ k_ => AW.iconst (v := 1) dX2_appointments_59 (by decide) rfl k_) ?_
    refine AX.map (fun _ k_ => AW.istore dX2_appointments_60 rfl (Nat.le_of_ble_eq_true rfl) rfl rfl k_) ?_
    refine AX.map (fun _ k_ => AW.iconst (v := 0) dX2_appointments_62 (by decide) rfl k_) ?_
    refine AX.map (fun _ k_ => AW.istore dX2_appointments_63 rfl (Nat.le_of_ble_eq_true rfl) rfl rfl k_) ?_
    refine AX.lsE (ls1 := [some (.ref 625), some (.int (x)), some (.int (h)), some (.int (nI n)), some (.int (nI d)), some (.int (nI ((n + 1) ^ 0))), some (.int (nI 0))]) (by rw [Nat.pow_zero]; rfl) ?_
    refine loopUp (P := fun i => AX (fun h2_ => ∃ M D, h2_ = hp (sp s M D)) 6 mX2_appointments (hp (sp s M D)) 65 [some (.ref 625), some (.int (x)), some (.int (h)), some (.int (nI n)), some (.int (nI d)), some (.int (nI ((n + 1) ^ i))), some (.int (nI i))] [] (.inl (some (.int (if h = -1 then nI d0 else y))))) d ?_ ?_ 0 (by first | exact Nat.zero_le _ | omega)
    · refine AX.map (fun _ k_ => AW.iload dX2_appointments_65 rfl rfl k_) ?_
      refine AX.map (fun _ k_ => AW.iload dX2_appointments_67 rfl rfl k_) ?_
      refine AX.map (fun _ k_ => AW.icmp_ge (tgt := 86) dX2_appointments_69 (by decide) rfl (fun _ => k_) (fun c_ => by first | exact absurd c_ (Int32.le_refl _) | exact absurd (Int32.le_refl _) c_ | exact absurd c_ (not_not_intro (Int32.le_refl _)) | exact Bool.noConfusion (c_.symm.trans (Int32.le_refl _)))) ?_
      refine AX.map (fun _ k_ => AW.iconst (v := 0) dX2_appointments_86 (by decide) rfl k_) ?_
      refine AX.map (fun _ k_ => AW.istore dX2_appointments_87 rfl (Nat.le_of_ble_eq_true rfl) rfl rfl k_) ?_
      refine loopUp (P := fun c => ∀ D, AX (fun h2_ => ∃ M D, h2_ = hp (sp s M D)) 6 mX2_appointments (hp (sp s M D)) 89 [some (.ref 625), some (.int (x)), some (.int (h)), some (.int (nI n)), some (.int (nI d)), some (.int (nI ((n + 1) ^ d))), some (.int (nI c))] [] (.inl (some (.int (if h = -1 then nI d0 else y))))) ((n + 1) ^ d) ?_ ?_ 0 (by first | exact Nat.zero_le _ | omega) D
      · clear D
        intro D
        refine AX.map (fun _ k_ => AW.iload dX2_appointments_89 rfl rfl k_) ?_
        refine AX.map (fun _ k_ => AW.iload dX2_appointments_91 rfl rfl k_) ?_
        refine AX.map (fun _ k_ => AW.icmp_ge (tgt := 131) dX2_appointments_93 (by decide) rfl (fun _ => k_) (fun c_ => by first | exact absurd c_ (Int32.le_refl _) | exact absurd (Int32.le_refl _) c_ | exact absurd c_ (not_not_intro (Int32.le_refl _)) | exact Bool.noConfusion (c_.symm.trans (Int32.le_refl _)))) ?_
        refine AX.map (fun _ k_ => AW.iinc (v := 1) dX2_appointments_131 rfl (by decide) rfl rfl rfl k_) ?_
        refine AX.map (fun _ k_ => AW.goto (tgt := 59) dX2_appointments_134 (by decide) k_) ?_
        exact AX.fgE 5 rfl (AX.fgE 6 rfl (AX.lsE (by rw [nI_succ d]; rfl) (ihd (by omega) _)))
      · intro c hc ihc
        clear D
        intro D
        refine AX.map (fun _ k_ => AW.iload dX2_appointments_89 rfl rfl k_) ?_
        refine AX.map (fun _ k_ => AW.iload dX2_appointments_91 rfl rfl k_) ?_
        refine AX.map (fun _ k_ => AW.icmp_ge (tgt := 131) dX2_appointments_93 (by decide) rfl (fun c_ => by first | exact absurd c_ (by rw [Int32.le_iff_toInt_le, nI_t (by omega), nI_t (by omega)]; omega) | exact absurd (by rw [Int32.le_iff_toInt_le, nI_t (by omega), nI_t (by omega)]; omega) c_ | exact Bool.noConfusion (c_.symm.trans (by rw [Int32.le_iff_toInt_le, nI_t (by omega), nI_t (by omega)]; omega))) (fun _ => k_)) ?_
        refine AX.map (fun _ k_ => AW.aload_n dX2_appointments_96 rfl rfl k_) ?_
        refine AX.map (fun _ k_ => AW.iload dX2_appointments_97 rfl rfl k_) ?_
        refine AX.map (fun _ k_ => AW.iload_n dX2_appointments_99 rfl rfl k_) ?_
        refine AX.map (fun _ k_ => AW.iload dX2_appointments_100 rfl rfl k_) ?_
        refine AX.map (fun _ k_ => AW.callV (Y := mX2_isLaid) (n := 3) (r_X2_isLaid n d c hn hn7 (by omega) (by omega) hM) (by decide) (by decide) rfl gM q1946 q1948 qs129 q141 q1949 dX2_appointments_102 (by decide +kernel) rfl rfl (Nat.le_of_ble_eq_true rfl) rfl k_) ?_
        refine AX.map (fun _ k_ => AW.if_eqB (tgt := 125) dX2_appointments_105 (by decide) rfl (fun _ => k_) (fun c_ => by first | exact absurd c_ (hno d (by omega) hd c hc D) | exact absurd (hno d (by omega) hd c hc D) c_ | exact absurd c_ (not_not_intro (hno d (by omega) hd c hc D)) | exact Bool.noConfusion (c_.symm.trans (hno d (by omega) hd c hc D)))) ?_
        refine AX.map (fun _ k_ => AW.iinc (v := 1) dX2_appointments_125 rfl (by decide) rfl rfl rfl k_) ?_
        refine AX.map (fun _ k_ => AW.goto (tgt := 89) dX2_appointments_128 (by decide) k_) ?_
        exact AX.lsE (by rw [nI_succ c]; rfl) (ihc _)
    · intro i hi ihi
      refine AX.map (fun _ k_ => AW.iload dX2_appointments_65 rfl rfl k_) ?_
      refine AX.map (fun _ k_ => AW.iload dX2_appointments_67 rfl rfl k_) ?_
      refine AX.map (fun _ k_ => AW.icmp_ge (tgt := 86) dX2_appointments_69 (by decide) rfl (fun c_ => by first | exact absurd c_ (by rw [Int32.le_iff_toInt_le, nI_t (by omega), nI_t (by omega)]; omega) | exact absurd (by rw [Int32.le_iff_toInt_le, nI_t (by omega), nI_t (by omega)]; omega) c_ | exact Bool.noConfusion (c_.symm.trans (by rw [Int32.le_iff_toInt_le, nI_t (by omega), nI_t (by omega)]; omega))) (fun _ => k_)) ?_
      refine AX.map (fun _ k_ => AW.iload dX2_appointments_72 rfl rfl k_) ?_
      refine AX.map (fun _ k_ => AW.iload_n dX2_appointments_74 rfl rfl k_) ?_
      refine AX.map (fun _ k_ => AW.iconst (v := 1) dX2_appointments_75 (by decide) rfl k_) ?_
      refine AX.map (fun _ k_ => AW.iadd dX2_appointments_76 rfl k_) ?_
      refine AX.map (fun _ k_ => AW.imul dX2_appointments_77 rfl k_) ?_
      refine AX.map (fun _ k_ => AW.istore dX2_appointments_78 rfl (Nat.le_of_ble_eq_true rfl) rfl rfl k_) ?_
      refine AX.map (fun _ k_ => AW.iinc (v := 1) dX2_appointments_80 rfl (by decide) rfl rfl rfl k_) ?_
      refine AX.map (fun _ k_ => AW.goto (tgt := 65) dX2_appointments_83 (by decide) k_) ?_
      exact AX.lsE (by rw [nI_succ i, Nat.pow_succ, ← nI_mul, nI_succ n]; rfl) ihi
theorem r_X2_appointments_t {s : Sg} (hn : (vwM (s.A 626)).ok) (x h : Int32) (hc : (vwM (s.A 626)).apCan x h = true) (n d0 c0 : Nat) (y : Int32) (M : Nat → Int32) (hMF : memF x (s.A 636) (vwM (s.A 626)).n = (n, M)) (hn7 : n ≤ 7) (hM : ∀ i, i < n → (vwM (s.A 626)).hou (M i) = true) (hnd : n ≤ d0) (hd0 : d0 < 1000) (hcap : (n + 1) ^ d0 < 2147483648) (hc0 : c0 < (n + 1) ^ d0)
    (hno : ∀ d, n ≤ d → d < d0 → ∀ c, c < (n + 1) ^ d → ∀ D, (laidF (vwM (s.A 626)) M (s.A 626 8) n d c 0 D).1 = false) (hno2 : ∀ c, c < c0 → ∀ D, (laidF (vwM (s.A 626)) M (s.A 626 8) n d0 c 0 D).1 = false) (hyes : ∀ D, (laidF (vwM (s.A 626)) M (s.A 626 8) n d0 c0 0 D).1 = true) (hday : ∀ D, ¬ h = -1 → (laidF (vwM (s.A 626)) M (s.A 626 8) n d0 c0 0 D).2 (cI h) = y) : RX (fun h2_ => ∃ M D, h2_ = hp (sp s M D)) 6 mX2_appointments [.ref 625, .int x, .int h] (hp s) (some (.int (if h = -1 then nI d0 else y))) := by
  unfold Vw.apCan at hc
  simp only [Bool.and_eq_true, Bool.or_eq_true, decide_eq_true_eq] at hc
  obtain ⟨h1, h2, h3, h4⟩ := hc
  have hh : ¬ h = -1 → (vwM (s.A 626)).hou h = true := fun q => (h4.resolve_left q).1
  refine RX.of rfl (Nat.le_of_ble_eq_true rfl) rfl ?_
  refine AX.map (fun _ k_ => AW.iload_n dX2_appointments_0 rfl rfl k_) ?_
  refine AX.map (fun _ k_ => AW.iconst (v := 1) dX2_appointments_1 (by decide) rfl k_) ?_
  refine AX.map (fun _ k_ => AW.bipush (v := 127) dX2_appointments_2 (by decide) rfl k_) ?_
  refine AX.map (fun _ k_ => AW.callS (Y := mX2_isIn) (n := 3) (r_X2_isIn _ _ _) (by decide) (by decide) q1466 q1467 q141 q1468 dX2_appointments_4 (by decide +kernel) rfl rfl (Nat.le_of_ble_eq_true rfl) rfl k_) ?_
  refine AX.map (fun _ k_ => AW.if_eqB (tgt := 47) dX2_appointments_7 (by decide) rfl (fun c_ => by first | exact absurd c_ h1 | exact absurd h1 c_ | exact Bool.noConfusion (c_.symm.trans h1)) (fun _ => k_)) ?_
  refine AX.map (fun _ k_ => AW.iload_n dX2_appointments_10 rfl rfl k_) ?_
  refine AX.map (fun _ k_ => AW.callS (Y := mX2_bits) (n := 1) (r_X2_bits _) (by decide) (by decide) q1685 q1686 q141 q1687 dX2_appointments_11 (by decide +kernel) rfl rfl (Nat.le_of_ble_eq_true rfl) rfl k_) ?_
  refine AX.map (fun _ k_ => AW.iconst (v := 5) dX2_appointments_14 (by decide) rfl k_) ?_
  refine AX.map (fun _ k_ => AW.icmp_gt (tgt := 47) dX2_appointments_15 (by decide) rfl (fun c_ => by first | exact absurd c_ (Int32.not_lt.mpr h2) | exact absurd (Int32.not_lt.mpr h2) c_ | exact Bool.noConfusion (c_.symm.trans (Int32.not_lt.mpr h2))) (fun _ => k_)) ?_
  refine AX.map (fun _ k_ => AW.aload_n dX2_appointments_18 rfl rfl k_) ?_
  refine AX.map (fun _ k_ => AW.iload_n dX2_appointments_19 rfl rfl k_) ?_
  refine AX.map (fun _ k_ => AW.callV (Y := mX2_areHere) (n := 1) (r_X2_areHere hn _) (by decide) (by decide) rfl gM q1938 q1940 qs127 q141 q1941 dX2_appointments_20 (by decide +kernel) rfl rfl (Nat.le_of_ble_eq_true rfl) rfl k_) ?_
  refine AX.map (fun _ k_ => AW.if_eqB (tgt := 47) dX2_appointments_23 (by decide) rfl (fun c_ => by first | exact absurd c_ h3 | exact absurd h3 c_ | exact Bool.noConfusion (c_.symm.trans h3)) (fun _ => k_)) ?_
  refine AX.map (fun _ k_ => AW.iload_n dX2_appointments_26 rfl rfl k_) ?_
  refine AX.map (fun _ k_ => AW.iconst (v := (-1)) dX2_appointments_27 (by decide) rfl k_) ?_
  refine AX.brN (fun _ kt_ kf_ => AW.icmp_eq (tgt := 50) dX2_appointments_28 (by decide) rfl kt_ kf_) (fun c28 => ?_) (fun c28 => ?_)
  · refine AX.hpE (h1 := hp (sp s (s.A 636) (s.A 637))) (by rw [sp_id]) ?_
    refine AX.map (fun _ k_ => AW.aload_n dX2_appointments_50 rfl rfl k_) ?_
    refine AX.map (fun _ k_ => AW.iload_n dX2_appointments_51 rfl rfl k_) ?_
    have hlm := r_X2_layMembers (M := s.A 636) (D := s.A 637) hn x
    rw [hMF] at hlm
    refine AX.map (fun _ k_ => AW.callV (Y := mX2_layMembers) (n := 1) (hlm) (by decide) (by decide) rfl gM q1942 q1944 qs128 q141 q1945 dX2_appointments_52 (by decide +kernel) rfl rfl (Nat.le_of_ble_eq_true rfl) rfl k_) ?_
    refine AX.map (fun _ k_ => AW.istore_n (i := 3) dX2_appointments_55 rfl rfl (Nat.le_of_ble_eq_true rfl) rfl rfl k_) ?_
    refine AX.map (fun _ k_ => AW.iload_n dX2_appointments_56 rfl rfl k_) ?_
    refine AX.map (fun _ k_ => AW.istore dX2_appointments_57 rfl (Nat.le_of_ble_eq_true rfl) rfl rfl k_) ?_
    exact (ap_search hn x h n d0 c0 y hn7 hM hnd hd0 hcap hc0 hno hno2 hyes hh hday _)
  · refine AX.map (fun _ k_ => AW.aload_n dX2_appointments_31 rfl rfl k_) ?_
    refine AX.map (fun _ k_ => AW.iload_n dX2_appointments_32 rfl rfl k_) ?_
    refine AX.map (fun _ k_ => AW.callV (Y := mX2_isHouse) (n := 1) (r_X2_isHouse _) (by decide) (by decide) rfl gM q1653 q1655 qs92 q141 q1656 dX2_appointments_33 (by decide +kernel) rfl rfl (Nat.le_of_ble_eq_true rfl) rfl k_) ?_
    refine AX.map (fun _ k_ => AW.if_eqB (tgt := 47) dX2_appointments_36 (by decide) rfl (fun c_ => by first | exact absurd c_ (h4.resolve_left c28).1 | exact absurd (h4.resolve_left c28).1 c_ | exact Bool.noConfusion (c_.symm.trans (h4.resolve_left c28).1)) (fun _ => k_)) ?_
    refine AX.map (fun _ k_ => AW.iload_n dX2_appointments_39 rfl rfl k_) ?_
    refine AX.map (fun _ k_ => AW.iload_n dX2_appointments_40 rfl rfl k_) ?_
    refine AX.map (fun _ k_ => AW.callS (Y := mX2_has) (n := 2) (r_X2_has _ _) (by decide) (by decide) q1547 q1548 q141 q1549 dX2_appointments_41 (by decide +kernel) rfl rfl (Nat.le_of_ble_eq_true rfl) rfl k_) ?_
    refine AX.map (fun _ k_ => AW.if_neB (tgt := 50) dX2_appointments_44 (by decide) rfl (fun _ => k_) (fun c_ => by first | exact absurd c_ (h4.resolve_left c28).2 | exact absurd (h4.resolve_left c28).2 c_ | exact absurd c_ (not_not_intro (h4.resolve_left c28).2) | exact Bool.noConfusion (c_.symm.trans (h4.resolve_left c28).2))) ?_
    refine AX.hpE (h1 := hp (sp s (s.A 636) (s.A 637))) (by rw [sp_id]) ?_
    refine AX.map (fun _ k_ => AW.aload_n dX2_appointments_50 rfl rfl k_) ?_
    refine AX.map (fun _ k_ => AW.iload_n dX2_appointments_51 rfl rfl k_) ?_
    have hlm := r_X2_layMembers (M := s.A 636) (D := s.A 637) hn x
    rw [hMF] at hlm
    refine AX.map (fun _ k_ => AW.callV (Y := mX2_layMembers) (n := 1) (hlm) (by decide) (by decide) rfl gM q1942 q1944 qs128 q141 q1945 dX2_appointments_52 (by decide +kernel) rfl rfl (Nat.le_of_ble_eq_true rfl) rfl k_) ?_
    refine AX.map (fun _ k_ => AW.istore_n (i := 3) dX2_appointments_55 rfl rfl (Nat.le_of_ble_eq_true rfl) rfl rfl k_) ?_
    refine AX.map (fun _ k_ => AW.iload_n dX2_appointments_56 rfl rfl k_) ?_
    refine AX.map (fun _ k_ => AW.istore dX2_appointments_57 rfl (Nat.le_of_ble_eq_true rfl) rfl rfl k_) ?_
    exact (ap_search hn x h n d0 c0 y hn7 hM hnd hd0 hcap hc0 hno hno2 hyes hh hday _)
/-- one inner search for each, one after the other -/
def nst (g : Nat → Int32 → Int32) (c : Int32) : Nat → Nat → Int32
  | 0, _ => c
  | m + 1, k => g k (nst g c m (k + 1))
theorem nst_e {g : Nat → Int32 → Int32} {c : Int32} {n : Nat} : nst g c (n - n) n = c := by rw [Nat.sub_self]; rfl
theorem nst_u {g : Nat → Int32 → Int32} {c : Int32} {n k : Nat} (hk : k < n) : nst g c (n - k) k = g k (nst g c (n - (k + 1)) (k + 1)) := by
  obtain ⟨j, rfl⟩ := Nat.exists_eq_add_of_lt hk
  rw [show k + j + 1 - k = j + 1 by omega, show k + j + 1 - (k + 1) = j by omega]
  rfl
def Vw.rnd (v : Vw) (x : Int32) : Bool := !decide (v.isRound x = 0)
def Vw.rd1 (v : Vw) (c : Int32) (k : Nat) : Int32 := srch (fun x => v.rnd (bit (nI x))) (fun x => bit (nI x)) c (20 - k) k
def Vw.rd2 (v : Vw) (y : Nat) (c : Int32) (k : Nat) : Int32 := srch (fun x => v.rnd (bit (nI x) ||| bit (nI y))) (fun x => bit (nI x) ||| bit (nI y)) c (y - k) k
def Vw.rd3 (v : Vw) (u y : Nat) (c : Int32) (k : Nat) : Int32 := srch (fun x => v.rnd (bit (nI x) ||| bit (nI y) ||| bit (nI u))) (fun x => bit (nI x) ||| bit (nI y) ||| bit (nI u)) c (y - k) k
def Vw.ry (v : Vw) (c : Int32) (k : Nat) : Int32 := nst (fun y c => v.rd2 y c 0) c (20 - k) k
def Vw.ry3 (v : Vw) (u : Nat) (c : Int32) (k : Nat) : Int32 := nst (fun y c => v.rd3 u y c 0) c (u - k) k
def Vw.ru (v : Vw) (k : Nat) : Int32 := nst (fun u c => v.ry3 u c 0) 15 (20 - k) k
def Vw.rounds (v : Vw) : Int32 := if v.rnd 0 = true then 0 else v.rd1 (v.ry (v.ru 0) 0) 0
theorem rnd_f {v : Vw} {x : Int32} (h : v.isRound x = 0) : v.rnd x = false := by unfold Vw.rnd; rw [decide_eq_true h]; rfl
theorem rnd_t {v : Vw} {x : Int32} (h : ¬ v.isRound x = 0) : v.rnd x = true := by unfold Vw.rnd; rw [decide_eq_false h]; rfl
section RDS
variable {v : Vw} {c : Int32} {x y u : Nat}
theorem rd1_t (hx : x < 20) (h : ¬ v.isRound (bit (nI x)) = 0) : v.rd1 c x = bit (nI x) := srch_t hx (rnd_t h)
theorem rd1_f (hx : x < 20) (h : v.isRound (bit (nI x)) = 0) : v.rd1 c x = v.rd1 c (x + 1) := srch_f hx (rnd_f h)
theorem rd2_t (hx : x < y) (h : ¬ v.isRound (bit (nI x) ||| bit (nI y)) = 0) : v.rd2 y c x = bit (nI x) ||| bit (nI y) := srch_t hx (rnd_t h)
theorem rd2_f (hx : x < y) (h : v.isRound (bit (nI x) ||| bit (nI y)) = 0) : v.rd2 y c x = v.rd2 y c (x + 1) := srch_f hx (rnd_f h)
theorem rd3_t (hx : x < y) (h : ¬ v.isRound (bit (nI x) ||| bit (nI y) ||| bit (nI u)) = 0) : v.rd3 u y c x = bit (nI x) ||| bit (nI y) ||| bit (nI u) := srch_t hx (rnd_t h)
theorem rd3_f (hx : x < y) (h : v.isRound (bit (nI x) ||| bit (nI y) ||| bit (nI u)) = 0) : v.rd3 u y c x = v.rd3 u y c (x + 1) := srch_f hx (rnd_f h)
end RDS
theorem r_X2_rounds {s : Sg} (hn : (vwM (s.A 626)).ok) : Run 6 mX2_rounds [.ref 625] (hp s) (.inl (some (.int ((vwM (s.A 626)).rounds)))) (hp s) := by
  refine Run.of rfl (Nat.le_of_ble_eq_true rfl) rfl ?_
  refine AW.aload_n dX2_rounds_0 rfl rfl ?_
  refine AW.iconst (v := 0) dX2_rounds_1 (by decide) rfl ?_
  refine AW.callV (Y := mX2_isRound) (n := 1) (r_X2_isRound hn _) (by decide) (by decide) rfl gM q1954 q1956 qs130 q141 q1957 dX2_rounds_2 (by decide +kernel) rfl rfl (Nat.le_of_ble_eq_true rfl) rfl ?_
  refine AW.if_eq (tgt := 10) dX2_rounds_5 (by decide) rfl (fun c5 => ?_) (fun c5 => ?_)
  · have e : (vwM (s.A 626)).rounds = (vwM (s.A 626)).rd1 ((vwM (s.A 626)).ry ((vwM (s.A 626)).ru 0) 0) 0 := if_neg (by unfold Vw.rnd; rw [decide_eq_true c5]; decide)
    rw [e]
    generalize hR : (vwM (s.A 626)).rd1 ((vwM (s.A 626)).ry ((vwM (s.A 626)).ru 0) 0) 0 = R
    refine AW.iconst (v := 0) dX2_rounds_10 (by decide) rfl ?_
    refine AW.istore_n (i := 1) dX2_rounds_11 rfl rfl (Nat.le_of_ble_eq_true rfl) rfl rfl ?_
    refine loopUp (P := fun x => (vwM (s.A 626)).rd1 ((vwM (s.A 626)).ry ((vwM (s.A 626)).ru 0) 0) x = R → AW 6 mX2_rounds (hp s) 12 [some (.ref 625), some (.int (nI x)), none, none] [] (.inl (some (.int R))) (hp s)) 20 ?_ ?_ 0 (by first | exact Nat.zero_le _ | omega) hR
    · intro hR
      have hR : (vwM (s.A 626)).ry ((vwM (s.A 626)).ru 0) 0 = R := srch_e.symm.trans hR
      refine AW.iload_n dX2_rounds_12 rfl rfl ?_
      refine AW.bipush (v := 20) dX2_rounds_13 (by decide) rfl ?_
      refine AW.icmp_ge (tgt := 38) dX2_rounds_15 (by decide) rfl (fun _ => ?_) (fun c_ => by first | exact absurd c_ (by decide) | exact absurd (by decide) c_ | exact absurd c_ (not_not_intro (by decide)) | exact Bool.noConfusion (c_.symm.trans (by decide)))
      refine AW.iconst (v := 0) dX2_rounds_38 (by decide) rfl ?_
      refine AW.istore_n (i := 1) dX2_rounds_39 rfl rfl (Nat.le_of_ble_eq_true rfl) rfl rfl ?_
      refine loopUp (P := fun y => (vwM (s.A 626)).ry ((vwM (s.A 626)).ru 0) y = R → AW 6 mX2_rounds (hp s) 40 [some (.ref 625), some (.int (nI y)), none, none] [] (.inl (some (.int R))) (hp s)) 20 ?_ ?_ 0 (by first | exact Nat.zero_le _ | omega) hR
      · intro hR
        have hR : (vwM (s.A 626)).ru 0 = R := nst_e.symm.trans hR
        refine AW.iload_n dX2_rounds_40 rfl rfl ?_
        refine AW.bipush (v := 20) dX2_rounds_41 (by decide) rfl ?_
        refine AW.icmp_ge (tgt := 87) dX2_rounds_43 (by decide) rfl (fun _ => ?_) (fun c_ => by first | exact absurd c_ (by decide) | exact absurd (by decide) c_ | exact absurd c_ (not_not_intro (by decide)) | exact Bool.noConfusion (c_.symm.trans (by decide)))
        refine AW.iconst (v := 0) dX2_rounds_87 (by decide) rfl ?_
        refine AW.istore_n (i := 1) dX2_rounds_88 rfl rfl (Nat.le_of_ble_eq_true rfl) rfl rfl ?_
        refine loopUp (P := fun u => (vwM (s.A 626)).ru u = R → AW 6 mX2_rounds (hp s) 89 [some (.ref 625), some (.int (nI u)), none, none] [] (.inl (some (.int R))) (hp s)) 20 ?_ ?_ 0 (by first | exact Nat.zero_le _ | omega) hR
        · intro hR
          have hR : (15 : Int32) = R := nst_e.symm.trans hR
          refine AW.iload_n dX2_rounds_89 rfl rfl ?_
          refine AW.bipush (v := 20) dX2_rounds_90 (by decide) rfl ?_
          refine AW.icmp_ge (tgt := 157) dX2_rounds_92 (by decide) rfl (fun _ => ?_) (fun c_ => by first | exact absurd c_ (by decide) | exact absurd (by decide) c_ | exact absurd c_ (not_not_intro (by decide)) | exact Bool.noConfusion (c_.symm.trans (by decide)))
          refine AW.bipush (v := 15) dX2_rounds_157 (by decide) rfl ?_
          exact AW.iretE dX2_rounds_159 rfl rfl hR rfl
        · intro u hu ihu
          intro hR
          have hR : (vwM (s.A 626)).ry3 u ((vwM (s.A 626)).ru (u + 1)) 0 = R := (nst_u hu).symm.trans hR
          refine AW.iload_n dX2_rounds_89 rfl rfl ?_
          refine AW.bipush (v := 20) dX2_rounds_90 (by decide) rfl ?_
          refine AW.icmp_ge (tgt := 157) dX2_rounds_92 (by decide) rfl (fun c_ => by first | exact absurd c_ (nI_nle20' hu) | exact absurd (nI_nle20' hu) c_ | exact Bool.noConfusion (c_.symm.trans (nI_nle20' hu))) (fun _ => ?_)
          refine AW.iconst (v := 0) dX2_rounds_95 (by decide) rfl ?_
          refine AW.istore_n (i := 2) dX2_rounds_96 rfl rfl (Nat.le_of_ble_eq_true rfl) rfl rfl ?_
          refine loopUp (P := fun y => (vwM (s.A 626)).ry3 u ((vwM (s.A 626)).ru (u + 1)) y = R → AW 6 mX2_rounds (hp s) 97 [some (.ref 625), some (.int (nI u)), some (.int (nI y)), none] [] (.inl (some (.int R))) (hp s)) u ?_ ?_ 0 (by first | exact Nat.zero_le _ | omega) hR
          · intro hR
            have hR2 : (vwM (s.A 626)).ru (u + 1) = R := nst_e.symm.trans hR
            refine AW.iload_n dX2_rounds_97 rfl rfl ?_
            refine AW.iload_n dX2_rounds_98 rfl rfl ?_
            refine AW.icmp_ge (tgt := 151) dX2_rounds_99 (by decide) rfl (fun _ => ?_) (fun c_ => by first | exact absurd c_ (Int32.le_refl _) | exact absurd (Int32.le_refl _) c_ | exact absurd c_ (not_not_intro (Int32.le_refl _)) | exact Bool.noConfusion (c_.symm.trans (Int32.le_refl _)))
            refine AW.iinc (v := 1) dX2_rounds_151 rfl (by decide) rfl rfl rfl ?_
            refine AW.goto (tgt := 89) dX2_rounds_154 (by decide) ?_
            exact AW.fg 2 rfl (AW.fg 3 rfl (AW.ls (by rw [nI_succ u]; rfl) (ihu hR2)))
          · intro y hy ihy
            intro hR
            have hR : (vwM (s.A 626)).rd3 u y ((vwM (s.A 626)).ry3 u ((vwM (s.A 626)).ru (u + 1)) (y + 1)) 0 = R := (nst_u hy).symm.trans hR
            refine AW.iload_n dX2_rounds_97 rfl rfl ?_
            refine AW.iload_n dX2_rounds_98 rfl rfl ?_
            refine AW.icmp_ge (tgt := 151) dX2_rounds_99 (by decide) rfl (fun c_ => by first | exact absurd c_ (by rw [Int32.le_iff_toInt_le, nI_t (by omega), nI_t (by omega)]; omega) | exact absurd (by rw [Int32.le_iff_toInt_le, nI_t (by omega), nI_t (by omega)]; omega) c_ | exact Bool.noConfusion (c_.symm.trans (by rw [Int32.le_iff_toInt_le, nI_t (by omega), nI_t (by omega)]; omega))) (fun _ => ?_)
            refine AW.iconst (v := 0) dX2_rounds_102 (by decide) rfl ?_
            refine AW.istore_n (i := 3) dX2_rounds_103 rfl rfl (Nat.le_of_ble_eq_true rfl) rfl rfl ?_
            refine loopUp (P := fun x => (vwM (s.A 626)).rd3 u y ((vwM (s.A 626)).ry3 u ((vwM (s.A 626)).ru (u + 1)) (y + 1)) x = R → AW 6 mX2_rounds (hp s) 104 [some (.ref 625), some (.int (nI u)), some (.int (nI y)), some (.int (nI x))] [] (.inl (some (.int R))) (hp s)) y ?_ ?_ 0 (by first | exact Nat.zero_le _ | omega) hR
            · intro hR
              have hR3 : (vwM (s.A 626)).ry3 u ((vwM (s.A 626)).ru (u + 1)) (y + 1) = R := srch_e.symm.trans hR
              refine AW.iload_n dX2_rounds_104 rfl rfl ?_
              refine AW.iload_n dX2_rounds_105 rfl rfl ?_
              refine AW.icmp_ge (tgt := 145) dX2_rounds_106 (by decide) rfl (fun _ => ?_) (fun c_ => by first | exact absurd c_ (Int32.le_refl _) | exact absurd (Int32.le_refl _) c_ | exact absurd c_ (not_not_intro (Int32.le_refl _)) | exact Bool.noConfusion (c_.symm.trans (Int32.le_refl _)))
              refine AW.iinc (v := 1) dX2_rounds_145 rfl (by decide) rfl rfl rfl ?_
              refine AW.goto (tgt := 97) dX2_rounds_148 (by decide) ?_
              exact AW.fg 3 rfl (AW.ls (by rw [nI_succ y]; rfl) (ihy hR3))
            · intro x hx ihx
              intro hR
              refine AW.iload_n dX2_rounds_104 rfl rfl ?_
              refine AW.iload_n dX2_rounds_105 rfl rfl ?_
              refine AW.icmp_ge (tgt := 145) dX2_rounds_106 (by decide) rfl (fun c_ => by first | exact absurd c_ (by rw [Int32.le_iff_toInt_le, nI_t (by omega), nI_t (by omega)]; omega) | exact absurd (by rw [Int32.le_iff_toInt_le, nI_t (by omega), nI_t (by omega)]; omega) c_ | exact Bool.noConfusion (c_.symm.trans (by rw [Int32.le_iff_toInt_le, nI_t (by omega), nI_t (by omega)]; omega))) (fun _ => ?_)
              refine AW.aload_n dX2_rounds_109 rfl rfl ?_
              refine AW.iconst (v := 1) dX2_rounds_110 (by decide) rfl ?_
              refine AW.iload_n dX2_rounds_111 rfl rfl ?_
              refine AW.ishl dX2_rounds_112 rfl ?_
              refine AW.iconst (v := 1) dX2_rounds_113 (by decide) rfl ?_
              refine AW.iload_n dX2_rounds_114 rfl rfl ?_
              refine AW.ishl dX2_rounds_115 rfl ?_
              refine AW.ior dX2_rounds_116 rfl ?_
              refine AW.iconst (v := 1) dX2_rounds_117 (by decide) rfl ?_
              refine AW.iload_n dX2_rounds_118 rfl rfl ?_
              refine AW.ishl dX2_rounds_119 rfl ?_
              refine AW.ior dX2_rounds_120 rfl ?_
              refine AW.callV (Y := mX2_isRound) (n := 1) (r_X2_isRound hn _) (by decide) (by decide) rfl gM q1954 q1956 qs130 q141 q1957 dX2_rounds_121 (by decide +kernel) rfl rfl (Nat.le_of_ble_eq_true rfl) rfl ?_
              refine AW.if_eq (tgt := 139) dX2_rounds_124 (by decide) rfl (fun c124 => ?_) (fun c124 => ?_)
              · refine AW.iinc (v := 1) dX2_rounds_139 rfl (by decide) rfl rfl rfl ?_
                refine AW.goto (tgt := 104) dX2_rounds_142 (by decide) ?_
                exact AW.ls (by rw [nI_succ x]; rfl) (ihx (by rw [← hR]; exact (rd3_f hx c124).symm))
              · refine AW.iconst (v := 1) dX2_rounds_127 (by decide) rfl ?_
                refine AW.iload_n dX2_rounds_128 rfl rfl ?_
                refine AW.ishl dX2_rounds_129 rfl ?_
                refine AW.iconst (v := 1) dX2_rounds_130 (by decide) rfl ?_
                refine AW.iload_n dX2_rounds_131 rfl rfl ?_
                refine AW.ishl dX2_rounds_132 rfl ?_
                refine AW.ior dX2_rounds_133 rfl ?_
                refine AW.iconst (v := 1) dX2_rounds_134 (by decide) rfl ?_
                refine AW.iload_n dX2_rounds_135 rfl rfl ?_
                refine AW.ishl dX2_rounds_136 rfl ?_
                refine AW.ior dX2_rounds_137 rfl ?_
                rw [← hR]
                exact AW.iretE dX2_rounds_138 rfl rfl (rd3_t hx c124).symm rfl
      · intro y hy ihy
        intro hR
        have hR : (vwM (s.A 626)).rd2 y ((vwM (s.A 626)).ry ((vwM (s.A 626)).ru 0) (y + 1)) 0 = R := (nst_u hy).symm.trans hR
        refine AW.iload_n dX2_rounds_40 rfl rfl ?_
        refine AW.bipush (v := 20) dX2_rounds_41 (by decide) rfl ?_
        refine AW.icmp_ge (tgt := 87) dX2_rounds_43 (by decide) rfl (fun c_ => by first | exact absurd c_ (nI_nle20' hy) | exact absurd (nI_nle20' hy) c_ | exact Bool.noConfusion (c_.symm.trans (nI_nle20' hy))) (fun _ => ?_)
        refine AW.iconst (v := 0) dX2_rounds_46 (by decide) rfl ?_
        refine AW.istore_n (i := 2) dX2_rounds_47 rfl rfl (Nat.le_of_ble_eq_true rfl) rfl rfl ?_
        refine loopUp (P := fun x => (vwM (s.A 626)).rd2 y ((vwM (s.A 626)).ry ((vwM (s.A 626)).ru 0) (y + 1)) x = R → AW 6 mX2_rounds (hp s) 48 [some (.ref 625), some (.int (nI y)), some (.int (nI x)), none] [] (.inl (some (.int R))) (hp s)) y ?_ ?_ 0 (by first | exact Nat.zero_le _ | omega) hR
        · intro hR
          have hR2 : (vwM (s.A 626)).ry ((vwM (s.A 626)).ru 0) (y + 1) = R := srch_e.symm.trans hR
          refine AW.iload_n dX2_rounds_48 rfl rfl ?_
          refine AW.iload_n dX2_rounds_49 rfl rfl ?_
          refine AW.icmp_ge (tgt := 81) dX2_rounds_50 (by decide) rfl (fun _ => ?_) (fun c_ => by first | exact absurd c_ (Int32.le_refl _) | exact absurd (Int32.le_refl _) c_ | exact absurd c_ (not_not_intro (Int32.le_refl _)) | exact Bool.noConfusion (c_.symm.trans (Int32.le_refl _)))
          refine AW.iinc (v := 1) dX2_rounds_81 rfl (by decide) rfl rfl rfl ?_
          refine AW.goto (tgt := 40) dX2_rounds_84 (by decide) ?_
          exact AW.fg 2 rfl (AW.ls (by rw [nI_succ y]; rfl) (ihy hR2))
        · intro x hx ihx
          intro hR
          refine AW.iload_n dX2_rounds_48 rfl rfl ?_
          refine AW.iload_n dX2_rounds_49 rfl rfl ?_
          refine AW.icmp_ge (tgt := 81) dX2_rounds_50 (by decide) rfl (fun c_ => by first | exact absurd c_ (by rw [Int32.le_iff_toInt_le, nI_t (by omega), nI_t (by omega)]; omega) | exact absurd (by rw [Int32.le_iff_toInt_le, nI_t (by omega), nI_t (by omega)]; omega) c_ | exact Bool.noConfusion (c_.symm.trans (by rw [Int32.le_iff_toInt_le, nI_t (by omega), nI_t (by omega)]; omega))) (fun _ => ?_)
          refine AW.aload_n dX2_rounds_53 rfl rfl ?_
          refine AW.iconst (v := 1) dX2_rounds_54 (by decide) rfl ?_
          refine AW.iload_n dX2_rounds_55 rfl rfl ?_
          refine AW.ishl dX2_rounds_56 rfl ?_
          refine AW.iconst (v := 1) dX2_rounds_57 (by decide) rfl ?_
          refine AW.iload_n dX2_rounds_58 rfl rfl ?_
          refine AW.ishl dX2_rounds_59 rfl ?_
          refine AW.ior dX2_rounds_60 rfl ?_
          refine AW.callV (Y := mX2_isRound) (n := 1) (r_X2_isRound hn _) (by decide) (by decide) rfl gM q1954 q1956 qs130 q141 q1957 dX2_rounds_61 (by decide +kernel) rfl rfl (Nat.le_of_ble_eq_true rfl) rfl ?_
          refine AW.if_eq (tgt := 75) dX2_rounds_64 (by decide) rfl (fun c64 => ?_) (fun c64 => ?_)
          · refine AW.iinc (v := 1) dX2_rounds_75 rfl (by decide) rfl rfl rfl ?_
            refine AW.goto (tgt := 48) dX2_rounds_78 (by decide) ?_
            exact AW.ls (by rw [nI_succ x]; rfl) (ihx (by rw [← hR]; exact (rd2_f hx c64).symm))
          · refine AW.iconst (v := 1) dX2_rounds_67 (by decide) rfl ?_
            refine AW.iload_n dX2_rounds_68 rfl rfl ?_
            refine AW.ishl dX2_rounds_69 rfl ?_
            refine AW.iconst (v := 1) dX2_rounds_70 (by decide) rfl ?_
            refine AW.iload_n dX2_rounds_71 rfl rfl ?_
            refine AW.ishl dX2_rounds_72 rfl ?_
            refine AW.ior dX2_rounds_73 rfl ?_
            rw [← hR]
            exact AW.iretE dX2_rounds_74 rfl rfl (rd2_t hx c64).symm rfl
    · intro x hx ihx
      intro hR
      refine AW.iload_n dX2_rounds_12 rfl rfl ?_
      refine AW.bipush (v := 20) dX2_rounds_13 (by decide) rfl ?_
      refine AW.icmp_ge (tgt := 38) dX2_rounds_15 (by decide) rfl (fun c_ => by first | exact absurd c_ (nI_nle20' hx) | exact absurd (nI_nle20' hx) c_ | exact Bool.noConfusion (c_.symm.trans (nI_nle20' hx))) (fun _ => ?_)
      refine AW.aload_n dX2_rounds_18 rfl rfl ?_
      refine AW.iconst (v := 1) dX2_rounds_19 (by decide) rfl ?_
      refine AW.iload_n dX2_rounds_20 rfl rfl ?_
      refine AW.ishl dX2_rounds_21 rfl ?_
      refine AW.callV (Y := mX2_isRound) (n := 1) (r_X2_isRound hn _) (by decide) (by decide) rfl gM q1954 q1956 qs130 q141 q1957 dX2_rounds_22 (by decide +kernel) rfl rfl (Nat.le_of_ble_eq_true rfl) rfl ?_
      refine AW.if_eq (tgt := 32) dX2_rounds_25 (by decide) rfl (fun c25 => ?_) (fun c25 => ?_)
      · refine AW.iinc (v := 1) dX2_rounds_32 rfl (by decide) rfl rfl rfl ?_
        refine AW.goto (tgt := 12) dX2_rounds_35 (by decide) ?_
        exact AW.ls (by rw [nI_succ x]; rfl) (ihx (by rw [← hR]; exact (rd1_f hx c25).symm))
      · refine AW.iconst (v := 1) dX2_rounds_28 (by decide) rfl ?_
        refine AW.iload_n dX2_rounds_29 rfl rfl ?_
        refine AW.ishl dX2_rounds_30 rfl ?_
        rw [← hR]
        exact AW.iretE dX2_rounds_31 rfl rfl (rd1_t hx c25).symm rfl
  · have e : (vwM (s.A 626)).rounds = 0 := if_pos (by unfold Vw.rnd; rw [decide_eq_false c5]; rfl)
    rw [e]
    refine AW.iconst (v := 0) dX2_rounds_8 (by decide) rfl ?_
    exact AW.iretE dX2_rounds_9 rfl rfl rfl rfl
