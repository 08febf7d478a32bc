/-! MODEL 18: whose law is the best (printed by tools/m18.py) -/
set_option maxRecDepth 100000
theorem up_self {α : Type} {f : Nat → α} {k : Nat} : up f k (f k) = f := by
  funext j
  by_cases h : j = k
  · rw [h, up_eq]
  · rw [up_ne h]
theorem MI_2 {a : Nat → Int32} {x : Int32} (k : MI a) : MI (up a 2 x) := ⟨ok_of (up_ne (by decide)).symm k.1, by rw [up_ne (by decide)]; exact k.2.1, by rw [up_ne (by decide)]; exact k.2.2⟩
/-- all purses n days on, by the law of a text -/
def sumsM (a : Nat → Int32) (Ls : Nat → Lw) (n : Int32) (t : Nat) : Int32 := (vwM (goesM (up a 2 (nI t)) (Ls t) (cI n))).sumPu (vwM (goesM (up a 2 (nI t)) (Ls t) (cI n))).n
theorem r_X2_whose_f {s : Sg} {N : Nat → Int32} {V : Nat → Int64} {B : Nat → Bool} (n : Int32) (hc : inI n 1 60 = false) : Run 3 mX2_whose [.ref 625, .int n] (hp (sn s N V B)) (.inl (some (.int (-1)))) (hp (sn s N V B)) := by
  refine Run.of rfl (Nat.le_of_ble_eq_true rfl) rfl ?_
  refine AW.iload_n dX2_whose_0 rfl rfl ?_
  refine AW.iconst (v := 1) dX2_whose_1 (by decide) rfl ?_
  refine AW.bipush (v := 60) dX2_whose_2 (by decide) rfl ?_
  refine AW.callS (Y := mX2_isIn) (n := 3) (r_X2_isIn _ _ _) (by decide) (by decide) q1466 q1467 q141 q1468 dX2_whose_4 (by decide +kernel) rfl rfl (Nat.le_of_ble_eq_true rfl) rfl ?_
  refine AW.if_neB (tgt := 12) dX2_whose_7 (by decide) rfl (fun c_ => by first | exact absurd c_ hc | exact absurd hc c_ | exact Bool.noConfusion (c_.symm.trans hc)) (fun _ => ?_)
  refine AW.iconst (v := (-1)) dX2_whose_10 (by decide) rfl ?_
  exact AW.iretE dX2_whose_11 rfl rfl rfl rfl
theorem r_X2_whose_t {s : Sg} {N : Nat → Int32} {V : Nat → Int64} {B : Nat → Bool} (hm : MI (s.A 626)) (Ls : Nat → Lw) (nt : Nat) (hT : s.A 626 1 = nI nt) (hT4 : nt ≤ 4) (hL : ∀ t, t < nt → LawM (up (s.A 626) 2 (nI t)) (s.A 628) (Ls t)) (n : Int32) (h0 : 0 ≤ n.toInt) (hc : inI n 1 60 = true) : RX (Qs s) 10 mX2_whose [.ref 625, .int n] (hp (sn s N V B)) (some (.int ((mostOf (sumsM (s.A 626) Ls n) nt).1))) := by
  refine RX.of rfl (Nat.le_of_ble_eq_true rfl) rfl ?_
  refine AX.map (fun _ k_ => AW.iload_n dX2_whose_0 rfl rfl k_) ?_
  refine AX.map (fun _ k_ => AW.iconst (v := 1) dX2_whose_1 (by decide) rfl k_) ?_
  refine AX.map (fun _ k_ => AW.bipush (v := 60) dX2_whose_2 (by decide) rfl k_) ?_
  refine AX.map (fun _ k_ => AW.callS (Y := mX2_isIn) (n := 3) (r_X2_isIn _ _ _) (by decide) (by decide) q1466 q1467 q141 q1468 dX2_whose_4 (by decide +kernel) rfl rfl (Nat.le_of_ble_eq_true rfl) rfl k_) ?_
  refine AX.map (fun _ k_ => AW.if_neB (tgt := 12) dX2_whose_7 (by decide) rfl (fun _ => k_) (fun c_ => by first | exact absurd c_ hc | exact absurd hc c_ | exact absurd c_ (not_not_intro hc) | exact Bool.noConfusion (c_.symm.trans hc))) ?_
  refine AX.map (fun _ k_ => AW.aload_n dX2_whose_12 rfl rfl k_) ?_
  refine AX.map (fun _ k_ => AW.get ci2 0 (by decide) q1351 dX2_whose_13 gM rfl rfl k_) ?_
  refine AX.map (fun _ k_ => AW.iconst (v := 2) dX2_whose_16 (by decide) rfl k_) ?_
  refine AX.map (fun _ k_ => AW.iald dX2_whose_17 gn626 (vp_in_iff.mpr (by decide)) (j := 2) (by decide) rfl k_) ?_
  refine AX.map (fun _ k_ => AW.istore_n (i := 2) dX2_whose_18 rfl rfl (Nat.le_of_ble_eq_true rfl) rfl rfl k_) ?_
  refine AX.map (fun _ k_ => AW.iconst (v := (-1)) dX2_whose_19 (by decide) rfl k_) ?_
  refine AX.map (fun _ k_ => AW.istore_n (i := 3) dX2_whose_20 rfl rfl (Nat.le_of_ble_eq_true rfl) rfl rfl k_) ?_
  refine AX.map (fun _ k_ => AW.iconst (v := (-1)) dX2_whose_21 (by decide) rfl k_) ?_
  refine AX.map (fun _ k_ => AW.istore dX2_whose_22 rfl (Nat.le_of_ble_eq_true rfl) rfl rfl k_) ?_
  refine AX.map (fun _ k_ => AW.iconst (v := 0) dX2_whose_24 (by decide) rfl k_) ?_
  refine AX.map (fun _ k_ => AW.istore dX2_whose_25 rfl (Nat.le_of_ble_eq_true rfl) rfl rfl k_) ?_
  refine AX.hpE (h1 := hp (sn ((s.setA 634 (s.A 634)).setA 626 (up (s.A 626) 2 (s.A 626 2))) N V B)) (by rw [setA_id, up_self, setA_id]) ?_
  refine loopUp (P := fun k => ∀ F x N V B, AX (Qs s) 10 mX2_whose (hp (sn ((s.setA 634 F).setA 626 (up (s.A 626) 2 x)) N V B)) 27 [some (.ref 625), some (.int (n)), some (.int (s.A 626 2)), some (.int ((mostOf (sumsM (s.A 626) Ls n) k).1)), some (.int ((mostOf (sumsM (s.A 626) Ls n) k).2)), some (.int (nI k)), none, none] [] (.inl (some (.int ((mostOf (sumsM (s.A 626) Ls n) nt).1))))) nt ?_ ?_ 0 (by first | exact Nat.zero_le _ | omega) (s.A 634) (s.A 626 2) N V B
  · clear N V B
    intro F x N V B
    have hu0 : ((s.setA 634 F).setA 626 (up (s.A 626) 2 x)).A 626 = up (s.A 626) 2 x := setA_at
    have hs0 : ((s.setA 634 F).setA 626 (up (s.A 626) 2 x)).setA 626 (s.A 626) = s.setA 634 F := by
      rw [setA_setA]
      have e6 : (s.setA 634 F).A 626 = s.A 626 := setA_ne (by decide)
      rw [← e6]
      exact setA_id
    generalize ((s.setA 634 F).setA 626 (up (s.A 626) 2 x)) = u at *
    refine AX.map (fun _ k_ => AW.iload dX2_whose_27 rfl rfl k_) ?_
    refine AX.map (fun _ k_ => AW.aload_n dX2_whose_29 rfl rfl k_) ?_
    refine AX.map (fun _ k_ => AW.get ci2 0 (by decide) q1351 dX2_whose_30 gM rfl rfl k_) ?_
    refine AX.map (fun _ k_ => AW.iconst (v := 1) dX2_whose_33 (by decide) rfl k_) ?_
    refine AX.map (fun _ k_ => AW.iald dX2_whose_34 gn626 (vp_in_iff.mpr (by decide)) (j := 1) (by decide) rfl k_) ?_
    refine AX.map (fun _ k_ => AW.icmp_ge (tgt := 130) dX2_whose_35 (by decide) rfl (fun _ => k_) (fun c_ => by first | exact absurd c_ (by rw [hu0, up_ne (by decide), hT]; exact Int32.le_refl _) | exact absurd (by rw [hu0, up_ne (by decide), hT]; exact Int32.le_refl _) c_ | exact absurd c_ (not_not_intro (by rw [hu0, up_ne (by decide), hT]; exact Int32.le_refl _)) | exact Bool.noConfusion (c_.symm.trans (by rw [hu0, up_ne (by decide), hT]; exact Int32.le_refl _)))) ?_
    refine AX.map (fun _ k_ => AW.aload_n dX2_whose_130 rfl rfl k_) ?_
    refine AX.map (fun _ k_ => AW.get ci2 0 (by decide) q1351 dX2_whose_131 gM rfl rfl k_) ?_
    refine AX.map (fun _ k_ => AW.iconst (v := 2) dX2_whose_134 (by decide) rfl k_) ?_
    refine AX.map (fun _ k_ => AW.iload_n dX2_whose_135 rfl rfl k_) ?_
    refine AX.map (fun _ k_ => AW.iast dX2_whose_136 (by decide) gn626 (vp_in_iff.mpr (by decide)) (j := 2) (by decide) sn626 rfl k_) ?_
    refine AX.map (fun _ k_ => AW.iload_n dX2_whose_137 rfl rfl k_) ?_
    refine ⟨_, Qs.of (F := F) (N := N) (V := V) (B := B), AW.iretE dX2_whose_138 rfl rfl rfl ?_⟩
    rw [hu0, up_up, up_self, hs0]
  · intro k hk ihk
    clear N V B
    intro F x N V B
    have hu1 : ((s.setA 634 F).setA 626 (up (s.A 626) 2 (nI k))).A 626 = up (s.A 626) 2 (nI k) := setA_at
    have hX1 : ((s.setA 634 F).setA 626 (up (s.A 626) 2 (nI k))).A 628 = s.A 628 := (setA_ne (by decide)).trans (setA_ne (by decide))
    have hw1 : ∀ F1, ((s.setA 634 F).setA 626 (up (s.A 626) 2 (nI k))).setA 634 F1 = (s.setA 634 F1).setA 626 (up (s.A 626) 2 (nI k)) := fun F1 => by rw [setA_com (by decide), setA_setA]
    generalize hu0 : (s.setA 634 F).setA 626 (up (s.A 626) 2 (nI k)) = u1 at *
    have hm1 : MI (u1.A 626) := by rw [hu1]; exact MI_2 hm
    obtain ⟨F1, N2, V2, B2, w1, w2, w3⟩ := r_X2_ahead (s := u1) (N := N) (V := V) (B := B) (L := Ls k) hm1 (by rw [hu1, hX1]; exact hL k hk) n h0
    have hw2 := hw1 F1
    have es : mostOf (sumsM (s.A 626) Ls n) (k + 1) = if (sumsM (s.A 626) Ls n) k ≤ (mostOf (sumsM (s.A 626) Ls n) k).2 then mostOf (sumsM (s.A 626) Ls n) k else (nI k, (sumsM (s.A 626) Ls n) k) := rfl
    refine AX.map (fun _ k_ => AW.iload dX2_whose_27 rfl rfl k_) ?_
    refine AX.map (fun _ k_ => AW.aload_n dX2_whose_29 rfl rfl k_) ?_
    refine AX.map (fun _ k_ => AW.get ci2 0 (by decide) q1351 dX2_whose_30 gM rfl rfl k_) ?_
    refine AX.map (fun _ k_ => AW.iconst (v := 1) dX2_whose_33 (by decide) rfl k_) ?_
    refine AX.map (fun _ k_ => AW.iald dX2_whose_34 gn626 (vp_in_iff.mpr (by decide)) (j := 1) (by decide) rfl k_) ?_
    refine AX.map (fun _ k_ => AW.icmp_ge (tgt := 130) dX2_whose_35 (by decide) rfl (fun c_ => by first | exact absurd c_ (by rw [setA_at, up_ne (by decide), hT, Int32.le_iff_toInt_le, nI_t (by omega), nI_t (by omega)]; omega) | exact absurd (by rw [setA_at, up_ne (by decide), hT, Int32.le_iff_toInt_le, nI_t (by omega), nI_t (by omega)]; omega) c_ | exact Bool.noConfusion (c_.symm.trans (by rw [setA_at, up_ne (by decide), hT, Int32.le_iff_toInt_le, nI_t (by omega), nI_t (by omega)]; omega))) (fun _ => k_)) ?_
    refine AX.map (fun _ k_ => AW.aload_n dX2_whose_38 rfl rfl k_) ?_
    refine AX.map (fun _ k_ => AW.get ci2 0 (by decide) q1351 dX2_whose_39 gM rfl rfl k_) ?_
    refine AX.map (fun _ k_ => AW.iconst (v := 2) dX2_whose_42 (by decide) rfl k_) ?_
    refine AX.map (fun _ k_ => AW.iload dX2_whose_43 rfl rfl k_) ?_
    refine AX.map (fun _ k_ => AW.iast dX2_whose_45 (by decide) gn626 (vp_in_iff.mpr (by decide)) (j := 2) (by decide) sn626 rfl k_) ?_
    refine AX.hpE (h1 := hp (sn u1 N V B)) (by rw [← hu0, setA_setA, setA_at, up_up]) ?_
    refine AX.map (fun _ k_ => AW.aload_n dX2_whose_46 rfl rfl k_) ?_
    refine AX.map (fun _ k_ => AW.callV (Y := mX2_setAside) (n := 0) (w1) (by decide) (by decide) rfl gM q1841 q1843 qs118 q141 q1844 dX2_whose_47 (by decide +kernel) rfl rfl (Nat.le_of_ble_eq_true rfl) rfl k_) ?_
    refine AX.map (fun _ k_ => AW.aload_n dX2_whose_50 rfl rfl k_) ?_
    refine AX.map (fun _ k_ => AW.iload_n dX2_whose_51 rfl rfl k_) ?_
    refine AX.map (fun _ k_ => AW.callV (Y := mX2_goOn) (n := 1) (w2) (by decide) (by decide) rfl gM q1845 q1847 qs119 q141 q1848 dX2_whose_52 (by decide +kernel) rfl rfl (Nat.le_of_ble_eq_true rfl) rfl k_) ?_
    generalize hu2 : u1.setA 634 F1 = u9 at *
    have hu3 : (u9.setA 626 (goesM (u1.A 626) (Ls k) (cI n))).A 626 = goesM (u1.A 626) (Ls k) (cI n) := setA_at
    generalize u9.setA 626 (goesM (u1.A 626) (Ls k) (cI n)) = u2 at *
    have hg := goesM_ok (L := Ls k) hm1 (cI n)
    rw [← hu3] at hg
    have hn2 := hg.1.1
    have hf : (sumsM (s.A 626) Ls n) k = (vwM (u2.A 626)).sumPu (vwM (u2.A 626)).n := by rw [hu3, hu1]; rfl
    refine AX.map (fun _ k_ => AW.iconst (v := 0) dX2_whose_55 (by decide) rfl k_) ?_
    refine AX.map (fun _ k_ => AW.istore dX2_whose_56 rfl (Nat.le_of_ble_eq_true rfl) rfl rfl k_) ?_
    refine AX.map (fun _ k_ => AW.iconst (v := 0) dX2_whose_58 (by decide) rfl k_) ?_
    refine AX.map (fun _ k_ => AW.istore dX2_whose_59 rfl (Nat.le_of_ble_eq_true rfl) rfl rfl k_) ?_
    refine loopUp (P := fun i => AX (Qs s) 10 mX2_whose (hp (sn u2 N2 V2 B2)) 61 [some (.ref 625), some (.int (n)), some (.int (s.A 626 2)), some (.int ((mostOf (sumsM (s.A 626) Ls n) k).1)), some (.int ((mostOf (sumsM (s.A 626) Ls n) k).2)), some (.int (nI k)), some (.int ((vwM (u2.A 626)).sumPu i)), some (.int (nI i))] [] (.inl (some (.int ((mostOf (sumsM (s.A 626) Ls n) nt).1))))) (vwM (u2.A 626)).n ?_ ?_ 0 (by first | exact Nat.zero_le _ | omega)
    · refine AX.map (fun _ k_ => AW.iload dX2_whose_61 rfl rfl k_) ?_
      refine AX.map (fun _ k_ => AW.aload_n dX2_whose_63 rfl rfl k_) ?_
      refine AX.map (fun _ k_ => AW.get ci2 0 (by decide) q1351 dX2_whose_64 gM rfl rfl k_) ?_
      refine AX.map (fun _ k_ => AW.iconst (v := 0) dX2_whose_67 (by decide) rfl k_) ?_
      refine AX.map (fun _ k_ => AW.iald dX2_whose_68 gn626 (vp_in_iff.mpr (by decide)) (j := 0) (by decide) rfl k_) ?_
      refine AX.map (fun _ k_ => AW.icmp_ge (tgt := 103) dX2_whose_69 (by decide) rfl (fun _ => k_) (fun c_ => by first | exact absurd c_ (loop_end (by have := Vw.n7 hn2; omega) (Vw.nN hn2)) | exact absurd (loop_end (by have := Vw.n7 hn2; omega) (Vw.nN hn2)) c_ | exact absurd c_ (not_not_intro (loop_end (by have := Vw.n7 hn2; omega) (Vw.nN hn2))) | exact Bool.noConfusion (c_.symm.trans (loop_end (by have := Vw.n7 hn2; omega) (Vw.nN hn2))))) ?_
      refine AX.map (fun _ k_ => AW.aload_n dX2_whose_103 rfl rfl k_) ?_
      refine AX.map (fun _ k_ => AW.callV (Y := mX2_putBack) (n := 0) (w3 _ _ _) (by decide) (by decide) rfl gM q1849 q1851 qs120 q141 q1852 dX2_whose_104 (by decide +kernel) rfl rfl (Nat.le_of_ble_eq_true rfl) rfl k_) ?_
      refine AX.map (fun _ k_ => AW.iload dX2_whose_107 rfl rfl k_) ?_
      refine AX.map (fun _ k_ => AW.iload dX2_whose_109 rfl rfl k_) ?_
      refine AX.brN (fun _ kt_ kf_ => AW.icmp_gt (tgt := 117) dX2_whose_111 (by decide) rfl kt_ kf_) (fun c111 => ?_) (fun c111 => ?_)
      · refine AX.map (fun _ k_ => AW.iload dX2_whose_117 rfl rfl k_) ?_
        refine AX.map (fun _ k_ => AW.istore dX2_whose_119 rfl (Nat.le_of_ble_eq_true rfl) rfl rfl k_) ?_
        refine AX.map (fun _ k_ => AW.iload dX2_whose_121 rfl rfl k_) ?_
        refine AX.map (fun _ k_ => AW.istore_n (i := 3) dX2_whose_123 rfl rfl (Nat.le_of_ble_eq_true rfl) rfl rfl k_) ?_
        refine AX.map (fun _ k_ => AW.iinc (v := 1) dX2_whose_124 rfl (by decide) rfl rfl rfl k_) ?_
        refine AX.map (fun _ k_ => AW.goto (tgt := 27) dX2_whose_127 (by decide) k_) ?_
        rw [if_neg (by rw [hf]; exact Int32.not_le.mpr c111)] at es
        rw [hf] at es
        exact AX.fgE 6 rfl (AX.fgE 7 rfl (AX.lsE (by rw [nI_succ k, es]; rfl) (AX.hpE (by rw [hw2]) (ihk _ _ _ _ _))))
      · refine AX.map (fun _ k_ => AW.goto (tgt := 124) dX2_whose_114 (by decide) k_) ?_
        refine AX.map (fun _ k_ => AW.iinc (v := 1) dX2_whose_124 rfl (by decide) rfl rfl rfl k_) ?_
        refine AX.map (fun _ k_ => AW.goto (tgt := 27) dX2_whose_127 (by decide) k_) ?_
        rw [if_pos (by rw [hf]; exact Int32.not_lt.mp c111)] at es
        exact AX.fgE 6 rfl (AX.fgE 7 rfl (AX.lsE (by rw [nI_succ k, es]; rfl) (AX.hpE (by rw [hw2]) (ihk _ _ _ _ _))))
    · intro i hi ihi
      refine AX.map (fun _ k_ => AW.iload dX2_whose_61 rfl rfl k_) ?_
      refine AX.map (fun _ k_ => AW.aload_n dX2_whose_63 rfl rfl k_) ?_
      refine AX.map (fun _ k_ => AW.get ci2 0 (by decide) q1351 dX2_whose_64 gM rfl rfl k_) ?_
      refine AX.map (fun _ k_ => AW.iconst (v := 0) dX2_whose_67 (by decide) rfl k_) ?_
      refine AX.map (fun _ k_ => AW.iald dX2_whose_68 gn626 (vp_in_iff.mpr (by decide)) (j := 0) (by decide) rfl k_) ?_
      refine AX.map (fun _ k_ => AW.icmp_ge (tgt := 103) dX2_whose_69 (by decide) rfl (fun c_ => by first | exact absurd c_ (loop_in hi (by have := Vw.n7 hn2; omega) (Vw.nN hn2)) | exact absurd (loop_in hi (by have := Vw.n7 hn2; omega) (Vw.nN hn2)) c_ | exact Bool.noConfusion (c_.symm.trans (loop_in hi (by have := Vw.n7 hn2; omega) (Vw.nN hn2)))) (fun _ => k_)) ?_
      refine AX.map (fun _ k_ => AW.iload dX2_whose_72 rfl rfl k_) ?_
      refine AX.map (fun _ k_ => AW.aload_n dX2_whose_74 rfl rfl k_) ?_
      refine AX.map (fun _ k_ => AW.iload dX2_whose_75 rfl rfl k_) ?_
      refine AX.map (fun _ k_ => AW.callV (Y := mX2_isHere) (n := 1) (r_nX2_isHere hn2 _) (by decide) (by decide) rfl gM q1649 q1651 qs91 q141 q1652 dX2_whose_77 (by decide +kernel) rfl rfl (Nat.le_of_ble_eq_true rfl) rfl k_) ?_
      refine AX.brF (fun _ kt_ kf_ => AW.if_eqB (tgt := 93) dX2_whose_80 (by decide) rfl kt_ kf_) (fun c80 => ?_) (fun c80 => ?_)
      · refine AX.map (fun _ k_ => AW.iconst (v := 0) dX2_whose_93 (by decide) rfl k_) ?_
        refine AX.map (fun _ k_ => AW.iadd dX2_whose_94 rfl k_) ?_
        refine AX.map (fun _ k_ => AW.istore dX2_whose_95 rfl (Nat.le_of_ble_eq_true rfl) rfl rfl k_) ?_
        refine AX.map (fun _ k_ => AW.iinc (v := 1) dX2_whose_97 rfl (by decide) rfl rfl rfl k_) ?_
        refine AX.map (fun _ k_ => AW.goto (tgt := 61) dX2_whose_100 (by decide) k_) ?_
        have e2 : (vwM (u2.A 626)).sumPu (i + 1) = (vwM (u2.A 626)).sumPu i + if (vwM (u2.A 626)).her (nI i) then (vwM (u2.A 626)).pu (nI i) else 0 := rfl
        rw [if_neg (by rw [c80]; decide)] at e2
        exact AX.lsE (by rw [nI_succ i, e2]; rfl) ihi
      · refine AX.map (fun _ k_ => AW.aload_n dX2_whose_83 rfl rfl k_) ?_
        refine AX.map (fun _ k_ => AW.iload dX2_whose_84 rfl rfl k_) ?_
        refine AX.map (fun _ k_ => AW.iconst (v := 1) dX2_whose_86 (by decide) rfl k_) ?_
        refine AX.map (fun _ k_ => AW.callV (Y := mX2_get) (n := 2) (r_nX2_get _ 1 (in_get hn2 (Vw.her_hou c80) (by decide) (by decide))) (by decide) (by decide) rfl gM q1477 q1479 qs63 q141 q1480 dX2_whose_87 (by decide +kernel) rfl rfl (Nat.le_of_ble_eq_true rfl) rfl k_) ?_
        refine AX.map (fun _ k_ => AW.goto (tgt := 94) dX2_whose_90 (by decide) k_) ?_
        refine AX.map (fun _ k_ => AW.iadd dX2_whose_94 rfl k_) ?_
        refine AX.map (fun _ k_ => AW.istore dX2_whose_95 rfl (Nat.le_of_ble_eq_true rfl) rfl rfl k_) ?_
        refine AX.map (fun _ k_ => AW.iinc (v := 1) dX2_whose_97 rfl (by decide) rfl rfl rfl k_) ?_
        refine AX.map (fun _ k_ => AW.goto (tgt := 61) dX2_whose_100 (by decide) k_) ?_
        have e2 : (vwM (u2.A 626)).sumPu (i + 1) = (vwM (u2.A 626)).sumPu i + if (vwM (u2.A 626)).her (nI i) then (vwM (u2.A 626)).pu (nI i) else 0 := rfl
        rw [if_pos c80, vwM_pu (Vw.her_hou c80)] at e2
        exact AX.lsE (by rw [nI_succ i, e2]; rfl) ihi
