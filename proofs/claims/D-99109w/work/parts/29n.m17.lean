/-! MODEL 17: what is foretold; the richest (printed by tools/m17.py) -/
set_option maxRecDepth 100000
section GO
variable {s : Sg} {N : Nat → Int32} {V : Nat → Int64} {B : Nat → Bool}
/-- aside, on, what it is then: all in one -/
theorem r_X2_ahead {L : Lw} (hm : MI (s.A 626)) (hL : LawM (s.A 626) (s.A 628) L) (n : Int32) (h0 : 0 ≤ n.toInt) : ∃ F N2 V2 B2, Run 1 mX2_setAside [.ref 625] (hp (sn s N V B)) (.inl none) (hp (sn (s.setA 634 F) N V B)) ∧ Run 9 mX2_goOn [.ref 625, .int n] (hp (sn (s.setA 634 F) N V B)) (.inl none) (hp (sn ((s.setA 634 F).setA 626 (goesM (s.A 626) L (cI n))) N2 V2 B2)) ∧ ∀ N3 V3 B3, Run 1 mX2_putBack [.ref 625] (hp (sn ((s.setA 634 F).setA 626 (goesM (s.A 626) L (cI n))) N3 V3 B3)) (.inl none) (hp (sn (s.setA 634 F) N3 V3 B3)) := by
  have h1 := r_nX2_setAside (s := s) (N := N) (V := V) (B := B)
  have hb := back_goes (F := s.A 634) (L := L) (m := cI n) hm
  generalize hF : mv (s.A 634) 8 (fun j => s.A 626 (8 + j)) 60 = F at *
  have e6 : (s.setA 634 F).A 626 = s.A 626 := setA_ne (by decide)
  have e8 : (s.setA 634 F).A 628 = s.A 628 := setA_ne (by decide)
  have e4 : (s.setA 634 F).A 634 = F := setA_at
  obtain ⟨_, ⟨N2, V2, B2, rfl⟩, w⟩ := r_X2_goOn (s := s.setA 634 F) (N := N) (V := V) (B := B) (by rw [e6]; exact hm) (by rw [e6, e8]; exact hL) (cI n) (cI_lt n)
  rw [nI_cI h0, e6] at w
  refine ⟨F, N2, V2, B2, h1, w, fun N3 V3 B3 => ?_⟩
  have h2 := r_nX2_putBack (s := (s.setA 634 F).setA 626 (goesM (s.A 626) L (cI n))) (N := N3) (V := V3) (B := B3)
  rw [setA_at, setA_ne (by decide), e4, setA_setA, hb] at h2
  have e9 : (s.setA 634 F).setA 626 (s.A 626) = s.setA 634 F := by rw [← e6]; exact setA_id
  rw [e9] at h2
  exact h2
end GO
theorem r_X2_foretold_f {s : Sg} {N : Nat → Int32} {V : Nat → Int64} {B : Nat → Bool} (n h : Int32) (hc : (inI n 1 60 && (vwM (s.A 626)).hou h) = false) : Run 10 mX2_foretold [.ref 625, .int n, .int h] (hp (sn s N V B)) (.inl (some (.int (-1)))) (hp (sn s N V B)) := by
  refine Run.of rfl (Nat.le_of_ble_eq_true rfl) rfl ?_
  refine AW.iload_n dX2_foretold_0 rfl rfl ?_
  refine AW.iconst (v := 1) dX2_foretold_1 (by decide) rfl ?_
  refine AW.bipush (v := 60) dX2_foretold_2 (by decide) rfl ?_
  refine AW.callS (Y := mX2_isIn) (n := 3) (r_X2_isIn _ _ _) (by decide) (by decide) q1466 q1467 q141 q1468 dX2_foretold_4 (by decide +kernel) rfl rfl (Nat.le_of_ble_eq_true rfl) rfl ?_
  refine AW.if_eqB (tgt := 18) dX2_foretold_7 (by decide) rfl (fun c7 => ?_) (fun c7 => ?_)
  · refine AW.iconst (v := (-1)) dX2_foretold_18 (by decide) rfl ?_
    exact AW.iretE dX2_foretold_19 rfl rfl rfl rfl
  · refine AW.aload_n dX2_foretold_10 rfl rfl ?_
    refine AW.iload_n dX2_foretold_11 rfl rfl ?_
    refine AW.callV (Y := mX2_isHouse) (n := 1) (r_nX2_isHouse _) (by decide) (by decide) rfl gM q1653 q1655 qs92 q141 q1656 dX2_foretold_12 (by decide +kernel) rfl rfl (Nat.le_of_ble_eq_true rfl) rfl ?_
    refine AW.if_neB (tgt := 20) dX2_foretold_15 (by decide) rfl (fun c15 => ?_) (fun c15 => ?_)
    · exact absurd hc (by rw [c7, c15]; decide)
    · refine AW.iconst (v := (-1)) dX2_foretold_18 (by decide) rfl ?_
      exact AW.iretE dX2_foretold_19 rfl rfl rfl rfl
theorem r_X2_foretold_t {s : Sg} {N : Nat → Int32} {V : Nat → Int64} {B : Nat → Bool} {L : Lw} (hm : MI (s.A 626)) (hL : LawM (s.A 626) (s.A 628) L) (n h : Int32) (h0 : 0 ≤ n.toInt) (hc : (inI n 1 60 && (vwM (s.A 626)).hou h) = true) : RX (Qs s) 10 mX2_foretold [.ref 625, .int n, .int h] (hp (sn s N V B)) (some (.int ((vwM (goesM (s.A 626) L (cI n))).pu h))) := by
  obtain ⟨F, N2, V2, B2, w1, w2, w3⟩ := r_X2_ahead (N := N) (V := V) (B := B) hm hL n h0
  have hg := goesM_ok (L := L) hm (cI n)
  have hu : ((s.setA 634 F).setA 626 (goesM (s.A 626) L (cI n))).A 626 = (goesM (s.A 626) L (cI n)) := setA_at
  have hc2 := Bool.and_eq_true_iff.mp hc
  have hh2 : (vwM (goesM (s.A 626) L (cI n))).hou h = true := hou_of0 hg.2.1.symm hc2.2
  generalize ((s.setA 634 F).setA 626 (goesM (s.A 626) L (cI n))) = u at *
  refine RX.of rfl (Nat.le_of_ble_eq_true rfl) rfl ?_
  refine AX.map (fun _ k_ => AW.iload_n dX2_foretold_0 rfl rfl k_) ?_
  refine AX.map (fun _ k_ => AW.iconst (v := 1) dX2_foretold_1 (by decide) rfl k_) ?_
  refine AX.map (fun _ k_ => AW.bipush (v := 60) dX2_foretold_2 (by decide) rfl k_) ?_
  refine AX.map (fun _ k_ => AW.callS (Y := mX2_isIn) (n := 3) (r_X2_isIn _ _ _) (by decide) (by decide) q1466 q1467 q141 q1468 dX2_foretold_4 (by decide +kernel) rfl rfl (Nat.le_of_ble_eq_true rfl) rfl k_) ?_
  refine AX.map (fun _ k_ => AW.if_eqB (tgt := 18) dX2_foretold_7 (by decide) rfl (fun c_ => by first | exact absurd c_ hc2.1 | exact absurd hc2.1 c_ | exact Bool.noConfusion (c_.symm.trans hc2.1)) (fun _ => k_)) ?_
  refine AX.map (fun _ k_ => AW.aload_n dX2_foretold_10 rfl rfl k_) ?_
  refine AX.map (fun _ k_ => AW.iload_n dX2_foretold_11 rfl rfl k_) ?_
  refine AX.map (fun _ k_ => AW.callV (Y := mX2_isHouse) (n := 1) (r_nX2_isHouse _) (by decide) (by decide) rfl gM q1653 q1655 qs92 q141 q1656 dX2_foretold_12 (by decide +kernel) rfl rfl (Nat.le_of_ble_eq_true rfl) rfl k_) ?_
  refine AX.map (fun _ k_ => AW.if_neB (tgt := 20) dX2_foretold_15 (by decide) rfl (fun _ => k_) (fun c_ => by first | exact absurd c_ hc2.2 | exact absurd hc2.2 c_ | exact absurd c_ (not_not_intro hc2.2) | exact Bool.noConfusion (c_.symm.trans hc2.2))) ?_
  refine AX.map (fun _ k_ => AW.aload_n dX2_foretold_20 rfl rfl k_) ?_
  refine AX.map (fun _ k_ => AW.callV (Y := mX2_setAside) (n := 0) (w1) (by decide) (by decide) rfl gM q1841 q1843 qs118 q141 q1844 dX2_foretold_21 (by decide +kernel) rfl rfl (Nat.le_of_ble_eq_true rfl) rfl k_) ?_
  refine AX.map (fun _ k_ => AW.aload_n dX2_foretold_24 rfl rfl k_) ?_
  refine AX.map (fun _ k_ => AW.iload_n dX2_foretold_25 rfl rfl k_) ?_
  refine AX.map (fun _ k_ => AW.callV (Y := mX2_goOn) (n := 1) (w2) (by decide) (by decide) rfl gM q1845 q1847 qs119 q141 q1848 dX2_foretold_26 (by decide +kernel) rfl rfl (Nat.le_of_ble_eq_true rfl) rfl k_) ?_
  refine AX.map (fun _ k_ => AW.aload_n dX2_foretold_29 rfl rfl k_) ?_
  refine AX.map (fun _ k_ => AW.iload_n dX2_foretold_30 rfl rfl k_) ?_
  refine AX.map (fun _ k_ => AW.iconst (v := 1) dX2_foretold_31 (by decide) rfl k_) ?_
  refine AX.map (fun _ k_ => AW.callV (Y := mX2_get) (n := 2) (r_nX2_get h 1 (in_get (a := u.A 626) (by rw [hu]; exact hg.1.1) (by rw [hu]; exact hh2) (by decide) (by decide))) (by decide) (by decide) rfl gM q1477 q1479 qs63 q141 q1480 dX2_foretold_32 (by decide +kernel) rfl rfl (Nat.le_of_ble_eq_true rfl) rfl k_) ?_
  refine AX.map (fun _ k_ => AW.istore_n (i := 3) dX2_foretold_35 rfl rfl (Nat.le_of_ble_eq_true rfl) rfl rfl k_) ?_
  refine AX.map (fun _ k_ => AW.aload_n dX2_foretold_36 rfl rfl k_) ?_
  refine AX.map (fun _ k_ => AW.callV (Y := mX2_putBack) (n := 0) (w3 _ _ _) (by decide) (by decide) rfl gM q1849 q1851 qs120 q141 q1852 dX2_foretold_37 (by decide +kernel) rfl rfl (Nat.le_of_ble_eq_true rfl) rfl k_) ?_
  refine AX.map (fun _ k_ => AW.iload_n dX2_foretold_40 rfl rfl k_) ?_
  exact ⟨_, Qs.of, AW.iretE dX2_foretold_41 rfl rfl (by rw [vwM_pu hh2, hu]) rfl⟩
theorem r_X2_poorest_f {s : Sg} {N : Nat → Int32} {V : Nat → Int64} {B : Nat → Bool} (n : Int32) (hc : inI n 1 60 = false) : Run 10 mX2_poorest [.ref 625, .int n] (hp (sn s N V B)) (.inl (some (.int (-1)))) (hp (sn s N V B)) := by
  refine Run.of rfl (Nat.le_of_ble_eq_true rfl) rfl ?_
  refine AW.iload_n dX2_poorest_0 rfl rfl ?_
  refine AW.iconst (v := 1) dX2_poorest_1 (by decide) rfl ?_
  refine AW.bipush (v := 60) dX2_poorest_2 (by decide) rfl ?_
  refine AW.callS (Y := mX2_isIn) (n := 3) (r_X2_isIn _ _ _) (by decide) (by decide) q1466 q1467 q141 q1468 dX2_poorest_4 (by decide +kernel) rfl rfl (Nat.le_of_ble_eq_true rfl) rfl ?_
  refine AW.if_neB (tgt := 12) dX2_poorest_7 (by decide) rfl (fun c_ => by first | exact absurd c_ hc | exact absurd hc c_ | exact Bool.noConfusion (c_.symm.trans hc)) (fun _ => ?_)
  refine AW.iconst (v := (-1)) dX2_poorest_10 (by decide) rfl ?_
  exact AW.iretE dX2_poorest_11 rfl rfl rfl rfl
theorem r_X2_poorest_t {s : Sg} {N : Nat → Int32} {V : Nat → Int64} {B : Nat → Bool} {L : Lw} (hm : MI (s.A 626)) (hL : LawM (s.A 626) (s.A 628) L) (n : Int32) (h0 : 0 ≤ n.toInt) (hc : inI n 1 60 = true) : RX (Qs s) 10 mX2_poorest [.ref 625, .int n] (hp (sn s N V B)) (some (.int ((vwM (goesM (s.A 626) L (cI n))).poor (vwM (goesM (s.A 626) L (cI n))).n))) := by
  obtain ⟨F, N2, V2, B2, w1, w2, w3⟩ := r_X2_ahead (N := N) (V := V) (B := B) hm hL n h0
  have hg := goesM_ok (L := L) hm (cI n)
  have hu : ((s.setA 634 F).setA 626 (goesM (s.A 626) L (cI n))).A 626 = (goesM (s.A 626) L (cI n)) := setA_at
  generalize ((s.setA 634 F).setA 626 (goesM (s.A 626) L (cI n))) = u at *
  rw [← hu] at hg
  rw [← hu]
  have hn2 := hg.1.1
  refine RX.of rfl (Nat.le_of_ble_eq_true rfl) rfl ?_
  refine AX.map (fun _ k_ => AW.iload_n dX2_poorest_0 rfl rfl k_) ?_
  refine AX.map (fun _ k_ => AW.iconst (v := 1) dX2_poorest_1 (by decide) rfl k_) ?_
  refine AX.map (fun _ k_ => AW.bipush (v := 60) dX2_poorest_2 (by decide) rfl k_) ?_
  refine AX.map (fun _ k_ => AW.callS (Y := mX2_isIn) (n := 3) (r_X2_isIn _ _ _) (by decide) (by decide) q1466 q1467 q141 q1468 dX2_poorest_4 (by decide +kernel) rfl rfl (Nat.le_of_ble_eq_true rfl) rfl k_) ?_
  refine AX.map (fun _ k_ => AW.if_neB (tgt := 12) dX2_poorest_7 (by decide) rfl (fun _ => k_) (fun c_ => by first | exact absurd c_ hc | exact absurd hc c_ | exact absurd c_ (not_not_intro hc) | exact Bool.noConfusion (c_.symm.trans hc))) ?_
  refine AX.map (fun _ k_ => AW.aload_n dX2_poorest_12 rfl rfl k_) ?_
  refine AX.map (fun _ k_ => AW.callV (Y := mX2_setAside) (n := 0) (w1) (by decide) (by decide) rfl gM q1841 q1843 qs118 q141 q1844 dX2_poorest_13 (by decide +kernel) rfl rfl (Nat.le_of_ble_eq_true rfl) rfl k_) ?_
  refine AX.map (fun _ k_ => AW.aload_n dX2_poorest_16 rfl rfl k_) ?_
  refine AX.map (fun _ k_ => AW.iload_n dX2_poorest_17 rfl rfl k_) ?_
  refine AX.map (fun _ k_ => AW.callV (Y := mX2_goOn) (n := 1) (w2) (by decide) (by decide) rfl gM q1845 q1847 qs119 q141 q1848 dX2_poorest_18 (by decide +kernel) rfl rfl (Nat.le_of_ble_eq_true rfl) rfl k_) ?_
  refine AX.map (fun _ k_ => AW.iconst (v := (-1)) dX2_poorest_21 (by decide) rfl k_) ?_
  refine AX.map (fun _ k_ => AW.istore_n (i := 2) dX2_poorest_22 rfl rfl (Nat.le_of_ble_eq_true rfl) rfl rfl k_) ?_
  refine AX.map (fun _ k_ => AW.iconst (v := 0) dX2_poorest_23 (by decide) rfl k_) ?_
  refine AX.map (fun _ k_ => AW.istore_n (i := 3) dX2_poorest_24 rfl rfl (Nat.le_of_ble_eq_true rfl) rfl rfl k_) ?_
  refine loopUp (P := fun k => AX (Qs s) 10 mX2_poorest (hp (sn u N2 V2 B2)) 25 [some (.ref 625), some (.int (n)), some (.int ((vwM (u.A 626)).poor k)), some (.int (nI k))] [] (.inl (some (.int ((vwM (u.A 626)).poor (vwM (u.A 626)).n))))) (vwM (u.A 626)).n ?_ ?_ 0 (by first | exact Nat.zero_le _ | omega)
  · refine AX.map (fun _ k_ => AW.iload_n dX2_poorest_25 rfl rfl k_) ?_
    refine AX.map (fun _ k_ => AW.aload_n dX2_poorest_26 rfl rfl k_) ?_
    refine AX.map (fun _ k_ => AW.get ci2 0 (by decide) q1351 dX2_poorest_27 gM rfl rfl k_) ?_
    refine AX.map (fun _ k_ => AW.iconst (v := 0) dX2_poorest_30 (by decide) rfl k_) ?_
    refine AX.map (fun _ k_ => AW.iald dX2_poorest_31 gn626 (vp_in_iff.mpr (by decide)) (j := 0) (by decide) rfl k_) ?_
    refine AX.map (fun _ k_ => AW.icmp_ge (tgt := 71) dX2_poorest_32 (by decide) rfl (fun _ => k_) (fun c_ => by first | exact absurd c_ (loop_end (by have := Vw.n7 hn2; omega) (Vw.nN hn2)) | exact absurd (loop_end (by have := Vw.n7 hn2; omega) (Vw.nN hn2)) c_ | exact absurd c_ (not_not_intro (loop_end (by have := Vw.n7 hn2; omega) (Vw.nN hn2))) | exact Bool.noConfusion (c_.symm.trans (loop_end (by have := Vw.n7 hn2; omega) (Vw.nN hn2))))) ?_
    refine AX.map (fun _ k_ => AW.aload_n dX2_poorest_71 rfl rfl k_) ?_
    refine AX.map (fun _ k_ => AW.callV (Y := mX2_putBack) (n := 0) (w3 _ _ _) (by decide) (by decide) rfl gM q1849 q1851 qs120 q141 q1852 dX2_poorest_72 (by decide +kernel) rfl rfl (Nat.le_of_ble_eq_true rfl) rfl k_) ?_
    refine AX.map (fun _ k_ => AW.iload_n dX2_poorest_75 rfl rfl k_) ?_
    exact ⟨_, Qs.of, AW.iretE dX2_poorest_76 rfl rfl rfl rfl⟩
  · intro k hk ihk
    refine AX.map (fun _ k_ => AW.iload_n dX2_poorest_25 rfl rfl k_) ?_
    refine AX.map (fun _ k_ => AW.aload_n dX2_poorest_26 rfl rfl k_) ?_
    refine AX.map (fun _ k_ => AW.get ci2 0 (by decide) q1351 dX2_poorest_27 gM rfl rfl k_) ?_
    refine AX.map (fun _ k_ => AW.iconst (v := 0) dX2_poorest_30 (by decide) rfl k_) ?_
    refine AX.map (fun _ k_ => AW.iald dX2_poorest_31 gn626 (vp_in_iff.mpr (by decide)) (j := 0) (by decide) rfl k_) ?_
    refine AX.map (fun _ k_ => AW.icmp_ge (tgt := 71) dX2_poorest_32 (by decide) rfl (fun c_ => by first | exact absurd c_ (loop_in hk (by have := Vw.n7 hn2; omega) (Vw.nN hn2)) | exact absurd (loop_in hk (by have := Vw.n7 hn2; omega) (Vw.nN hn2)) c_ | exact Bool.noConfusion (c_.symm.trans (loop_in hk (by have := Vw.n7 hn2; omega) (Vw.nN hn2)))) (fun _ => k_)) ?_
    refine AX.map (fun _ k_ => AW.aload_n dX2_poorest_35 rfl rfl k_) ?_
    refine AX.map (fun _ k_ => AW.iload_n dX2_poorest_36 rfl rfl k_) ?_
    refine AX.map (fun _ k_ => AW.callV (Y := mX2_isHere) (n := 1) (r_nX2_isHere hn2 _) (by decide) (by decide) rfl gM q1649 q1651 qs91 q141 q1652 dX2_poorest_37 (by decide +kernel) rfl rfl (Nat.le_of_ble_eq_true rfl) rfl k_) ?_
    refine AX.brF (fun _ kt_ kf_ => AW.if_eqB (tgt := 65) dX2_poorest_40 (by decide) rfl kt_ kf_) (fun c40 => ?_) (fun c40 => ?_)
    · refine AX.map (fun _ k_ => AW.iinc (v := 1) dX2_poorest_65 rfl (by decide) rfl rfl rfl k_) ?_
      refine AX.map (fun _ k_ => AW.goto (tgt := 25) dX2_poorest_68 (by decide) k_) ?_
      have es : (vwM (u.A 626)).poor (k + 1) = if (vwM (u.A 626)).her (nI k) && (decide ((vwM (u.A 626)).poor k = -1) || decide ((vwM (u.A 626)).pu (nI k) < (vwM (u.A 626)).pu ((vwM (u.A 626)).poor k))) then nI k else (vwM (u.A 626)).poor k := rfl
      rw [c40] at es
      rw [if_neg (by simp)] at es
      exact AX.lsE (by rw [nI_succ k, es]; rfl) ihk
    · refine AX.map (fun _ k_ => AW.iload_n dX2_poorest_43 rfl rfl k_) ?_
      refine AX.map (fun _ k_ => AW.iconst (v := (-1)) dX2_poorest_44 (by decide) rfl k_) ?_
      refine AX.brN (fun _ kt_ kf_ => AW.icmp_eq (tgt := 63) dX2_poorest_45 (by decide) rfl kt_ kf_) (fun c45 => ?_) (fun c45 => ?_)
      · refine AX.map (fun _ k_ => AW.iload_n dX2_poorest_63 rfl rfl k_) ?_
        refine AX.map (fun _ k_ => AW.istore_n (i := 2) dX2_poorest_64 rfl rfl (Nat.le_of_ble_eq_true rfl) rfl rfl k_) ?_
        refine AX.map (fun _ k_ => AW.iinc (v := 1) dX2_poorest_65 rfl (by decide) rfl rfl rfl k_) ?_
        refine AX.map (fun _ k_ => AW.goto (tgt := 25) dX2_poorest_68 (by decide) k_) ?_
        have es : (vwM (u.A 626)).poor (k + 1) = if (vwM (u.A 626)).her (nI k) && (decide ((vwM (u.A 626)).poor k = -1) || decide ((vwM (u.A 626)).pu (nI k) < (vwM (u.A 626)).pu ((vwM (u.A 626)).poor k))) then nI k else (vwM (u.A 626)).poor k := rfl
        rw [if_pos (by rw [show _ = true from c40, decide_eq_true (by exact c45)]; rfl)] at es
        exact AX.lsE (by rw [nI_succ k, es]; rfl) ihk
      · refine AX.map (fun _ k_ => AW.aload_n dX2_poorest_48 rfl rfl k_) ?_
        refine AX.map (fun _ k_ => AW.iload_n dX2_poorest_49 rfl rfl k_) ?_
        refine AX.map (fun _ k_ => AW.iconst (v := 1) dX2_poorest_50 (by decide) rfl k_) ?_
        refine AX.map (fun _ k_ => AW.callV (Y := mX2_get) (n := 2) (r_nX2_get _ 1 (in_get hn2 (Vw.her_hou c40) (by decide) (by decide))) (by decide) (by decide) rfl gM q1477 q1479 qs63 q141 q1480 dX2_poorest_51 (by decide +kernel) rfl rfl (Nat.le_of_ble_eq_true rfl) rfl k_) ?_
        refine AX.map (fun _ k_ => AW.aload_n dX2_poorest_54 rfl rfl k_) ?_
        refine AX.map (fun _ k_ => AW.iload_n dX2_poorest_55 rfl rfl k_) ?_
        refine AX.map (fun _ k_ => AW.iconst (v := 1) dX2_poorest_56 (by decide) rfl k_) ?_
        refine AX.map (fun _ k_ => AW.callV (Y := mX2_get) (n := 2) (r_nX2_get _ 1 (in_get hn2 ((Vw.poor_hou hn2 k (by omega)).resolve_left c45) (by decide) (by decide))) (by decide) (by decide) rfl gM q1477 q1479 qs63 q141 q1480 dX2_poorest_57 (by decide +kernel) rfl rfl (Nat.le_of_ble_eq_true rfl) rfl k_) ?_
        refine AX.brN (fun _ kt_ kf_ => AW.icmp_ge (tgt := 65) dX2_poorest_60 (by decide) rfl kt_ kf_) (fun c60 => ?_) (fun c60 => ?_)
        · refine AX.map (fun _ k_ => AW.iinc (v := 1) dX2_poorest_65 rfl (by decide) rfl rfl rfl k_) ?_
          refine AX.map (fun _ k_ => AW.goto (tgt := 25) dX2_poorest_68 (by decide) k_) ?_
          have es : (vwM (u.A 626)).poor (k + 1) = if (vwM (u.A 626)).her (nI k) && (decide ((vwM (u.A 626)).poor k = -1) || decide ((vwM (u.A 626)).pu (nI k) < (vwM (u.A 626)).pu ((vwM (u.A 626)).poor k))) then nI k else (vwM (u.A 626)).poor k := rfl
          have q1 := vwM_pu (Vw.her_hou c40)
          have q2 := vwM_pu ((Vw.poor_hou hn2 k (by omega)).resolve_left c45)
          rw [← q1, ← q2] at c60
          rw [if_neg (by rw [decide_eq_false c45, decide_eq_false (Int32.not_lt.mpr c60)]; simp)] at es
          exact AX.lsE (by rw [nI_succ k, es]; rfl) ihk
        · refine AX.map (fun _ k_ => AW.iload_n dX2_poorest_63 rfl rfl k_) ?_
          refine AX.map (fun _ k_ => AW.istore_n (i := 2) dX2_poorest_64 rfl rfl (Nat.le_of_ble_eq_true rfl) rfl rfl k_) ?_
          refine AX.map (fun _ k_ => AW.iinc (v := 1) dX2_poorest_65 rfl (by decide) rfl rfl rfl k_) ?_
          refine AX.map (fun _ k_ => AW.goto (tgt := 25) dX2_poorest_68 (by decide) k_) ?_
          have es : (vwM (u.A 626)).poor (k + 1) = if (vwM (u.A 626)).her (nI k) && (decide ((vwM (u.A 626)).poor k = -1) || decide ((vwM (u.A 626)).pu (nI k) < (vwM (u.A 626)).pu ((vwM (u.A 626)).poor k))) then nI k else (vwM (u.A 626)).poor k := rfl
          have q1 := vwM_pu (Vw.her_hou c40)
          have q2 := vwM_pu ((Vw.poor_hou hn2 k (by omega)).resolve_left c45)
          rw [← q1, ← q2] at c60
          rw [if_pos (by rw [c40, decide_eq_true (Int32.not_le.mp c60)]; simp)] at es
          exact AX.lsE (by rw [nI_succ k, es]; rfl) ihk
theorem r_X2_earnedOn {s : Sg} {N : Nat → Int32} {V : Nat → Int64} {B : Nat → Bool} {L : Lw} (hn : (vwM (s.A 626)).ok) (hL : LawM (s.A 626) (s.A 628) L) (date : Int32) : RX (Qn s) 8 mX2_earnedOn [.ref 625, .int date] (hp (sn s N V B)) (some (.int (earnedF L (vwM (s.A 626)) (s.A 626 8) date))) := by
  refine RX.of rfl (Nat.le_of_ble_eq_true rfl) rfl ?_
  refine AX.map (fun _ k_ => AW.aload_n dX2_earnedOn_0 rfl rfl k_) ?_
  refine AX.map (fun _ k_ => AW.get ci2 0 (by decide) q1351 dX2_earnedOn_1 gM rfl rfl k_) ?_
  refine AX.map (fun _ k_ => AW.bipush (v := 8) dX2_earnedOn_4 (by decide) rfl k_) ?_
  refine AX.map (fun _ k_ => AW.iald dX2_earnedOn_6 gn626 (vp_in_iff.mpr (by decide)) (j := 8) (by decide) rfl k_) ?_
  refine AX.map (fun _ k_ => AW.iload_n dX2_earnedOn_7 rfl rfl k_) ?_
  refine AX.map (fun _ k_ => AW.aload_n dX2_earnedOn_8 rfl rfl k_) ?_
  refine AX.map (fun _ k_ => AW.callV (Y := mX2_date) (n := 0) (r_nX2_date) (by decide) (by decide) rfl gM q1665 q1667 qs95 q141 q1668 dX2_earnedOn_9 (by decide +kernel) rfl rfl (Nat.le_of_ble_eq_true rfl) rfl k_) ?_
  refine AX.map (fun _ k_ => AW.isub dX2_earnedOn_12 rfl k_) ?_
  refine AX.map (fun _ k_ => AW.bipush (v := 20) dX2_earnedOn_13 (by decide) rfl k_) ?_
  refine AX.map (fun _ k_ => AW.iadd dX2_earnedOn_15 rfl k_) ?_
  refine AX.map (fun _ k_ => AW.bipush (v := 20) dX2_earnedOn_16 (by decide) rfl k_) ?_
  refine AX.map (fun _ k_ => AW.irem dX2_earnedOn_18 (by decide) rfl k_) ?_
  refine AX.map (fun _ k_ => AW.iadd dX2_earnedOn_19 rfl k_) ?_
  refine AX.map (fun _ k_ => AW.istore_n (i := 2) dX2_earnedOn_20 rfl rfl (Nat.le_of_ble_eq_true rfl) rfl rfl k_) ?_
  refine AX.map (fun _ k_ => AW.iconst (v := 0) dX2_earnedOn_21 (by decide) rfl k_) ?_
  refine AX.map (fun _ k_ => AW.istore_n (i := 3) dX2_earnedOn_22 rfl rfl (Nat.le_of_ble_eq_true rfl) rfl rfl k_) ?_
  refine AX.map (fun _ k_ => AW.iconst (v := 0) dX2_earnedOn_23 (by decide) rfl k_) ?_
  refine AX.map (fun _ k_ => AW.istore dX2_earnedOn_24 rfl (Nat.le_of_ble_eq_true rfl) rfl rfl k_) ?_
  refine loopUp (P := fun k => ∀ N V B, AX (Qn s) 8 mX2_earnedOn (hp (sn s N V B)) 26 [some (.ref 625), some (.int (date)), some (.int ((s.A 626 8 + (date - s.A 626 8 % 20 + 20) % 20))), some (.int (sumUp (fun k => if (vwM (s.A 626)).opn (nI k) date then earnF L (vwM (s.A 626)) (nI k) (s.A 626 8 + (date - s.A 626 8 % 20 + 20) % 20) else 0) k)), some (.int (nI k))] [] (.inl (some (.int (earnedF L (vwM (s.A 626)) (s.A 626 8) date))))) (vwM (s.A 626)).n ?_ ?_ 0 (by first | exact Nat.zero_le _ | omega) N V B
  · clear N V B
    intro N V B
    refine AX.map (fun _ k_ => AW.iload dX2_earnedOn_26 rfl rfl k_) ?_
    refine AX.map (fun _ k_ => AW.aload_n dX2_earnedOn_28 rfl rfl k_) ?_
    refine AX.map (fun _ k_ => AW.get ci2 0 (by decide) q1351 dX2_earnedOn_29 gM rfl rfl k_) ?_
    refine AX.map (fun _ k_ => AW.iconst (v := 0) dX2_earnedOn_32 (by decide) rfl k_) ?_
    refine AX.map (fun _ k_ => AW.iald dX2_earnedOn_33 gn626 (vp_in_iff.mpr (by decide)) (j := 0) (by decide) rfl k_) ?_
    refine AX.map (fun _ k_ => AW.icmp_ge (tgt := 67) dX2_earnedOn_34 (by decide) rfl (fun _ => k_) (fun c_ => by first | exact absurd c_ (loop_end (by have := Vw.n7 hn; omega) (Vw.nN hn)) | exact absurd (loop_end (by have := Vw.n7 hn; omega) (Vw.nN hn)) c_ | exact absurd c_ (not_not_intro (loop_end (by have := Vw.n7 hn; omega) (Vw.nN hn))) | exact Bool.noConfusion (c_.symm.trans (loop_end (by have := Vw.n7 hn; omega) (Vw.nN hn))))) ?_
    refine AX.map (fun _ k_ => AW.iload_n dX2_earnedOn_67 rfl rfl k_) ?_
    exact ⟨_, Qn.of, AW.iretE dX2_earnedOn_68 rfl rfl rfl rfl⟩
  · intro k hk ihk
    clear N V B
    intro N V B
    refine AX.map (fun _ k_ => AW.iload dX2_earnedOn_26 rfl rfl k_) ?_
    refine AX.map (fun _ k_ => AW.aload_n dX2_earnedOn_28 rfl rfl k_) ?_
    refine AX.map (fun _ k_ => AW.get ci2 0 (by decide) q1351 dX2_earnedOn_29 gM rfl rfl k_) ?_
    refine AX.map (fun _ k_ => AW.iconst (v := 0) dX2_earnedOn_32 (by decide) rfl k_) ?_
    refine AX.map (fun _ k_ => AW.iald dX2_earnedOn_33 gn626 (vp_in_iff.mpr (by decide)) (j := 0) (by decide) rfl k_) ?_
    refine AX.map (fun _ k_ => AW.icmp_ge (tgt := 67) dX2_earnedOn_34 (by decide) rfl (fun c_ => by first | exact absurd c_ (loop_in hk (by have := Vw.n7 hn; omega) (Vw.nN hn)) | exact absurd (loop_in hk (by have := Vw.n7 hn; omega) (Vw.nN hn)) c_ | exact Bool.noConfusion (c_.symm.trans (loop_in hk (by have := Vw.n7 hn; omega) (Vw.nN hn)))) (fun _ => k_)) ?_
    refine AX.map (fun _ k_ => AW.iload_n dX2_earnedOn_37 rfl rfl k_) ?_
    refine AX.map (fun _ k_ => AW.aload_n dX2_earnedOn_38 rfl rfl k_) ?_
    refine AX.map (fun _ k_ => AW.iload dX2_earnedOn_39 rfl rfl k_) ?_
    refine AX.map (fun _ k_ => AW.iload_n dX2_earnedOn_41 rfl rfl k_) ?_
    refine AX.map (fun _ k_ => AW.callV (Y := mX2_isOpen) (n := 2) (r_nX2_isOpen hn _ _) (by decide) (by decide) rfl gM q1692 q1694 qs101 q141 q1695 dX2_earnedOn_42 (by decide +kernel) rfl rfl (Nat.le_of_ble_eq_true rfl) rfl k_) ?_
    refine AX.brF (fun _ kt_ kf_ => AW.if_eqB (tgt := 58) dX2_earnedOn_45 (by decide) rfl kt_ kf_) (fun c45 => ?_) (fun c45 => ?_)
    · refine AX.map (fun _ k_ => AW.iconst (v := 0) dX2_earnedOn_58 (by decide) rfl k_) ?_
      refine AX.map (fun _ k_ => AW.iadd dX2_earnedOn_59 rfl k_) ?_
      refine AX.map (fun _ k_ => AW.istore_n (i := 3) dX2_earnedOn_60 rfl rfl (Nat.le_of_ble_eq_true rfl) rfl rfl k_) ?_
      refine AX.map (fun _ k_ => AW.iinc (v := 1) dX2_earnedOn_61 rfl (by decide) rfl rfl rfl k_) ?_
      refine AX.map (fun _ k_ => AW.goto (tgt := 26) dX2_earnedOn_64 (by decide) k_) ?_
      exact AX.lsE (by simp [sumUp, nI_succ, c45]) (ihk _ _ _)
    · refine AX.map (fun _ k_ => AW.aload_n dX2_earnedOn_48 rfl rfl k_) ?_
      refine AX.map (fun _ k_ => AW.iload dX2_earnedOn_49 rfl rfl k_) ?_
      refine AX.map (fun _ k_ => AW.iload_n dX2_earnedOn_51 rfl rfl k_) ?_
      obtain ⟨_, ⟨N2, V2, B2, rfl⟩, w⟩ := r_X2_earnsOn (N := N) (V := V) (B := B) hn hL (nI k) (s.A 626 8 + (date - s.A 626 8 % 20 + 20) % 20) (Vw.hou_k hn hk)
      refine AX.map (fun _ k_ => AW.callV (Y := mX2_earnsOn) (n := 2) (w) (by decide) (by decide) rfl gM q1784 q1786 qs113 q141 q1787 dX2_earnedOn_52 (by decide +kernel) rfl rfl (Nat.le_of_ble_eq_true rfl) rfl k_) ?_
      refine AX.map (fun _ k_ => AW.goto (tgt := 59) dX2_earnedOn_55 (by decide) k_) ?_
      refine AX.map (fun _ k_ => AW.iadd dX2_earnedOn_59 rfl k_) ?_
      refine AX.map (fun _ k_ => AW.istore_n (i := 3) dX2_earnedOn_60 rfl rfl (Nat.le_of_ble_eq_true rfl) rfl rfl k_) ?_
      refine AX.map (fun _ k_ => AW.iinc (v := 1) dX2_earnedOn_61 rfl (by decide) rfl rfl rfl k_) ?_
      refine AX.map (fun _ k_ => AW.goto (tgt := 26) dX2_earnedOn_64 (by decide) k_) ?_
      exact AX.lsE (by simp [sumUp, nI_succ, c45]) (ihk _ _ _)
theorem r_X2_richest {s : Sg} {N : Nat → Int32} {V : Nat → Int64} {B : Nat → Bool} {L : Lw} (hn : (vwM (s.A 626)).ok) (hL : LawM (s.A 626) (s.A 628) L) (p : Bool) : RX (Qn s) 9 mX2_richest [.ref 625, .int (b2i p)] (hp (sn s N V B)) (some (.int (if p then (earnedF L (vwM (s.A 626)) (s.A 626 8)) (bestUp (earnedF L (vwM (s.A 626)) (s.A 626 8)) 19) else bestUp (earnedF L (vwM (s.A 626)) (s.A 626 8)) 19))) := by
  refine RX.of rfl (Nat.le_of_ble_eq_true rfl) rfl ?_
  refine AX.map (fun _ k_ => AW.iconst (v := 0) dX2_richest_0 (by decide) rfl k_) ?_
  refine AX.map (fun _ k_ => AW.istore_n (i := 2) dX2_richest_1 rfl rfl (Nat.le_of_ble_eq_true rfl) rfl rfl k_) ?_
  refine AX.map (fun _ k_ => AW.iconst (v := 1) dX2_richest_2 (by decide) rfl k_) ?_
  refine AX.map (fun _ k_ => AW.istore_n (i := 3) dX2_richest_3 rfl rfl (Nat.le_of_ble_eq_true rfl) rfl rfl k_) ?_
  refine loopUp (P := fun k => ∀ N V B, AX (Qn s) 9 mX2_richest (hp (sn s N V B)) 4 [some (.ref 625), some (.int (b2i p)), some (.int (bestUp (earnedF L (vwM (s.A 626)) (s.A 626 8)) k)), some (.int (nI (k + 1)))] [] (.inl (some (.int (if p then (earnedF L (vwM (s.A 626)) (s.A 626 8)) (bestUp (earnedF L (vwM (s.A 626)) (s.A 626 8)) 19) else bestUp (earnedF L (vwM (s.A 626)) (s.A 626 8)) 19))))) 19 ?_ ?_ 0 (by first | exact Nat.zero_le _ | omega) N V B
  · clear N V B
    intro N V B
    refine AX.map (fun _ k_ => AW.iload_n dX2_richest_4 rfl rfl k_) ?_
    refine AX.map (fun _ k_ => AW.bipush (v := 20) dX2_richest_5 (by decide) rfl k_) ?_
    refine AX.map (fun _ k_ => AW.icmp_ge (tgt := 31) dX2_richest_7 (by decide) rfl (fun _ => k_) (fun c_ => by first | exact absurd c_ (by decide) | exact absurd (by decide) c_ | exact absurd c_ (not_not_intro (by decide)) | exact Bool.noConfusion (c_.symm.trans (by decide)))) ?_
    refine AX.map (fun _ k_ => AW.iload_n dX2_richest_31 rfl rfl k_) ?_
    refine AX.brF (fun _ kt_ kf_ => AW.if_eqB (tgt := 43) dX2_richest_32 (by decide) rfl kt_ kf_) (fun c32 => ?_) (fun c32 => ?_)
    · refine AX.map (fun _ k_ => AW.iload_n dX2_richest_43 rfl rfl k_) ?_
      exact ⟨_, Qn.of, AW.iretE dX2_richest_44 rfl rfl (by first | (rw [if_pos c32]; done) | (rw [if_neg (by rw [c32]; decide)]; done)) rfl⟩
    · refine AX.map (fun _ k_ => AW.aload_n dX2_richest_35 rfl rfl k_) ?_
      refine AX.map (fun _ k_ => AW.iload_n dX2_richest_36 rfl rfl k_) ?_
      obtain ⟨_, ⟨N2, V2, B2, rfl⟩, w⟩ := r_X2_earnedOn (N := N) (V := V) (B := B) hn hL (bestUp (earnedF L (vwM (s.A 626)) (s.A 626 8)) 19)
      refine AX.map (fun _ k_ => AW.callV (Y := mX2_earnedOn) (n := 1) (w) (by decide) (by decide) rfl gM q2002 q2004 qs136 q141 q2005 dX2_richest_37 (by decide +kernel) rfl rfl (Nat.le_of_ble_eq_true rfl) rfl k_) ?_
      refine AX.map (fun _ k_ => AW.goto (tgt := 44) dX2_richest_40 (by decide) k_) ?_
      exact ⟨_, Qn.of, AW.iretE dX2_richest_44 rfl rfl (by first | (rw [if_pos c32]; done) | (rw [if_neg (by rw [c32]; decide)]; done)) rfl⟩
  · intro k hk ihk
    clear N V B
    intro N V B
    refine AX.map (fun _ k_ => AW.iload_n dX2_richest_4 rfl rfl k_) ?_
    refine AX.map (fun _ k_ => AW.bipush (v := 20) dX2_richest_5 (by decide) rfl k_) ?_
    refine AX.map (fun _ k_ => AW.icmp_ge (tgt := 31) dX2_richest_7 (by decide) rfl (fun c_ => by first | exact absurd c_ (by rw [Int32.le_iff_toInt_le, nI_t (by omega)]; show ¬ (20 : Int) ≤ _; omega) | exact absurd (by rw [Int32.le_iff_toInt_le, nI_t (by omega)]; show ¬ (20 : Int) ≤ _; omega) c_ | exact Bool.noConfusion (c_.symm.trans (by rw [Int32.le_iff_toInt_le, nI_t (by omega)]; show ¬ (20 : Int) ≤ _; omega))) (fun _ => k_)) ?_
    refine AX.map (fun _ k_ => AW.aload_n dX2_richest_10 rfl rfl k_) ?_
    refine AX.map (fun _ k_ => AW.iload_n dX2_richest_11 rfl rfl k_) ?_
    obtain ⟨_, ⟨N2, V2, B2, rfl⟩, w⟩ := r_X2_earnedOn (N := N) (V := V) (B := B) hn hL (nI (k + 1))
    refine AX.map (fun _ k_ => AW.callV (Y := mX2_earnedOn) (n := 1) (w) (by decide) (by decide) rfl gM q2002 q2004 qs136 q141 q2005 dX2_richest_12 (by decide +kernel) rfl rfl (Nat.le_of_ble_eq_true rfl) rfl k_) ?_
    refine AX.map (fun _ k_ => AW.aload_n dX2_richest_15 rfl rfl k_) ?_
    refine AX.map (fun _ k_ => AW.iload_n dX2_richest_16 rfl rfl k_) ?_
    obtain ⟨_, ⟨N3, V3, B3, rfl⟩, w_⟩ := r_X2_earnedOn (N := N2) (V := V2) (B := B2) hn hL (bestUp (earnedF L (vwM (s.A 626)) (s.A 626 8)) k)
    refine AX.map (fun _ k_ => AW.callV (Y := mX2_earnedOn) (n := 1) (w_) (by decide) (by decide) rfl gM q2002 q2004 qs136 q141 q2005 dX2_richest_17 (by decide +kernel) rfl rfl (Nat.le_of_ble_eq_true rfl) rfl k_) ?_
    refine AX.brN (fun _ kt_ kf_ => AW.icmp_le (tgt := 25) dX2_richest_20 (by decide) rfl kt_ kf_) (fun c20 => ?_) (fun c20 => ?_)
    · refine AX.map (fun _ k_ => AW.iinc (v := 1) dX2_richest_25 rfl (by decide) rfl rfl rfl k_) ?_
      refine AX.map (fun _ k_ => AW.goto (tgt := 4) dX2_richest_28 (by decide) k_) ?_
      have es : bestUp (earnedF L (vwM (s.A 626)) (s.A 626 8)) (k + 1) = if (earnedF L (vwM (s.A 626)) (s.A 626 8)) (bestUp (earnedF L (vwM (s.A 626)) (s.A 626 8)) k) < (earnedF L (vwM (s.A 626)) (s.A 626 8)) (nI (k + 1)) then nI (k + 1) else bestUp (earnedF L (vwM (s.A 626)) (s.A 626 8)) k := rfl
      rw [if_neg (Int32.not_lt.mpr c20)] at es
      exact AX.lsE (by rw [nI_succ (k + 1), es]; rfl) (ihk _ _ _)
    · refine AX.map (fun _ k_ => AW.iload_n dX2_richest_23 rfl rfl k_) ?_
      refine AX.map (fun _ k_ => AW.istore_n (i := 2) dX2_richest_24 rfl rfl (Nat.le_of_ble_eq_true rfl) rfl rfl k_) ?_
      refine AX.map (fun _ k_ => AW.iinc (v := 1) dX2_richest_25 rfl (by decide) rfl rfl rfl k_) ?_
      refine AX.map (fun _ k_ => AW.goto (tgt := 4) dX2_richest_28 (by decide) k_) ?_
      have es : bestUp (earnedF L (vwM (s.A 626)) (s.A 626 8)) (k + 1) = if (earnedF L (vwM (s.A 626)) (s.A 626 8)) (bestUp (earnedF L (vwM (s.A 626)) (s.A 626 8)) k) < (earnedF L (vwM (s.A 626)) (s.A 626 8)) (nI (k + 1)) then nI (k + 1) else bestUp (earnedF L (vwM (s.A 626)) (s.A 626 8)) k := rfl
      rw [if_pos (Int32.not_le.mp c20)] at es
      exact AX.lsE (by rw [nI_succ (k + 1), es]; rfl) (ihk _ _ _)
