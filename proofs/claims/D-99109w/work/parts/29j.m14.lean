/-! MODEL 14: what happens; doings (printed by tools/m14.py) -/
set_option maxRecDepth 100000
theorem r_X2_day_f {s : Sg} {N : Nat → Int32} {V : Nat → Int64} {B : Nat → Bool} (n : Int32) (hc : (inI n 1 60 && decide (s.A 626 8 + n ≤ 9999)) = false) : Run 4 mX2_day [.ref 625, .int n] (hp (sn s N V B)) (.inl (some (.int (-1)))) (hp (sn s N V B)) := by
  refine Run.of rfl (Nat.le_of_ble_eq_true rfl) rfl ?_
  refine AW.iload_n dX2_day_0 rfl rfl ?_
  refine AW.iconst (v := 1) dX2_day_1 (by decide) rfl ?_
  refine AW.bipush (v := 60) dX2_day_2 (by decide) rfl ?_
  refine AW.callS (Y := mX2_isIn) (n := 3) (r_X2_isIn _ _ _) (by decide) (by decide) q1466 q1467 q141 q1468 dX2_day_4 (by decide +kernel) rfl rfl (Nat.le_of_ble_eq_true rfl) rfl ?_
  refine AW.if_eqB (tgt := 40) dX2_day_7 (by decide) rfl (fun c7 => ?_) (fun c7 => ?_)
  · refine AW.iconst (v := (-1)) dX2_day_40 (by decide) rfl ?_
    exact AW.iretE dX2_day_41 rfl rfl rfl rfl
  · refine AW.aload_n dX2_day_10 rfl rfl ?_
    refine AW.get ci2 0 (by decide) q1351 dX2_day_11 gM rfl rfl ?_
    refine AW.bipush (v := 8) dX2_day_14 (by decide) rfl ?_
    refine AW.iald dX2_day_16 gn626 (vp_in_iff.mpr (by decide)) (j := 8) (by decide) rfl ?_
    refine AW.iload_n dX2_day_17 rfl rfl ?_
    refine AW.iadd dX2_day_18 rfl ?_
    refine AW.sipush (v := 9999) dX2_day_19 (by decide) rfl ?_
    refine AW.icmp_gt (tgt := 40) dX2_day_22 (by decide) rfl (fun c22 => ?_) (fun c22 => ?_)
    · refine AW.iconst (v := (-1)) dX2_day_40 (by decide) rfl ?_
      exact AW.iretE dX2_day_41 rfl rfl rfl rfl
    · exact absurd hc (by rw [c7, decide_eq_true (Int32.not_lt.mp c22)]; decide)
theorem cI_lt (x : Int32) : cI x < 2147483648 := by
  have h := Int32.toInt_lt x
  show x.toInt.toNat < _
  omega
theorem r_X2_day_t {s : Sg} {N : Nat → Int32} {V : Nat → Int64} {B : Nat → Bool} {L : Lw} (hm : MI (s.A 626)) (hL : LawM (s.A 626) (s.A 628) L) (n : Int32) (h0 : 0 ≤ n.toInt) (hc : (inI n 1 60 && decide (s.A 626 8 + n ≤ 9999)) = true) : RX (Qn (s.setA 626 (keepsM (s.A 626) L (cI n)))) 10 mX2_day [.ref 625, .int n] (hp (sn s N V B)) (some (.int (if arePF (s.A 626) L (cI n - 0) 0 = true then (keepsM (s.A 626) L (cI n)) 8 % 20 else -1))) := by
  refine RX.of rfl (Nat.le_of_ble_eq_true rfl) rfl ?_
  refine AX.map (fun _ k_ => AW.iload_n dX2_day_0 rfl rfl k_) ?_
  refine AX.map (fun _ k_ => AW.iconst (v := 1) dX2_day_1 (by decide) rfl k_) ?_
  refine AX.map (fun _ k_ => AW.bipush (v := 60) dX2_day_2 (by decide) rfl k_) ?_
  refine AX.map (fun _ k_ => AW.callS (Y := mX2_isIn) (n := 3) (r_X2_isIn _ _ _) (by decide) (by decide) q1466 q1467 q141 q1468 dX2_day_4 (by decide +kernel) rfl rfl (Nat.le_of_ble_eq_true rfl) rfl k_) ?_
  refine AX.map (fun _ k_ => AW.if_eqB (tgt := 40) dX2_day_7 (by decide) rfl (fun c_ => by first | exact absurd c_ (Bool.and_eq_true_iff.mp hc).1 | exact absurd (Bool.and_eq_true_iff.mp hc).1 c_ | exact Bool.noConfusion (c_.symm.trans (Bool.and_eq_true_iff.mp hc).1)) (fun _ => k_)) ?_
  refine AX.map (fun _ k_ => AW.aload_n dX2_day_10 rfl rfl k_) ?_
  refine AX.map (fun _ k_ => AW.get ci2 0 (by decide) q1351 dX2_day_11 gM rfl rfl k_) ?_
  refine AX.map (fun _ k_ => AW.bipush (v := 8) dX2_day_14 (by decide) rfl k_) ?_
  refine AX.map (fun _ k_ => AW.iald dX2_day_16 gn626 (vp_in_iff.mpr (by decide)) (j := 8) (by decide) rfl k_) ?_
  refine AX.map (fun _ k_ => AW.iload_n dX2_day_17 rfl rfl k_) ?_
  refine AX.map (fun _ k_ => AW.iadd dX2_day_18 rfl k_) ?_
  refine AX.map (fun _ k_ => AW.sipush (v := 9999) dX2_day_19 (by decide) rfl k_) ?_
  refine AX.map (fun _ k_ => AW.icmp_gt (tgt := 40) dX2_day_22 (by decide) rfl (fun c_ => by first | exact absurd c_ (Int32.not_lt.mpr (of_decide_eq_true (Bool.and_eq_true_iff.mp hc).2)) | exact absurd (Int32.not_lt.mpr (of_decide_eq_true (Bool.and_eq_true_iff.mp hc).2)) c_ | exact Bool.noConfusion (c_.symm.trans (Int32.not_lt.mpr (of_decide_eq_true (Bool.and_eq_true_iff.mp hc).2)))) (fun _ => k_)) ?_
  refine AX.map (fun _ k_ => AW.aload_n dX2_day_25 rfl rfl k_) ?_
  refine AX.map (fun _ k_ => AW.iload_n dX2_day_26 rfl rfl k_) ?_
  obtain ⟨_, ⟨N2, V2, B2, rfl⟩, w⟩ := r_X2_arePassed (N := N) (V := V) (B := B) hm hL (cI n) (cI_lt n)
  rw [nI_cI h0] at w
  refine AX.map (fun _ k_ => AW.callV (Y := mX2_arePassed) (n := 1) (w) (by decide) (by decide) rfl gM q1768 q1770 qs109 q141 q1771 dX2_day_27 (by decide +kernel) rfl rfl (Nat.le_of_ble_eq_true rfl) rfl k_) ?_
  refine AX.brF (fun _ kt_ kf_ => AW.if_eqB (tgt := 40) dX2_day_30 (by decide) rfl kt_ kf_) (fun c30 => ?_) (fun c30 => ?_)
  · refine AX.map (fun _ k_ => AW.iconst (v := (-1)) dX2_day_40 (by decide) rfl k_) ?_
    exact ⟨_, Qn.of, AW.iretE dX2_day_41 rfl rfl (by first | (rw [if_pos c30, setA_at]; done) | (rw [if_neg (by rw [c30]; decide)]; done)) rfl⟩
  · refine AX.map (fun _ k_ => AW.aload_n dX2_day_33 rfl rfl k_) ?_
    refine AX.map (fun _ k_ => AW.callV (Y := mX2_date) (n := 0) (r_nX2_date) (by decide) (by decide) rfl gM q1665 q1667 qs95 q141 q1668 dX2_day_34 (by decide +kernel) rfl rfl (Nat.le_of_ble_eq_true rfl) rfl k_) ?_
    refine AX.map (fun _ k_ => AW.goto (tgt := 41) dX2_day_37 (by decide) k_) ?_
    exact ⟨_, Qn.of, AW.iretE dX2_day_41 rfl rfl (by first | (rw [if_pos c30, setA_at]; done) | (rw [if_neg (by rw [c30]; decide)]; done)) rfl⟩
theorem r_X2_happens {s : Sg} {N : Nat → Int32} {V : Nat → Int64} {B : Nat → Bool} {L : Lw} (hm : MI (s.A 626)) (hL : LawM (s.A 626) (s.A 628) L) (x : Int32) (hz : ¬ s.A 626 0 = 0) : RX (Qn (s.setA 626 (happM (s.A 626) L x))) 9 mX2_happens [.ref 625, .int x] (hp (sn s N V B)) none := by
  refine RX.of rfl (Nat.le_of_ble_eq_true rfl) rfl ?_
  refine AX.map (fun _ k_ => AW.iload_n dX2_happens_0 rfl rfl k_) ?_
  refine AX.map (fun _ k_ => AW.aload_n dX2_happens_1 rfl rfl k_) ?_
  refine AX.map (fun _ k_ => AW.get ci2 0 (by decide) q1351 dX2_happens_2 gM rfl rfl k_) ?_
  refine AX.map (fun _ k_ => AW.iconst (v := 0) dX2_happens_5 (by decide) rfl k_) ?_
  refine AX.map (fun _ k_ => AW.iald dX2_happens_6 gn626 (vp_in_iff.mpr (by decide)) (j := 0) (by decide) rfl k_) ?_
  refine AX.map (fun _ k_ => AW.irem dX2_happens_7 hz rfl k_) ?_
  refine AX.map (fun _ k_ => AW.istore_n (i := 2) dX2_happens_8 rfl rfl (Nat.le_of_ble_eq_true rfl) rfl rfl k_) ?_
  refine AX.map (fun _ k_ => AW.iload_n dX2_happens_9 rfl rfl k_) ?_
  refine AX.map (fun _ k_ => AW.bipush (v := 6) dX2_happens_10 (by decide) rfl k_) ?_
  refine AX.map (fun _ k_ => AW.irem dX2_happens_12 (by decide) rfl k_) ?_
  by_cases s13_0 : (x % 6) = 2
  · refine AX.map (fun _ k_ => AW.tableIn (off := 31) (tgt := 44) dX2_happens_13 (by rw [s13_0]; decide) (by rw [s13_0]; decide) (by rw [s13_0]; rfl) (by decide) k_) ?_
    refine AX.map (fun _ k_ => AW.iload_n dX2_happens_44 rfl rfl k_) ?_
    refine AX.map (fun _ k_ => AW.iconst (v := 4) dX2_happens_45 (by decide) rfl k_) ?_
    refine AX.map (fun _ k_ => AW.irem dX2_happens_46 (by decide) rfl k_) ?_
    refine AX.brP (fun _ kt_ kf_ => AW.if_ne (tgt := 131) dX2_happens_47 (by decide) rfl kt_ kf_) (fun c47 => ?_) (fun c47 => ?_)
    · have e9 : happM (s.A 626) L x = s.A 626 := (by unfold happM; simp [*]); exact ⟨_, ⟨N, V, B, by rw [e9, setA_id]⟩, AW.vretE dX2_happens_131 rfl rfl rfl⟩
    · refine AX.map (fun _ k_ => AW.aload_n dX2_happens_50 rfl rfl k_) ?_
      refine AX.map (fun _ k_ => AW.iload_n dX2_happens_51 rfl rfl k_) ?_
      refine AX.map (fun _ k_ => AW.callV (Y := mX2_canDraw) (n := 1) (r_nX2_canDraw hm.1 _) (by decide) (by decide) rfl gM q1737 q1739 qs104 q141 q1740 dX2_happens_52 (by decide +kernel) rfl rfl (Nat.le_of_ble_eq_true rfl) rfl k_) ?_
      refine AX.brF (fun _ kt_ kf_ => AW.if_eqB (tgt := 131) dX2_happens_55 (by decide) rfl kt_ kf_) (fun c55 => ?_) (fun c55 => ?_)
      · have e9 : happM (s.A 626) L x = s.A 626 := (by unfold happM; simp [*]); exact ⟨_, ⟨N, V, B, by rw [e9, setA_id]⟩, AW.vretE dX2_happens_131 rfl rfl rfl⟩
      · refine AX.map (fun _ k_ => AW.aload_n dX2_happens_58 rfl rfl k_) ?_
        refine AX.map (fun _ k_ => AW.iload_n dX2_happens_59 rfl rfl k_) ?_
        refine AX.map (fun _ k_ => AW.callV (Y := mX2_hatNow) (n := 1) (r_nX2_hatNow _ (in_get hm.1 (draws_hou c55) (by decide) (by decide))) (by decide) (by decide) rfl gM q1741 q1743 qs105 q141 q1744 dX2_happens_60 (by decide +kernel) rfl rfl (Nat.le_of_ble_eq_true rfl) rfl k_) ?_
        refine AX.map (fun _ k_ => AW.pop dX2_happens_63 rfl rfl k_) ?_
        refine AX.map (fun _ k_ => AW.goto (tgt := 131) dX2_happens_64 (by decide) k_) ?_
        have e9 : happM (s.A 626) L x = (hatR (x % s.A 626 0) 20 (s.A 626)).2 := (by unfold happM; simp [*]); exact ⟨_, ⟨_, _, _, by rw [e9]⟩, AW.vretE dX2_happens_131 rfl rfl rfl⟩
  by_cases s13_1 : (x % 6) = 3
  · refine AX.map (fun _ k_ => AW.tableIn (off := 54) (tgt := 67) dX2_happens_13 (by rw [s13_1]; decide) (by rw [s13_1]; decide) (by rw [s13_1]; rfl) (by decide) k_) ?_
    refine AX.map (fun _ k_ => AW.iload_n dX2_happens_67 rfl rfl k_) ?_
    refine AX.map (fun _ k_ => AW.iconst (v := 3) dX2_happens_68 (by decide) rfl k_) ?_
    refine AX.map (fun _ k_ => AW.irem dX2_happens_69 (by decide) rfl k_) ?_
    refine AX.brP (fun _ kt_ kf_ => AW.if_ne (tgt := 131) dX2_happens_70 (by decide) rfl kt_ kf_) (fun c70 => ?_) (fun c70 => ?_)
    · have e9 : happM (s.A 626) L x = s.A 626 := (by unfold happM; simp [*]); exact ⟨_, ⟨N, V, B, by rw [e9, setA_id]⟩, AW.vretE dX2_happens_131 rfl rfl rfl⟩
    · refine AX.map (fun _ k_ => AW.aload_n dX2_happens_73 rfl rfl k_) ?_
      refine AX.map (fun _ k_ => AW.iload_n dX2_happens_74 rfl rfl k_) ?_
      refine AX.map (fun _ k_ => AW.bipush (v := 20) dX2_happens_75 (by decide) rfl k_) ?_
      refine AX.map (fun _ k_ => AW.irem dX2_happens_77 (by decide) rfl k_) ?_
      refine AX.map (fun _ k_ => AW.iload_n dX2_happens_78 rfl rfl k_) ?_
      refine AX.map (fun _ k_ => AW.callV (Y := mX2_canForget) (n := 2) (r_nX2_canForget hm.1 _ _) (by decide) (by decide) rfl gM q1756 q1758 qs107 q141 q1759 dX2_happens_79 (by decide +kernel) rfl rfl (Nat.le_of_ble_eq_true rfl) rfl k_) ?_
      refine AX.brF (fun _ kt_ kf_ => AW.if_eqB (tgt := 131) dX2_happens_82 (by decide) rfl kt_ kf_) (fun c82 => ?_) (fun c82 => ?_)
      · have e9 : happM (s.A 626) L x = s.A 626 := (by unfold happM; simp [*]); exact ⟨_, ⟨N, V, B, by rw [e9, setA_id]⟩, AW.vretE dX2_happens_131 rfl rfl rfl⟩
      · refine AX.map (fun _ k_ => AW.aload_n dX2_happens_85 rfl rfl k_) ?_
        refine AX.map (fun _ k_ => AW.iload_n dX2_happens_86 rfl rfl k_) ?_
        refine AX.map (fun _ k_ => AW.bipush (v := 20) dX2_happens_87 (by decide) rfl k_) ?_
        refine AX.map (fun _ k_ => AW.irem dX2_happens_89 (by decide) rfl k_) ?_
        refine AX.map (fun _ k_ => AW.iload_n dX2_happens_90 rfl rfl k_) ?_
        refine AX.map (fun _ k_ => AW.callV (Y := mX2_forgetNow) (n := 2) (r_nX2_forgetNow _ _ (in_get hm.1 (forgets_hou c82) (by decide) (by decide))) (by decide) (by decide) rfl gM q1760 q1762 qs108 q141 q1763 dX2_happens_91 (by decide +kernel) rfl rfl (Nat.le_of_ble_eq_true rfl) rfl k_) ?_
        refine AX.map (fun _ k_ => AW.goto (tgt := 131) dX2_happens_94 (by decide) k_) ?_
        have e9 : happM (s.A 626) L x = forgetM (s.A 626) (x % 20) (x % s.A 626 0) := (by unfold happM; simp [*]); exact ⟨_, ⟨_, _, _, by rw [e9]⟩, AW.vretE dX2_happens_131 rfl rfl rfl⟩
  by_cases s13_2 : (x % 6) = 4
  · refine AX.map (fun _ k_ => AW.tableIn (off := 84) (tgt := 97) dX2_happens_13 (by rw [s13_2]; decide) (by rw [s13_2]; decide) (by rw [s13_2]; rfl) (by decide) k_) ?_
    refine AX.map (fun _ k_ => AW.aload_n dX2_happens_97 rfl rfl k_) ?_
    refine AX.map (fun _ k_ => AW.get ci2 0 (by decide) q1351 dX2_happens_98 gM rfl rfl k_) ?_
    refine AX.map (fun _ k_ => AW.bipush (v := 8) dX2_happens_101 (by decide) rfl k_) ?_
    refine AX.map (fun _ k_ => AW.iald dX2_happens_103 gn626 (vp_in_iff.mpr (by decide)) (j := 8) (by decide) rfl k_) ?_
    refine AX.map (fun _ k_ => AW.sipush (v := 9999) dX2_happens_104 (by decide) rfl k_) ?_
    refine AX.brN (fun _ kt_ kf_ => AW.icmp_ge (tgt := 131) dX2_happens_107 (by decide) rfl kt_ kf_) (fun c107 => ?_) (fun c107 => ?_)
    · have c108 := Int32.not_lt.mpr c107; have e9 : happM (s.A 626) L x = s.A 626 := (by unfold happM; simp [*]); exact ⟨_, ⟨N, V, B, by rw [e9, setA_id]⟩, AW.vretE dX2_happens_131 rfl rfl rfl⟩
    · refine AX.map (fun _ k_ => AW.aload_n dX2_happens_110 rfl rfl k_) ?_
      obtain ⟨_, ⟨N2, V2, B2, rfl⟩, w⟩ := r_X2_pass (N := N) (V := V) (B := B) hm.1 hL
      refine AX.map (fun _ k_ => AW.callV (Y := mX2_pass) (n := 0) (w) (by decide) (by decide) rfl gM q1772 q1774 qs110 q141 q1775 dX2_happens_111 (by decide +kernel) rfl rfl (Nat.le_of_ble_eq_true rfl) rfl k_) ?_
      refine AX.map (fun _ k_ => AW.goto (tgt := 131) dX2_happens_114 (by decide) k_) ?_
      have c108 := Int32.not_le.mp c107; have e9 : happM (s.A 626) L x = passM (s.A 626) L := (by unfold happM; simp [*]); exact ⟨_, ⟨_, _, _, by rw [e9]⟩, AW.vretE dX2_happens_131 rfl rfl rfl⟩
  by_cases s13_3 : (x % 6) = 5
  · refine AX.map (fun _ k_ => AW.tableIn (off := 84) (tgt := 97) dX2_happens_13 (by rw [s13_3]; decide) (by rw [s13_3]; decide) (by rw [s13_3]; rfl) (by decide) k_) ?_
    refine AX.map (fun _ k_ => AW.aload_n dX2_happens_97 rfl rfl k_) ?_
    refine AX.map (fun _ k_ => AW.get ci2 0 (by decide) q1351 dX2_happens_98 gM rfl rfl k_) ?_
    refine AX.map (fun _ k_ => AW.bipush (v := 8) dX2_happens_101 (by decide) rfl k_) ?_
    refine AX.map (fun _ k_ => AW.iald dX2_happens_103 gn626 (vp_in_iff.mpr (by decide)) (j := 8) (by decide) rfl k_) ?_
    refine AX.map (fun _ k_ => AW.sipush (v := 9999) dX2_happens_104 (by decide) rfl k_) ?_
    refine AX.brN (fun _ kt_ kf_ => AW.icmp_ge (tgt := 131) dX2_happens_107 (by decide) rfl kt_ kf_) (fun c107 => ?_) (fun c107 => ?_)
    · have c108 := Int32.not_lt.mpr c107; have e9 : happM (s.A 626) L x = s.A 626 := (by unfold happM; simp [*]); exact ⟨_, ⟨N, V, B, by rw [e9, setA_id]⟩, AW.vretE dX2_happens_131 rfl rfl rfl⟩
    · refine AX.map (fun _ k_ => AW.aload_n dX2_happens_110 rfl rfl k_) ?_
      obtain ⟨_, ⟨N2, V2, B2, rfl⟩, w⟩ := r_X2_pass (N := N) (V := V) (B := B) hm.1 hL
      refine AX.map (fun _ k_ => AW.callV (Y := mX2_pass) (n := 0) (w) (by decide) (by decide) rfl gM q1772 q1774 qs110 q141 q1775 dX2_happens_111 (by decide +kernel) rfl rfl (Nat.le_of_ble_eq_true rfl) rfl k_) ?_
      refine AX.map (fun _ k_ => AW.goto (tgt := 131) dX2_happens_114 (by decide) k_) ?_
      have c108 := Int32.not_le.mp c107; have e9 : happM (s.A 626) L x = passM (s.A 626) L := (by unfold happM; simp [*]); exact ⟨_, ⟨_, _, _, by rw [e9]⟩, AW.vretE dX2_happens_131 rfl rfl rfl⟩
  refine AX.map (fun _ k_ => AW.tableOut (tgt := 117) dX2_happens_13 (by have q0 : ¬ ((x % 6)).toInt = 2 := fun q => s13_0 (Int32.toInt_inj.mp q); have q1 : ¬ ((x % 6)).toInt = 3 := fun q => s13_1 (Int32.toInt_inj.mp q); have q2 : ¬ ((x % 6)).toInt = 4 := fun q => s13_2 (Int32.toInt_inj.mp q); have q3 : ¬ ((x % 6)).toInt = 5 := fun q => s13_3 (Int32.toInt_inj.mp q); omega) (by decide) k_) ?_
  refine AX.map (fun _ k_ => AW.aload_n dX2_happens_117 rfl rfl k_) ?_
  refine AX.map (fun _ k_ => AW.iload_n dX2_happens_118 rfl rfl k_) ?_
  refine AX.map (fun _ k_ => AW.callV (Y := mX2_isHere) (n := 1) (r_nX2_isHere hm.1 _) (by decide) (by decide) rfl gM q1649 q1651 qs91 q141 q1652 dX2_happens_119 (by decide +kernel) rfl rfl (Nat.le_of_ble_eq_true rfl) rfl k_) ?_
  refine AX.brF (fun _ kt_ kf_ => AW.if_eqB (tgt := 131) dX2_happens_122 (by decide) rfl kt_ kf_) (fun c122 => ?_) (fun c122 => ?_)
  · have e9 : happM (s.A 626) L x = s.A 626 := (by unfold happM; simp [*]); exact ⟨_, ⟨N, V, B, by rw [e9, setA_id]⟩, AW.vretE dX2_happens_131 rfl rfl rfl⟩
  · refine AX.map (fun _ k_ => AW.aload_n dX2_happens_125 rfl rfl k_) ?_
    refine AX.map (fun _ k_ => AW.iload_n dX2_happens_126 rfl rfl k_) ?_
    obtain ⟨_, ⟨N2, V2, B2, rfl⟩, w⟩ := r_X2_knockNow (N := N) (V := V) (B := B) hm hL _ (Vw.her_hou c122)
    refine AX.map (fun _ k_ => AW.callV (Y := mX2_knockNow) (n := 1) (w) (by decide) (by decide) rfl gM q1661 q1663 qs94 q141 q1664 dX2_happens_127 (by decide +kernel) rfl rfl (Nat.le_of_ble_eq_true rfl) rfl k_) ?_
    refine AX.map (fun _ k_ => AW.pop dX2_happens_130 rfl rfl k_) ?_
    have e9 : happM (s.A 626) L x = knockM (s.A 626) L (x % s.A 626 0) := (by unfold happM; simp [*]); exact ⟨_, ⟨_, _, _, by rw [e9]⟩, AW.vretE dX2_happens_131 rfl rfl rfl⟩
theorem LawM.y {a X : Nat → Int32} {L : Lw} {x : Int32} (hm : MI a) (h : LawM a X L) : LawM (up (keepI a) 9 x) X L := (h.keep hm).to (up_ne (by decide)).symm
theorem r_X2_years_f {s : Sg} {N : Nat → Int32} {V : Nat → Int64} {B : Nat → Bool} (seed n : Int32) (hc : (inI seed 0 9999 && (inI n 1 40 && !decide (s.A 626 0 = 0))) = false) : Run 3 mX2_years [.ref 625, .int seed, .int n] (hp (sn s N V B)) (.inl (some (.int (-1)))) (hp (sn s N V B)) := by
  refine Run.of rfl (Nat.le_of_ble_eq_true rfl) rfl ?_
  refine AW.iload_n dX2_years_0 rfl rfl ?_
  refine AW.iconst (v := 0) dX2_years_1 (by decide) rfl ?_
  refine AW.sipush (v := 9999) dX2_years_2 (by decide) rfl ?_
  refine AW.callS (Y := mX2_isIn) (n := 3) (r_X2_isIn _ _ _) (by decide) (by decide) q1466 q1467 q141 q1468 dX2_years_5 (by decide +kernel) rfl rfl (Nat.le_of_ble_eq_true rfl) rfl ?_
  refine AW.if_eqB (tgt := 30) dX2_years_8 (by decide) rfl (fun c8 => ?_) (fun c8 => ?_)
  · refine AW.iconst (v := (-1)) dX2_years_30 (by decide) rfl ?_
    exact AW.iretE dX2_years_31 rfl rfl rfl rfl
  · refine AW.iload_n dX2_years_11 rfl rfl ?_
    refine AW.iconst (v := 1) dX2_years_12 (by decide) rfl ?_
    refine AW.bipush (v := 40) dX2_years_13 (by decide) rfl ?_
    refine AW.callS (Y := mX2_isIn) (n := 3) (r_X2_isIn _ _ _) (by decide) (by decide) q1466 q1467 q141 q1468 dX2_years_15 (by decide +kernel) rfl rfl (Nat.le_of_ble_eq_true rfl) rfl ?_
    refine AW.if_eqB (tgt := 30) dX2_years_18 (by decide) rfl (fun c18 => ?_) (fun c18 => ?_)
    · refine AW.iconst (v := (-1)) dX2_years_30 (by decide) rfl ?_
      exact AW.iretE dX2_years_31 rfl rfl rfl rfl
    · refine AW.aload_n dX2_years_21 rfl rfl ?_
      refine AW.get ci2 0 (by decide) q1351 dX2_years_22 gM rfl rfl ?_
      refine AW.iconst (v := 0) dX2_years_25 (by decide) rfl ?_
      refine AW.iald dX2_years_26 gn626 (vp_in_iff.mpr (by decide)) (j := 0) (by decide) rfl ?_
      refine AW.if_ne (tgt := 32) dX2_years_27 (by decide) rfl (fun c27 => ?_) (fun c27 => ?_)
      · exact absurd hc (by rw [c8, c18, decide_eq_false c27]; decide)
      · refine AW.iconst (v := (-1)) dX2_years_30 (by decide) rfl ?_
        exact AW.iretE dX2_years_31 rfl rfl rfl rfl
theorem r_X2_years_t {s : Sg} {N : Nat → Int32} {V : Nat → Int64} {B : Nat → Bool} {L : Lw} (hm : MI (s.A 626)) (hL : LawM (s.A 626) (s.A 628) L) (seed n : Int32) (hc : (inI seed 0 9999 && (inI n 1 40 && !decide (s.A 626 0 = 0))) = true) : RX (Qn (s.setA 626 (yearM (up (keepI (s.A 626)) 9 (seed * 2 + 131)) L (cI n)))) 10 mX2_years [.ref 625, .int seed, .int n] (hp (sn s N V B)) (some (.int ((yearM (up (keepI (s.A 626)) 9 (seed * 2 + 131)) L (cI n)) 8))) := by
  simp only [Bool.and_eq_true, Bool.not_eq_true', decide_eq_false_iff_not] at hc
  have h0 : 0 ≤ n.toInt := by have := (inI_iff.mp hc.2.1).1; rw [t1] at this; omega
  have hm0 : MI (up (keepI (s.A 626)) 9 (seed * 2 + 131)) := MI_9 (MI_keep hm)
  have hL0 : LawM (up (keepI (s.A 626)) 9 (seed * 2 + 131)) (s.A 628) L := hL.y hm
  have e00 : (up (keepI (s.A 626)) 9 (seed * 2 + 131)) 0 = s.A 626 0 := (up_ne (by decide)).trans (keepI_lo hm (by decide) (by decide))
  refine RX.of rfl (Nat.le_of_ble_eq_true rfl) rfl ?_
  refine AX.map (fun _ k_ => AW.iload_n dX2_years_0 rfl rfl k_) ?_
  refine AX.map (fun _ k_ => AW.iconst (v := 0) dX2_years_1 (by decide) rfl k_) ?_
  refine AX.map (fun _ k_ => AW.sipush (v := 9999) dX2_years_2 (by decide) rfl k_) ?_
  refine AX.map (fun _ k_ => AW.callS (Y := mX2_isIn) (n := 3) (r_X2_isIn _ _ _) (by decide) (by decide) q1466 q1467 q141 q1468 dX2_years_5 (by decide +kernel) rfl rfl (Nat.le_of_ble_eq_true rfl) rfl k_) ?_
  refine AX.map (fun _ k_ => AW.if_eqB (tgt := 30) dX2_years_8 (by decide) rfl (fun c_ => by first | exact absurd c_ hc.1 | exact absurd hc.1 c_ | exact Bool.noConfusion (c_.symm.trans hc.1)) (fun _ => k_)) ?_
  refine AX.map (fun _ k_ => AW.iload_n dX2_years_11 rfl rfl k_) ?_
  refine AX.map (fun _ k_ => AW.iconst (v := 1) dX2_years_12 (by decide) rfl k_) ?_
  refine AX.map (fun _ k_ => AW.bipush (v := 40) dX2_years_13 (by decide) rfl k_) ?_
  refine AX.map (fun _ k_ => AW.callS (Y := mX2_isIn) (n := 3) (r_X2_isIn _ _ _) (by decide) (by decide) q1466 q1467 q141 q1468 dX2_years_15 (by decide +kernel) rfl rfl (Nat.le_of_ble_eq_true rfl) rfl k_) ?_
  refine AX.map (fun _ k_ => AW.if_eqB (tgt := 30) dX2_years_18 (by decide) rfl (fun c_ => by first | exact absurd c_ hc.2.1 | exact absurd hc.2.1 c_ | exact Bool.noConfusion (c_.symm.trans hc.2.1)) (fun _ => k_)) ?_
  refine AX.map (fun _ k_ => AW.aload_n dX2_years_21 rfl rfl k_) ?_
  refine AX.map (fun _ k_ => AW.get ci2 0 (by decide) q1351 dX2_years_22 gM rfl rfl k_) ?_
  refine AX.map (fun _ k_ => AW.iconst (v := 0) dX2_years_25 (by decide) rfl k_) ?_
  refine AX.map (fun _ k_ => AW.iald dX2_years_26 gn626 (vp_in_iff.mpr (by decide)) (j := 0) (by decide) rfl k_) ?_
  refine AX.map (fun _ k_ => AW.if_ne (tgt := 32) dX2_years_27 (by decide) rfl (fun _ => k_) (fun c_ => by first | exact absurd c_ hc.2.2 | exact absurd hc.2.2 c_ | exact absurd c_ (not_not_intro hc.2.2) | exact Bool.noConfusion (c_.symm.trans hc.2.2))) ?_
  refine AX.map (fun _ k_ => AW.aload_n dX2_years_32 rfl rfl k_) ?_
  refine AX.map (fun _ k_ => AW.callV (Y := mX2_keep) (n := 0) (r_nX2_keep hm) (by decide) (by decide) rfl gM q1657 q1659 qs93 q141 q1660 dX2_years_33 (by decide +kernel) rfl rfl (Nat.le_of_ble_eq_true rfl) rfl k_) ?_
  refine AX.map (fun _ k_ => AW.aload_n dX2_years_36 rfl rfl k_) ?_
  refine AX.map (fun _ k_ => AW.get ci2 0 (by decide) q1351 dX2_years_37 gM rfl rfl k_) ?_
  refine AX.map (fun _ k_ => AW.bipush (v := 9) dX2_years_40 (by decide) rfl k_) ?_
  refine AX.map (fun _ k_ => AW.iload_n dX2_years_42 rfl rfl k_) ?_
  refine AX.map (fun _ k_ => AW.iconst (v := 2) dX2_years_43 (by decide) rfl k_) ?_
  refine AX.map (fun _ k_ => AW.imul dX2_years_44 rfl k_) ?_
  refine AX.map (fun _ k_ => AW.sipush (v := 131) dX2_years_45 (by decide) rfl k_) ?_
  refine AX.map (fun _ k_ => AW.iadd dX2_years_48 rfl k_) ?_
  refine AX.map (fun _ k_ => AW.iast dX2_years_49 (by decide) gn626 (vp_in_iff.mpr (by decide)) (j := 9) (by decide) sn626 rfl k_) ?_
  refine AX.hpE (h1 := hp (sn (s.setA 626 (up (keepI (s.A 626)) 9 (seed * 2 + 131))) N V B)) (by rw [setA_setA, setA_at]) ?_
  refine AX.map (fun _ k_ => AW.iconst (v := 0) dX2_years_50 (by decide) rfl k_) ?_
  refine AX.map (fun _ k_ => AW.istore_n (i := 3) dX2_years_51 rfl rfl (Nat.le_of_ble_eq_true rfl) rfl rfl k_) ?_
  refine loopUp (P := fun k => ∀ N V B, AX (Qn (s.setA 626 (yearM (up (keepI (s.A 626)) 9 (seed * 2 + 131)) L (cI n)))) 10 mX2_years (hp (sn (s.setA 626 (yearM (up (keepI (s.A 626)) 9 (seed * 2 + 131)) L k)) N V B)) 52 [some (.ref 625), some (.int (seed)), some (.int (n)), some (.int (nI k)), none] [] (.inl (some (.int ((yearM (up (keepI (s.A 626)) 9 (seed * 2 + 131)) L (cI n)) 8))))) (cI n) ?_ ?_ 0 (by first | exact Nat.zero_le _ | omega) N V B
  · clear N V B
    intro N V B
    refine AX.map (fun _ k_ => AW.iload_n dX2_years_52 rfl rfl k_) ?_
    refine AX.map (fun _ k_ => AW.iload_n dX2_years_53 rfl rfl k_) ?_
    refine AX.map (fun _ k_ => AW.icmp_ge (tgt := 82) dX2_years_54 (by decide) rfl (fun _ => k_) (fun c_ => by first | exact absurd c_ (by rw [nI_cI h0]; exact Int32.le_refl _) | exact absurd (by rw [nI_cI h0]; exact Int32.le_refl _) c_ | exact absurd c_ (not_not_intro (by rw [nI_cI h0]; exact Int32.le_refl _)) | exact Bool.noConfusion (c_.symm.trans (by rw [nI_cI h0]; exact Int32.le_refl _)))) ?_
    refine AX.map (fun _ k_ => AW.aload_n dX2_years_82 rfl rfl k_) ?_
    refine AX.map (fun _ k_ => AW.get ci2 0 (by decide) q1351 dX2_years_83 gM rfl rfl k_) ?_
    refine AX.map (fun _ k_ => AW.bipush (v := 8) dX2_years_86 (by decide) rfl k_) ?_
    refine AX.map (fun _ k_ => AW.iald dX2_years_88 gn626 (vp_in_iff.mpr (by decide)) (j := 8) (by decide) rfl k_) ?_
    exact ⟨_, Qn.of, AW.iretE dX2_years_89 rfl rfl (by rw [setA_at]) rfl⟩
  · intro k hk ihk
    clear N V B
    intro N V B
    obtain ⟨hmk, hk2⟩ := yearM_ok (L := L) hm0 k
    have hLk : LawM (yearM (up (keepI (s.A 626)) 9 (seed * 2 + 131)) L k) (s.A 628) L := hL0.by hk2
    have ek0 : (yearM (up (keepI (s.A 626)) 9 (seed * 2 + 131)) L k) 0 = s.A 626 0 := hk2.1.trans e00
    have es : (yearM (up (keepI (s.A 626)) 9 (seed * 2 + 131)) L (k + 1)) = happM (drawN (yearM (up (keepI (s.A 626)) 9 (seed * 2 + 131)) L k)) L ((yearM (up (keepI (s.A 626)) 9 (seed * 2 + 131)) L k) 9) := rfl
    generalize (yearM (up (keepI (s.A 626)) 9 (seed * 2 + 131)) L k) = b at *
    rw [es] at ihk
    refine AX.map (fun _ k_ => AW.iload_n dX2_years_52 rfl rfl k_) ?_
    refine AX.map (fun _ k_ => AW.iload_n dX2_years_53 rfl rfl k_) ?_
    refine AX.map (fun _ k_ => AW.icmp_ge (tgt := 82) dX2_years_54 (by decide) rfl (fun c_ => by first | exact absurd c_ (by rw [← nI_cI h0, Int32.le_iff_toInt_le, nI_t (cI_lt n), nI_t (by have := cI_lt n; omega)]; omega) | exact absurd (by rw [← nI_cI h0, Int32.le_iff_toInt_le, nI_t (cI_lt n), nI_t (by have := cI_lt n; omega)]; omega) c_ | exact Bool.noConfusion (c_.symm.trans (by rw [← nI_cI h0, Int32.le_iff_toInt_le, nI_t (cI_lt n), nI_t (by have := cI_lt n; omega)]; omega))) (fun _ => k_)) ?_
    refine AX.map (fun _ k_ => AW.aload_n dX2_years_57 rfl rfl k_) ?_
    refine AX.map (fun _ k_ => AW.get ci2 0 (by decide) q1351 dX2_years_58 gM rfl rfl k_) ?_
    refine AX.map (fun _ k_ => AW.bipush (v := 9) dX2_years_61 (by decide) rfl k_) ?_
    refine AX.map (fun _ k_ => AW.iald dX2_years_63 gn626 (vp_in_iff.mpr (by decide)) (j := 9) (by decide) rfl k_) ?_
    refine AX.stE (st1 := [.int (b 9)]) (by rw [setA_at]) ?_
    refine AX.map (fun _ k_ => AW.istore dX2_years_64 rfl (Nat.le_of_ble_eq_true rfl) rfl rfl k_) ?_
    refine AX.map (fun _ k_ => AW.aload_n dX2_years_66 rfl rfl k_) ?_
    refine AX.map (fun _ k_ => AW.callV (Y := mX2_anew) (n := 0) (r_nX2_anew) (by decide) (by decide) rfl gM q1745 q1747 qs106 q141 q1748 dX2_years_67 (by decide +kernel) rfl rfl (Nat.le_of_ble_eq_true rfl) rfl k_) ?_
    refine AX.hpE (h1 := hp (sn (s.setA 626 (drawN b)) N V B)) (by rw [setA_setA, setA_at]) ?_
    refine AX.map (fun _ k_ => AW.aload_n dX2_years_70 rfl rfl k_) ?_
    refine AX.map (fun _ k_ => AW.iload dX2_years_71 rfl rfl k_) ?_
    have w : RX (Qn (s.setA 626 (happM (drawN b) L (b 9)))) 9 mX2_happens [.ref 625, .int (b 9)] (hp (sn (s.setA 626 (drawN b)) N V B)) none := by
      have hu : (s.setA 626 (drawN b)).A 626 = drawN b := setA_at
      have hs : ∀ g, (s.setA 626 (drawN b)).setA 626 g = s.setA 626 g := fun g => setA_setA
      have hX : (s.setA 626 (drawN b)).A 628 = s.A 628 := setA_ne (by decide)
      have hL3 := hLk.by draw_same
      have hm3 := MI_draw hmk
      have hz3 : ¬ drawN b 0 = 0 := by rw [show drawN b 0 = b 0 from up_ne (by decide), ek0]; exact hc.2.2
      generalize s.setA 626 (drawN b) = u at *
      rw [← hu] at hm3 hL3 hz3
      rw [← hX] at hL3
      have w := r_X2_happens (N := N) (V := V) (B := B) hm3 hL3 (b 9) hz3
      rw [hs, hu] at w
      exact w
    obtain ⟨_, ⟨N2, V2, B2, rfl⟩, w⟩ := w
    refine AX.map (fun _ k_ => AW.callV (Y := mX2_happens) (n := 1) (w) (by decide) (by decide) rfl gM q1805 q1807 qs115 q141 q1808 dX2_years_73 (by decide +kernel) rfl rfl (Nat.le_of_ble_eq_true rfl) rfl k_) ?_
    refine AX.map (fun _ k_ => AW.iinc (v := 1) dX2_years_76 rfl (by decide) rfl rfl rfl k_) ?_
    refine AX.map (fun _ k_ => AW.goto (tgt := 52) dX2_years_79 (by decide) k_) ?_
    exact AX.fgE 4 rfl (AX.lsE (by rw [nI_succ k]; rfl) (ihk _ _ _))
