/-! MODEL 12: a day that passes; a knock (printed by tools/m12.py) -/
set_option maxRecDepth 100000
section NRUN
variable {s : Sg} {N : Nat → Int32} {V : Nat → Int64} {B : Nat → Bool}
theorem r_nX2_get (h w : Int32) (hi : vp_in (12 + 8 * h + w) 2308) : Run 1 mX2_get [.ref 625, .int h, .int w] (hp (sn s N V B)) (.inl (some (.int (gtM (s.A 626) h w)))) (hp (sn s N V B)) := by
  have q := r_X2_get (s := sn s N V B) h w hi
  rw [sn_A (k := 626) (by decide) (by decide)] at q; exact q
theorem r_nX2_put (h w v : Int32) (hi : vp_in (12 + 8 * h + w) 2308) : Run 1 mX2_put [.ref 625, .int h, .int w, .int v] (hp (sn s N V B)) (.inl none) (hp (sn (s.setA 626 (ptM (s.A 626) h w v)) N V B)) := by
  have q := r_X2_put (s := sn s N V B) h w v hi
  rw [sn_A (k := 626) (by decide) (by decide), sn_set (by decide) (by decide)] at q; exact q
theorem r_nX2_date : Run 1 mX2_date [.ref 625] (hp (sn s N V B)) (.inl (some (.int (s.A 626 8 % 20)))) (hp (sn s N V B)) := by
  have q := r_X2_date (s := sn s N V B)
  rw [sn_A (k := 626) (by decide) (by decide)] at q; exact q
end NRUN
theorem r_X2_pass {s : Sg} {N : Nat → Int32} {V : Nat → Int64} {B : Nat → Bool} {L : Lw} (hn : (vwM (s.A 626)).ok) (hL : LawM (s.A 626) (s.A 628) L) : RX (Qn (s.setA 626 (passM (s.A 626) L))) 8 mX2_pass [.ref 625] (hp (sn s N V B)) none := by
  refine RX.of rfl (Nat.le_of_ble_eq_true rfl) rfl ?_
  refine AX.map (fun _ k_ => AW.aload_n dX2_pass_0 rfl rfl k_) ?_
  refine AX.map (fun _ k_ => AW.callV (Y := mX2_date) (n := 0) (r_nX2_date) (by decide) (by decide) rfl gM q1665 q1667 qs95 q141 q1668 dX2_pass_1 (by decide +kernel) rfl rfl (Nat.le_of_ble_eq_true rfl) rfl k_) ?_
  refine AX.map (fun _ k_ => AW.istore_n (i := 1) dX2_pass_4 rfl rfl (Nat.le_of_ble_eq_true rfl) rfl rfl k_) ?_
  refine AX.map (fun _ k_ => AW.iconst (v := 0) dX2_pass_5 (by decide) rfl k_) ?_
  refine AX.map (fun _ k_ => AW.istore_n (i := 2) dX2_pass_6 rfl rfl (Nat.le_of_ble_eq_true rfl) rfl rfl k_) ?_
  refine AX.hpE (h1 := hp (sn (s.setA 626 (passH (s.A 626) L 0)) N V B)) (by rw [show passH (s.A 626) L 0 = (s.A 626) from rfl, setA_id]) ?_
  refine loopUp (P := fun k => ∀ N V B, AX (Qn (s.setA 626 (passM (s.A 626) L))) 8 mX2_pass (hp (sn (s.setA 626 (passH (s.A 626) L k)) N V B)) 7 [some (.ref 625), some (.int ((s.A 626) 8 % 20)), some (.int (nI k)), none] [] (.inl none)) (vwM (s.A 626)).n ?_ ?_ 0 (by first | exact Nat.zero_le _ | omega) N V B
  · clear N V B
    intro N V B
    have h7 := Vw.n7 hn
    have e0 : passH (s.A 626) L (vwM (s.A 626)).n 0 = (s.A 626) 0 := passH_out h7 (by omega)
    have e8 : passH (s.A 626) L (vwM (s.A 626)).n 8 = (s.A 626) 8 := passH_out h7 (by omega)
    refine AX.map (fun _ k_ => AW.iload_n dX2_pass_7 rfl rfl k_) ?_
    refine AX.map (fun _ k_ => AW.aload_n dX2_pass_8 rfl rfl k_) ?_
    refine AX.map (fun _ k_ => AW.get ci2 0 (by decide) q1351 dX2_pass_9 gM rfl rfl k_) ?_
    refine AX.map (fun _ k_ => AW.iconst (v := 0) dX2_pass_12 (by decide) rfl k_) ?_
    refine AX.map (fun _ k_ => AW.iald dX2_pass_13 gn626 (vp_in_iff.mpr (by decide)) (j := 0) (by decide) rfl k_) ?_
    refine AX.map (fun _ k_ => AW.icmp_ge (tgt := 93) dX2_pass_14 (by decide) rfl (fun _ => k_) (fun c_ => by first | exact absurd c_ (by rw [setA_at, e0]; exact loop_end (by have := Vw.n7 hn; omega) (Vw.nN hn)) | exact absurd (by rw [setA_at, e0]; exact loop_end (by have := Vw.n7 hn; omega) (Vw.nN hn)) c_ | exact absurd c_ (not_not_intro (by rw [setA_at, e0]; exact loop_end (by have := Vw.n7 hn; omega) (Vw.nN hn))) | exact Bool.noConfusion (c_.symm.trans (by rw [setA_at, e0]; exact loop_end (by have := Vw.n7 hn; omega) (Vw.nN hn))))) ?_
    refine AX.map (fun _ k_ => AW.aload_n dX2_pass_93 rfl rfl k_) ?_
    refine AX.map (fun _ k_ => AW.get ci2 0 (by decide) q1351 dX2_pass_94 gM rfl rfl k_) ?_
    refine AX.map (fun _ k_ => AW.bipush (v := 8) dX2_pass_97 (by decide) rfl k_) ?_
    refine AX.map (fun _ k_ => AW.dup2 dX2_pass_99 rfl rfl rfl k_) ?_
    refine AX.map (fun _ k_ => AW.iald dX2_pass_100 gn626 (vp_in_iff.mpr (by decide)) (j := 8) (by decide) rfl k_) ?_
    refine AX.map (fun _ k_ => AW.iconst (v := 1) dX2_pass_101 (by decide) rfl k_) ?_
    refine AX.map (fun _ k_ => AW.iadd dX2_pass_102 rfl k_) ?_
    refine AX.map (fun _ k_ => AW.iast dX2_pass_103 (by decide) gn626 (vp_in_iff.mpr (by decide)) (j := 8) (by decide) sn626 rfl k_) ?_
    refine ⟨_, Qn.of (N := N) (V := V) (B := B), AW.vretE dX2_pass_104 rfl rfl ?_⟩
    rw [setA_setA, setA_at, e8]
    rfl
  · intro k hk ihk
    clear N V B
    intro N V B
    have hk7 : k < 7 := by have := Vw.n7 hn; omega
    have e0 : passH (s.A 626) L k 0 = (s.A 626) 0 := passH_out (by omega) (by omega)
    have e2 : passH (s.A 626) L k 2 = (s.A 626) 2 := passH_out (by omega) (by omega)
    have e8 : passH (s.A 626) L k 8 = (s.A 626) 8 := passH_out (by omega) (by omega)
    have hu : (s.setA 626 (passH (s.A 626) L k)).A 626 = passH (s.A 626) L k := setA_at
    have hs : ∀ f, (s.setA 626 (passH (s.A 626) L k)).setA 626 f = s.setA 626 f := fun f => setA_setA
    have hX : (s.setA 626 (passH (s.A 626) L k)).A 628 = s.A 628 := setA_ne (by decide)
    have hs1 : passH (s.A 626) L (k + 1) = if gtM (passH (s.A 626) L k) (nI k) 3 = 1 then passH (s.A 626) L k else ptM (passH (s.A 626) L k) (nI k) 1 (cutI (gtM (passH (s.A 626) L k) (nI k) 1 + moreF L (vwM (passH (s.A 626) L k)) (nI k) (passH (s.A 626) L k 8)) 0 9999) := rfl
    generalize (s.setA 626 (passH (s.A 626) L k)) = u at *
    have hn2 : (vwM (u.A 626)).ok := by rw [hu]; exact ok_of e0.symm hn
    have hL2 : LawM (u.A 626) (u.A 628) L := by rw [hu, hX]; exact hL.to e2.symm
    have hh2 : (vwM (u.A 626)).hou (nI k) = true := by rw [hu]; exact hou_of0 e0.symm (Vw.hou_k hn hk)
    rw [← hu] at hs1 e0 e2 e8
    refine AX.map (fun _ k_ => AW.iload_n dX2_pass_7 rfl rfl k_) ?_
    refine AX.map (fun _ k_ => AW.aload_n dX2_pass_8 rfl rfl k_) ?_
    refine AX.map (fun _ k_ => AW.get ci2 0 (by decide) q1351 dX2_pass_9 gM rfl rfl k_) ?_
    refine AX.map (fun _ k_ => AW.iconst (v := 0) dX2_pass_12 (by decide) rfl k_) ?_
    refine AX.map (fun _ k_ => AW.iald dX2_pass_13 gn626 (vp_in_iff.mpr (by decide)) (j := 0) (by decide) rfl k_) ?_
    refine AX.map (fun _ k_ => AW.icmp_ge (tgt := 93) dX2_pass_14 (by decide) rfl (fun c_ => by first | exact absurd c_ (by rw [e0]; exact loop_in hk (by have := Vw.n7 hn; omega) (Vw.nN hn)) | exact absurd (by rw [e0]; exact loop_in hk (by have := Vw.n7 hn; omega) (Vw.nN hn)) c_ | exact Bool.noConfusion (c_.symm.trans (by rw [e0]; exact loop_in hk (by have := Vw.n7 hn; omega) (Vw.nN hn)))) (fun _ => k_)) ?_
    refine AX.map (fun _ k_ => AW.aload_n dX2_pass_17 rfl rfl k_) ?_
    refine AX.map (fun _ k_ => AW.iload_n dX2_pass_18 rfl rfl k_) ?_
    refine AX.map (fun _ k_ => AW.iconst (v := 3) dX2_pass_19 (by decide) rfl k_) ?_
    refine AX.map (fun _ k_ => AW.callV (Y := mX2_get) (n := 2) (r_nX2_get (nI k) 3 (in_get hn2 hh2 (by decide) (by decide))) (by decide) (by decide) rfl gM q1477 q1479 qs63 q141 q1480 dX2_pass_20 (by decide +kernel) rfl rfl (Nat.le_of_ble_eq_true rfl) rfl k_) ?_
    refine AX.map (fun _ k_ => AW.iconst (v := 1) dX2_pass_23 (by decide) rfl k_) ?_
    refine AX.brP (fun _ kt_ kf_ => AW.icmp_ne (tgt := 30) dX2_pass_24 (by decide) rfl kt_ kf_) (fun c24 => ?_) (fun c24 => ?_)
    · refine AX.map (fun _ k_ => AW.aload_n dX2_pass_30 rfl rfl k_) ?_
      refine AX.map (fun _ k_ => AW.iload_n dX2_pass_31 rfl rfl k_) ?_
      refine AX.map (fun _ k_ => AW.iconst (v := 0) dX2_pass_32 (by decide) rfl k_) ?_
      refine AX.map (fun _ k_ => AW.callV (Y := mX2_get) (n := 2) (r_nX2_get (nI k) 0 (in_get hn2 hh2 (by decide) (by decide))) (by decide) (by decide) rfl gM q1477 q1479 qs63 q141 q1480 dX2_pass_33 (by decide +kernel) rfl rfl (Nat.le_of_ble_eq_true rfl) rfl k_) ?_
      refine AX.map (fun _ k_ => AW.iload_n dX2_pass_36 rfl rfl k_) ?_
      refine AX.map (fun _ k_ => AW.callS (Y := mX2_has) (n := 2) (r_X2_has _ _) (by decide) (by decide) q1547 q1548 q141 q1549 dX2_pass_37 (by decide +kernel) rfl rfl (Nat.le_of_ble_eq_true rfl) rfl k_) ?_
      refine AX.brF (fun _ kt_ kf_ => AW.if_eqB (tgt := 52) dX2_pass_40 (by decide) rfl kt_ kf_) (fun c40 => ?_) (fun c40 => ?_)
      · refine AX.map (fun _ k_ => AW.aload_n dX2_pass_52 rfl rfl k_) ?_
        refine AX.map (fun _ k_ => AW.iload_n dX2_pass_53 rfl rfl k_) ?_
        refine AX.map (fun _ k_ => AW.aload_n dX2_pass_54 rfl rfl k_) ?_
        refine AX.map (fun _ k_ => AW.get ci2 0 (by decide) q1351 dX2_pass_55 gM rfl rfl k_) ?_
        refine AX.map (fun _ k_ => AW.bipush (v := 8) dX2_pass_58 (by decide) rfl k_) ?_
        refine AX.map (fun _ k_ => AW.iald dX2_pass_60 gn626 (vp_in_iff.mpr (by decide)) (j := 8) (by decide) rfl k_) ?_
        obtain ⟨_, ⟨N2, V2, B2, rfl⟩, w⟩ := r_X2_earnsOn (N := N) (V := V) (B := B) hn2 hL2 (nI k) (u.A 626 8) hh2
        refine AX.map (fun _ k_ => AW.callV (Y := mX2_earnsOn) (n := 2) (w) (by decide) (by decide) rfl gM q1784 q1786 qs113 q141 q1787 dX2_pass_61 (by decide +kernel) rfl rfl (Nat.le_of_ble_eq_true rfl) rfl k_) ?_
        refine AX.stE (st1 := [.int (moreF L (vwM (u.A 626)) (nI k) (u.A 626 8))]) (by unfold moreF; rw [vwM_sh hh2, e8]; first | (rw [if_pos c40]; rfl) | (rw [if_neg (by rw [c40]; decide)]; rfl)) ?_
        refine AX.map (fun _ k_ => AW.istore_n (i := 3) dX2_pass_64 rfl rfl (Nat.le_of_ble_eq_true rfl) rfl rfl k_) ?_
        refine AX.map (fun _ k_ => AW.aload_n dX2_pass_65 rfl rfl k_) ?_
        refine AX.map (fun _ k_ => AW.iload_n dX2_pass_66 rfl rfl k_) ?_
        refine AX.map (fun _ k_ => AW.iconst (v := 1) dX2_pass_67 (by decide) rfl k_) ?_
        refine AX.map (fun _ k_ => AW.aload_n dX2_pass_68 rfl rfl k_) ?_
        refine AX.map (fun _ k_ => AW.iload_n dX2_pass_69 rfl rfl k_) ?_
        refine AX.map (fun _ k_ => AW.iconst (v := 1) dX2_pass_70 (by decide) rfl k_) ?_
        refine AX.map (fun _ k_ => AW.callV (Y := mX2_get) (n := 2) (r_nX2_get (nI k) 1 (in_get hn2 hh2 (by decide) (by decide))) (by decide) (by decide) rfl gM q1477 q1479 qs63 q141 q1480 dX2_pass_71 (by decide +kernel) rfl rfl (Nat.le_of_ble_eq_true rfl) rfl k_) ?_
        refine AX.map (fun _ k_ => AW.iload_n dX2_pass_74 rfl rfl k_) ?_
        refine AX.map (fun _ k_ => AW.iadd dX2_pass_75 rfl k_) ?_
        refine AX.map (fun _ k_ => AW.i2l dX2_pass_76 rfl k_) ?_
        refine AX.map (fun _ k_ => AW.iconst (v := 0) dX2_pass_77 (by decide) rfl k_) ?_
        refine AX.map (fun _ k_ => AW.sipush (v := 9999) dX2_pass_78 (by decide) rfl k_) ?_
        refine AX.map (fun _ k_ => AW.callS (Y := mX2_cut) (n := 3) (r_X2_cut _ _ _) (by decide) (by decide) q1726 q1727 q141 q1728 dX2_pass_81 (by decide +kernel) rfl rfl (Nat.le_of_ble_eq_true rfl) rfl k_) ?_
        refine AX.map (fun _ k_ => AW.callV (Y := mX2_put) (n := 3) (r_nX2_put (nI k) 1 _ (in_get hn2 hh2 (by decide) (by decide))) (by decide) (by decide) rfl gM q1469 q1471 qs61 q141 q1472 dX2_pass_84 (by decide +kernel) rfl rfl (Nat.le_of_ble_eq_true rfl) rfl k_) ?_
        refine AX.map (fun _ k_ => AW.iinc (v := 1) dX2_pass_87 rfl (by decide) rfl rfl rfl k_) ?_
        refine AX.map (fun _ k_ => AW.goto (tgt := 7) dX2_pass_90 (by decide) k_) ?_
        rw [if_neg c24] at hs1
        rw [hs1] at ihk
        exact AX.fgE 3 rfl (AX.lsE (by rw [nI_succ k]; rfl) (AX.hpE (by rw [hs]; rfl) (ihk _ _ _)))
      · refine AX.map (fun _ k_ => AW.aload_n dX2_pass_43 rfl rfl k_) ?_
        refine AX.map (fun _ k_ => AW.iload_n dX2_pass_44 rfl rfl k_) ?_
        obtain ⟨_, ⟨N2, V2, B2, rfl⟩, w⟩ := r_X2_losesOf (N := N) (V := V) (B := B) hn2 hL2 (nI k) hh2
        refine AX.map (fun _ k_ => AW.callV (Y := mX2_losesOf) (n := 1) (w) (by decide) (by decide) rfl gM q1776 q1778 qs111 q141 q1779 dX2_pass_45 (by decide +kernel) rfl rfl (Nat.le_of_ble_eq_true rfl) rfl k_) ?_
        refine AX.map (fun _ k_ => AW.ineg dX2_pass_48 rfl k_) ?_
        refine AX.map (fun _ k_ => AW.goto (tgt := 64) dX2_pass_49 (by decide) k_) ?_
        refine AX.stE (st1 := [.int (moreF L (vwM (u.A 626)) (nI k) (u.A 626 8))]) (by unfold moreF; rw [vwM_sh hh2, e8]; first | (rw [if_pos c40]; rfl) | (rw [if_neg (by rw [c40]; decide)]; rfl)) ?_
        refine AX.map (fun _ k_ => AW.istore_n (i := 3) dX2_pass_64 rfl rfl (Nat.le_of_ble_eq_true rfl) rfl rfl k_) ?_
        refine AX.map (fun _ k_ => AW.aload_n dX2_pass_65 rfl rfl k_) ?_
        refine AX.map (fun _ k_ => AW.iload_n dX2_pass_66 rfl rfl k_) ?_
        refine AX.map (fun _ k_ => AW.iconst (v := 1) dX2_pass_67 (by decide) rfl k_) ?_
        refine AX.map (fun _ k_ => AW.aload_n dX2_pass_68 rfl rfl k_) ?_
        refine AX.map (fun _ k_ => AW.iload_n dX2_pass_69 rfl rfl k_) ?_
        refine AX.map (fun _ k_ => AW.iconst (v := 1) dX2_pass_70 (by decide) rfl k_) ?_
        refine AX.map (fun _ k_ => AW.callV (Y := mX2_get) (n := 2) (r_nX2_get (nI k) 1 (in_get hn2 hh2 (by decide) (by decide))) (by decide) (by decide) rfl gM q1477 q1479 qs63 q141 q1480 dX2_pass_71 (by decide +kernel) rfl rfl (Nat.le_of_ble_eq_true rfl) rfl k_) ?_
        refine AX.map (fun _ k_ => AW.iload_n dX2_pass_74 rfl rfl k_) ?_
        refine AX.map (fun _ k_ => AW.iadd dX2_pass_75 rfl k_) ?_
        refine AX.map (fun _ k_ => AW.i2l dX2_pass_76 rfl k_) ?_
        refine AX.map (fun _ k_ => AW.iconst (v := 0) dX2_pass_77 (by decide) rfl k_) ?_
        refine AX.map (fun _ k_ => AW.sipush (v := 9999) dX2_pass_78 (by decide) rfl k_) ?_
        refine AX.map (fun _ k_ => AW.callS (Y := mX2_cut) (n := 3) (r_X2_cut _ _ _) (by decide) (by decide) q1726 q1727 q141 q1728 dX2_pass_81 (by decide +kernel) rfl rfl (Nat.le_of_ble_eq_true rfl) rfl k_) ?_
        refine AX.map (fun _ k_ => AW.callV (Y := mX2_put) (n := 3) (r_nX2_put (nI k) 1 _ (in_get hn2 hh2 (by decide) (by decide))) (by decide) (by decide) rfl gM q1469 q1471 qs61 q141 q1472 dX2_pass_84 (by decide +kernel) rfl rfl (Nat.le_of_ble_eq_true rfl) rfl k_) ?_
        refine AX.map (fun _ k_ => AW.iinc (v := 1) dX2_pass_87 rfl (by decide) rfl rfl rfl k_) ?_
        refine AX.map (fun _ k_ => AW.goto (tgt := 7) dX2_pass_90 (by decide) k_) ?_
        rw [if_neg c24] at hs1
        rw [hs1] at ihk
        exact AX.fgE 3 rfl (AX.lsE (by rw [nI_succ k]; rfl) (AX.hpE (by rw [hs]; rfl) (ihk _ _ _)))
    · refine AX.map (fun _ k_ => AW.goto (tgt := 87) dX2_pass_27 (by decide) k_) ?_
      refine AX.map (fun _ k_ => AW.iinc (v := 1) dX2_pass_87 rfl (by decide) rfl rfl rfl k_) ?_
      refine AX.map (fun _ k_ => AW.goto (tgt := 7) dX2_pass_90 (by decide) k_) ?_
      rw [if_pos c24, hu] at hs1
      rw [hs1] at ihk
      have e9 := hs (u.A 626)
      rw [setA_id] at e9
      exact AX.fgE 3 rfl (AX.lsE (by rw [nI_succ k]; rfl) (AX.hpE (by rw [e9, hu]) (ihk _ _ _)))
