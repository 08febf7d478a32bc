/-! MODEL 15: doings of a text (printed by tools/m15.py) -/
set_option maxRecDepth 100000
section NRUN3
variable {s : Sg} {N : Nat → Int32} {V : Nat → Int64} {B : Nat → Bool}
theorem r_nX2_house_f (d1 d2 d3 pu fr : Int32) (hb : okH (s.A 626 0) d1 d2 d3 pu fr = false) : Run 3 mX2_house [.ref 625, .int d1, .int d2, .int d3, .int pu, .int fr] (hp (sn s N V B)) (.inl (some (.int (-1)))) (hp (sn s N V B)) :=
  r_X2_house_f (s := sn s N V B) d1 d2 d3 pu fr (by rw [sn_A (by decide) (by decide)]; exact hb)
theorem r_nX2_house_t (d1 d2 d3 pu fr : Int32) (hm : MI (s.A 626)) (hb : okH (s.A 626 0) d1 d2 d3 pu fr = true) : Run 3 mX2_house [.ref 625, .int d1, .int d2, .int d3, .int pu, .int fr] (hp (sn s N V B)) (.inl (some (.int (s.A 626 0)))) (hp (sn (s.setA 626 (houseM (s.A 626) (cI (s.A 626 0)) d1 d2 d3 pu fr)) N V B)) := by
  have h7 := okH_n hb
  have h0 := hm.1
  have q1 : (cI (s.A 626 0) : Int) = (s.A 626 0).toInt := cI_of h0.1
  have q2 : (s.A 626 0).toInt ≤ 7 := h0.2
  have q3 : (s.A 626 0).toInt ≠ 7 := fun z => h7 (Int32.toInt_inj.mp (z.trans rfl))
  have q := r_X2_house_t (s := sn s N V B) d1 d2 d3 pu fr (cI (s.A 626 0)) (by rw [sn_A (by decide) (by decide)]; exact (nI_cI h0.1).symm) (by omega) (by rw [sn_A (by decide) (by decide)]; exact hb)
  rw [sn_A (k := 626) (by decide) (by decide), sn_set (by decide) (by decide), nI_cI (x := s.A 626 0) h0.1] at q
  exact q
theorem r_nX2_marry_f (hn : (vwM (s.A 626)).ok) (h e : Int32) (hb : (vwM (s.A 626)).weds h e = false) : Run 4 mX2_marry [.ref 625, .int h, .int e] (hp (sn s N V B)) (.inl (some (.int (-1)))) (hp (sn s N V B)) :=
  r_X2_marry_f (s := sn s N V B) (by rw [sn_A (by decide) (by decide)]; exact hn) h e (by rw [sn_A (by decide) (by decide)]; exact hb)
theorem r_nX2_marry_t (hm : MI (s.A 626)) (h e : Int32) (hb : (vwM (s.A 626)).weds h e = true) : Run 4 mX2_marry [.ref 625, .int h, .int e] (hp (sn s N V B)) (.inl (some (.int (wedI ((vwM (s.A 626)).sh h) ((vwM (s.A 626)).sh e))))) (hp (sn (s.setA 626 (marryM (keepI (s.A 626)) h e (wedI ((vwM (s.A 626)).sh h) ((vwM (s.A 626)).sh e)))) N V B)) := by
  obtain ⟨c, h1, h2⟩ := hm.2.1
  have q := r_X2_marry_t (s := sn s N V B) (by rw [sn_A (by decide) (by decide)]; exact hm.1) h e (by rw [sn_A (by decide) (by decide)]; exact hb) c (by rw [sn_A (by decide) (by decide)]; exact h2) h1
  rw [sn_A (k := 626) (by decide) (by decide), sn_set (by decide) (by decide)] at q
  unfold keepI
  rw [h2, cI_nI (by omega)]
  exact q
theorem r_nX2_hat_f (hn : (vwM (s.A 626)).ok) (h : Int32) (hb : (vwM (s.A 626)).draws h = false) : Run 5 mX2_hat [.ref 625, .int h] (hp (sn s N V B)) (.inl (some (.int (-1)))) (hp (sn s N V B)) :=
  r_X2_hat_f (s := sn s N V B) (by rw [sn_A (by decide) (by decide)]; exact hn) h (by rw [sn_A (by decide) (by decide)]; exact hb)
theorem r_nX2_hat_t (hm : MI (s.A 626)) (h : Int32) (hb : (vwM (s.A 626)).draws h = true) : Run 5 mX2_hat [.ref 625, .int h] (hp (sn s N V B)) (.inl (some (.int (hatR h 20 (keepI (s.A 626))).1))) (hp (sn (s.setA 626 (hatR h 20 (keepI (s.A 626))).2) N V B)) := by
  obtain ⟨c, h1, h2⟩ := hm.2.1
  have q := r_X2_hat_t (s := sn s N V B) (by rw [sn_A (by decide) (by decide)]; exact hm.1) h (by rw [sn_A (by decide) (by decide)]; exact hb) c (by rw [sn_A (by decide) (by decide)]; exact h2) h1 (in_get hm.1 (draws_hou hb) (by decide) (by decide))
  rw [sn_A (k := 626) (by decide) (by decide), sn_set (by decide) (by decide)] at q
  unfold keepI
  rw [h2, cI_nI (by omega)]
  exact q
theorem r_nX2_forget_f (hn : (vwM (s.A 626)).ok) (dt h : Int32) (hb : (vwM (s.A 626)).forgets dt h = false) : Run 5 mX2_forget [.ref 625, .int dt, .int h] (hp (sn s N V B)) (.inl (some (.int (b2i false)))) (hp (sn s N V B)) :=
  r_X2_forget_f (s := sn s N V B) (by rw [sn_A (by decide) (by decide)]; exact hn) dt h (by rw [sn_A (by decide) (by decide)]; exact hb)
theorem r_nX2_forget_t (hm : MI (s.A 626)) (dt h : Int32) (hb : (vwM (s.A 626)).forgets dt h = true) : Run 5 mX2_forget [.ref 625, .int dt, .int h] (hp (sn s N V B)) (.inl (some (.int (b2i true)))) (hp (sn (s.setA 626 (forgetM (keepI (s.A 626)) dt h)) N V B)) := by
  obtain ⟨c, h1, h2⟩ := hm.2.1
  have q := r_X2_forget_t (s := sn s N V B) (by rw [sn_A (by decide) (by decide)]; exact hm.1) dt h (by rw [sn_A (by decide) (by decide)]; exact hb) c (by rw [sn_A (by decide) (by decide)]; exact h2) h1 (in_get hm.1 (forgets_hou hb) (by decide) (by decide))
  rw [sn_A (k := 626) (by decide) (by decide), sn_set (by decide) (by decide)] at q
  unfold forgetM keepI
  rw [h2, cI_nI (by omega)]
  exact q
end NRUN3
theorem pl_house_f {s : Sg} {N : Nat → Int32} {V : Nat → Int64} {B : Nat → Bool} {L : Lw} (hm : MI (s.A 626)) (hL : LawM (s.A 626) (s.A 628) L) (xx : Nat) (hxx : xx + 3 < 2820) (hq : (s.A 628) xx = 3) (hc : okH (s.A 626 0) ((s.A 628) (xx + 1)) (-1) (-1) ((s.A 628) (xx + 2)) ((s.A 628) (xx + 3)) = false) : RX (Qn (s.setA 626 (doM (s.A 626) L ((s.A 628) xx) ((s.A 628) (xx + 1)) ((s.A 628) (xx + 2)) ((s.A 628) (xx + 3))).2)) 11 mX2_isPlayed [.ref 625, .int (nI xx)] (hp (sn s N V B)) (some (.int (b2i (doM (s.A 626) L ((s.A 628) xx) ((s.A 628) (xx + 1)) ((s.A 628) (xx + 2)) ((s.A 628) (xx + 3))).1))) := by
  have eD : (doM (s.A 626) L ((s.A 628) xx) ((s.A 628) (xx + 1)) ((s.A 628) (xx + 2)) ((s.A 628) (xx + 3))) = (false, s.A 626) := by unfold doM; rw [hq]; simp [hc]
  rw [eD]
  refine RX.of rfl (Nat.le_of_ble_eq_true rfl) rfl ?_
  refine AX.map (fun _ k_ => AW.aload_n dX2_isPlayed_0 rfl rfl k_) ?_
  refine AX.map (fun _ k_ => AW.get ci2 2 (by decide) q1353 dX2_isPlayed_1 gM rfl rfl k_) ?_
  refine AX.map (fun _ k_ => AW.iload_n dX2_isPlayed_4 rfl rfl k_) ?_
  refine AX.map (fun _ k_ => AW.iconst (v := 1) dX2_isPlayed_5 (by decide) rfl k_) ?_
  refine AX.map (fun _ k_ => AW.iadd dX2_isPlayed_6 rfl k_) ?_
  refine AX.map (fun _ k_ => AW.iald dX2_isPlayed_7 gn628 (by rw [(show nI xx + 1 = nI (xx + 1) by rw [show (1 : Int32) = nI 1 from rfl, nI_add])]; exact in0 _ (by omega) (by decide)) (j := xx + 1) (by rw [(show nI xx + 1 = nI (xx + 1) by rw [show (1 : Int32) = nI 1 from rfl, nI_add])]; exact cI_nI (by omega)) rfl k_) ?_
  refine AX.map (fun _ k_ => AW.istore_n (i := 2) dX2_isPlayed_8 rfl rfl (Nat.le_of_ble_eq_true rfl) rfl rfl k_) ?_
  refine AX.map (fun _ k_ => AW.aload_n dX2_isPlayed_9 rfl rfl k_) ?_
  refine AX.map (fun _ k_ => AW.get ci2 2 (by decide) q1353 dX2_isPlayed_10 gM rfl rfl k_) ?_
  refine AX.map (fun _ k_ => AW.iload_n dX2_isPlayed_13 rfl rfl k_) ?_
  refine AX.map (fun _ k_ => AW.iconst (v := 2) dX2_isPlayed_14 (by decide) rfl k_) ?_
  refine AX.map (fun _ k_ => AW.iadd dX2_isPlayed_15 rfl k_) ?_
  refine AX.map (fun _ k_ => AW.iald dX2_isPlayed_16 gn628 (by rw [(show nI xx + 2 = nI (xx + 2) by rw [show (2 : Int32) = nI 2 from rfl, nI_add])]; exact in0 _ (by omega) (by decide)) (j := xx + 2) (by rw [(show nI xx + 2 = nI (xx + 2) by rw [show (2 : Int32) = nI 2 from rfl, nI_add])]; exact cI_nI (by omega)) rfl k_) ?_
  refine AX.map (fun _ k_ => AW.istore_n (i := 3) dX2_isPlayed_17 rfl rfl (Nat.le_of_ble_eq_true rfl) rfl rfl k_) ?_
  refine AX.map (fun _ k_ => AW.aload_n dX2_isPlayed_18 rfl rfl k_) ?_
  refine AX.map (fun _ k_ => AW.get ci2 2 (by decide) q1353 dX2_isPlayed_19 gM rfl rfl k_) ?_
  refine AX.map (fun _ k_ => AW.iload_n dX2_isPlayed_22 rfl rfl k_) ?_
  refine AX.map (fun _ k_ => AW.iald dX2_isPlayed_23 gn628 (in0 _ (by omega) (by decide)) (j := xx) (cI_nI (by omega)) rfl k_) ?_
  refine AX.map (fun _ k_ => AW.tableIn (off := 40) (tgt := 64) dX2_isPlayed_24 (by rw [hq]; decide) (by rw [hq]; decide) (by rw [hq]; rfl) (by decide) k_) ?_
  refine AX.map (fun _ k_ => AW.aload_n dX2_isPlayed_64 rfl rfl k_) ?_
  refine AX.map (fun _ k_ => AW.iload_n dX2_isPlayed_65 rfl rfl k_) ?_
  refine AX.map (fun _ k_ => AW.iconst (v := (-1)) dX2_isPlayed_66 (by decide) rfl k_) ?_
  refine AX.map (fun _ k_ => AW.iconst (v := (-1)) dX2_isPlayed_67 (by decide) rfl k_) ?_
  refine AX.map (fun _ k_ => AW.iload_n dX2_isPlayed_68 rfl rfl k_) ?_
  refine AX.map (fun _ k_ => AW.aload_n dX2_isPlayed_69 rfl rfl k_) ?_
  refine AX.map (fun _ k_ => AW.get ci2 2 (by decide) q1353 dX2_isPlayed_70 gM rfl rfl k_) ?_
  refine AX.map (fun _ k_ => AW.iload_n dX2_isPlayed_73 rfl rfl k_) ?_
  refine AX.map (fun _ k_ => AW.iconst (v := 3) dX2_isPlayed_74 (by decide) rfl k_) ?_
  refine AX.map (fun _ k_ => AW.iadd dX2_isPlayed_75 rfl k_) ?_
  refine AX.map (fun _ k_ => AW.iald dX2_isPlayed_76 gn628 (by rw [(show nI xx + 3 = nI (xx + 3) by rw [show (3 : Int32) = nI 3 from rfl, nI_add])]; exact in0 _ (by omega) (by decide)) (j := xx + 3) (by rw [(show nI xx + 3 = nI (xx + 3) by rw [show (3 : Int32) = nI 3 from rfl, nI_add])]; exact cI_nI (by omega)) rfl k_) ?_
  refine AX.map (fun _ k_ => AW.callV (Y := mX2_house) (n := 5) (r_nX2_house_f _ _ _ _ _ hc) (by decide) (by decide) rfl gM q1796 q1463 q1464 q141 q1465 dX2_isPlayed_77 (by decide +kernel) rfl rfl (Nat.le_of_ble_eq_true rfl) rfl k_) ?_
  refine AX.map (fun _ k_ => AW.if_lt (tgt := 87) dX2_isPlayed_80 (by decide) rfl (fun _ => k_) (fun c_ => by first | exact absurd c_ (by decide) | exact absurd (by decide) c_ | exact absurd c_ (not_not_intro (by decide)) | exact Bool.noConfusion (c_.symm.trans (by decide)))) ?_
  refine AX.map (fun _ k_ => AW.iconst (v := 0) dX2_isPlayed_87 (by decide) rfl k_) ?_
  exact ⟨_, ⟨N, V, B, by rw [setA_id]⟩, AW.bretE dX2_isPlayed_88 rfl rfl rfl rfl⟩
theorem pl_house_t {s : Sg} {N : Nat → Int32} {V : Nat → Int64} {B : Nat → Bool} {L : Lw} (hm : MI (s.A 626)) (hL : LawM (s.A 626) (s.A 628) L) (xx : Nat) (hxx : xx + 3 < 2820) (hq : (s.A 628) xx = 3) (hc : okH (s.A 626 0) ((s.A 628) (xx + 1)) (-1) (-1) ((s.A 628) (xx + 2)) ((s.A 628) (xx + 3)) = true) : RX (Qn (s.setA 626 (doM (s.A 626) L ((s.A 628) xx) ((s.A 628) (xx + 1)) ((s.A 628) (xx + 2)) ((s.A 628) (xx + 3))).2)) 11 mX2_isPlayed [.ref 625, .int (nI xx)] (hp (sn s N V B)) (some (.int (b2i (doM (s.A 626) L ((s.A 628) xx) ((s.A 628) (xx + 1)) ((s.A 628) (xx + 2)) ((s.A 628) (xx + 3))).1))) := by
  have eD : (doM (s.A 626) L ((s.A 628) xx) ((s.A 628) (xx + 1)) ((s.A 628) (xx + 2)) ((s.A 628) (xx + 3))) = (true, houseM (s.A 626) (cI (s.A 626 0)) ((s.A 628) (xx + 1)) (-1) (-1) ((s.A 628) (xx + 2)) ((s.A 628) (xx + 3))) := by unfold doM; rw [hq]; simp [hc]
  rw [eD]
  refine RX.of rfl (Nat.le_of_ble_eq_true rfl) rfl ?_
  refine AX.map (fun _ k_ => AW.aload_n dX2_isPlayed_0 rfl rfl k_) ?_
  refine AX.map (fun _ k_ => AW.get ci2 2 (by decide) q1353 dX2_isPlayed_1 gM rfl rfl k_) ?_
  refine AX.map (fun _ k_ => AW.iload_n dX2_isPlayed_4 rfl rfl k_) ?_
  refine AX.map (fun _ k_ => AW.iconst (v := 1) dX2_isPlayed_5 (by decide) rfl k_) ?_
  refine AX.map (fun _ k_ => AW.iadd dX2_isPlayed_6 rfl k_) ?_
  refine AX.map (fun _ k_ => AW.iald dX2_isPlayed_7 gn628 (by rw [(show nI xx + 1 = nI (xx + 1) by rw [show (1 : Int32) = nI 1 from rfl, nI_add])]; exact in0 _ (by omega) (by decide)) (j := xx + 1) (by rw [(show nI xx + 1 = nI (xx + 1) by rw [show (1 : Int32) = nI 1 from rfl, nI_add])]; exact cI_nI (by omega)) rfl k_) ?_
  refine AX.map (fun _ k_ => AW.istore_n (i := 2) dX2_isPlayed_8 rfl rfl (Nat.le_of_ble_eq_true rfl) rfl rfl k_) ?_
  refine AX.map (fun _ k_ => AW.aload_n dX2_isPlayed_9 rfl rfl k_) ?_
  refine AX.map (fun _ k_ => AW.get ci2 2 (by decide) q1353 dX2_isPlayed_10 gM rfl rfl k_) ?_
  refine AX.map (fun _ k_ => AW.iload_n dX2_isPlayed_13 rfl rfl k_) ?_
  refine AX.map (fun _ k_ => AW.iconst (v := 2) dX2_isPlayed_14 (by decide) rfl k_) ?_
  refine AX.map (fun _ k_ => AW.iadd dX2_isPlayed_15 rfl k_) ?_
  refine AX.map (fun _ k_ => AW.iald dX2_isPlayed_16 gn628 (by rw [(show nI xx + 2 = nI (xx + 2) by rw [show (2 : Int32) = nI 2 from rfl, nI_add])]; exact in0 _ (by omega) (by decide)) (j := xx + 2) (by rw [(show nI xx + 2 = nI (xx + 2) by rw [show (2 : Int32) = nI 2 from rfl, nI_add])]; exact cI_nI (by omega)) rfl k_) ?_
  refine AX.map (fun _ k_ => AW.istore_n (i := 3) dX2_isPlayed_17 rfl rfl (Nat.le_of_ble_eq_true rfl) rfl rfl k_) ?_
  refine AX.map (fun _ k_ => AW.aload_n dX2_isPlayed_18 rfl rfl k_) ?_
  refine AX.map (fun _ k_ => AW.get ci2 2 (by decide) q1353 dX2_isPlayed_19 gM rfl rfl k_) ?_
  refine AX.map (fun _ k_ => AW.iload_n dX2_isPlayed_22 rfl rfl k_) ?_
  refine AX.map (fun _ k_ => AW.iald dX2_isPlayed_23 gn628 (in0 _ (by omega) (by decide)) (j := xx) (cI_nI (by omega)) rfl k_) ?_
  refine AX.map (fun _ k_ => AW.tableIn (off := 40) (tgt := 64) dX2_isPlayed_24 (by rw [hq]; decide) (by rw [hq]; decide) (by rw [hq]; rfl) (by decide) k_) ?_
  refine AX.map (fun _ k_ => AW.aload_n dX2_isPlayed_64 rfl rfl k_) ?_
  refine AX.map (fun _ k_ => AW.iload_n dX2_isPlayed_65 rfl rfl k_) ?_
  refine AX.map (fun _ k_ => AW.iconst (v := (-1)) dX2_isPlayed_66 (by decide) rfl k_) ?_
  refine AX.map (fun _ k_ => AW.iconst (v := (-1)) dX2_isPlayed_67 (by decide) rfl k_) ?_
  refine AX.map (fun _ k_ => AW.iload_n dX2_isPlayed_68 rfl rfl k_) ?_
  refine AX.map (fun _ k_ => AW.aload_n dX2_isPlayed_69 rfl rfl k_) ?_
  refine AX.map (fun _ k_ => AW.get ci2 2 (by decide) q1353 dX2_isPlayed_70 gM rfl rfl k_) ?_
  refine AX.map (fun _ k_ => AW.iload_n dX2_isPlayed_73 rfl rfl k_) ?_
  refine AX.map (fun _ k_ => AW.iconst (v := 3) dX2_isPlayed_74 (by decide) rfl k_) ?_
  refine AX.map (fun _ k_ => AW.iadd dX2_isPlayed_75 rfl k_) ?_
  refine AX.map (fun _ k_ => AW.iald dX2_isPlayed_76 gn628 (by rw [(show nI xx + 3 = nI (xx + 3) by rw [show (3 : Int32) = nI 3 from rfl, nI_add])]; exact in0 _ (by omega) (by decide)) (j := xx + 3) (by rw [(show nI xx + 3 = nI (xx + 3) by rw [show (3 : Int32) = nI 3 from rfl, nI_add])]; exact cI_nI (by omega)) rfl k_) ?_
  refine AX.map (fun _ k_ => AW.callV (Y := mX2_house) (n := 5) (r_nX2_house_t _ _ _ _ _ hm hc) (by decide) (by decide) rfl gM q1796 q1463 q1464 q141 q1465 dX2_isPlayed_77 (by decide +kernel) rfl rfl (Nat.le_of_ble_eq_true rfl) rfl k_) ?_
  refine AX.map (fun _ k_ => AW.if_lt (tgt := 87) dX2_isPlayed_80 (by decide) rfl (fun c_ => by first | exact absurd c_ (Int32.not_lt.mpr (Int32.le_iff_toInt_le.mpr hm.1.1)) | exact absurd (Int32.not_lt.mpr (Int32.le_iff_toInt_le.mpr hm.1.1)) c_ | exact Bool.noConfusion (c_.symm.trans (Int32.not_lt.mpr (Int32.le_iff_toInt_le.mpr hm.1.1)))) (fun _ => k_)) ?_
  refine AX.map (fun _ k_ => AW.iconst (v := 1) dX2_isPlayed_83 (by decide) rfl k_) ?_
  refine AX.map (fun _ k_ => AW.goto (tgt := 88) dX2_isPlayed_84 (by decide) k_) ?_
  exact ⟨_, Qn.of, AW.bretE dX2_isPlayed_88 rfl rfl rfl rfl⟩
theorem pl_knock_f {s : Sg} {N : Nat → Int32} {V : Nat → Int64} {B : Nat → Bool} {L : Lw} (hm : MI (s.A 626)) (hL : LawM (s.A 626) (s.A 628) L) (xx : Nat) (hxx : xx + 3 < 2820) (hq : (s.A 628) xx = 4) (hc : (vwM (s.A 626)).her ((s.A 628) (xx + 1)) = false) : RX (Qn (s.setA 626 (doM (s.A 626) L ((s.A 628) xx) ((s.A 628) (xx + 1)) ((s.A 628) (xx + 2)) ((s.A 628) (xx + 3))).2)) 11 mX2_isPlayed [.ref 625, .int (nI xx)] (hp (sn s N V B)) (some (.int (b2i (doM (s.A 626) L ((s.A 628) xx) ((s.A 628) (xx + 1)) ((s.A 628) (xx + 2)) ((s.A 628) (xx + 3))).1))) := by
  have eD : (doM (s.A 626) L ((s.A 628) xx) ((s.A 628) (xx + 1)) ((s.A 628) (xx + 2)) ((s.A 628) (xx + 3))) = (false, s.A 626) := by unfold doM; rw [hq]; simp [hc]
  rw [eD]
  refine RX.of rfl (Nat.le_of_ble_eq_true rfl) rfl ?_
  refine AX.map (fun _ k_ => AW.aload_n dX2_isPlayed_0 rfl rfl k_) ?_
  refine AX.map (fun _ k_ => AW.get ci2 2 (by decide) q1353 dX2_isPlayed_1 gM rfl rfl k_) ?_
  refine AX.map (fun _ k_ => AW.iload_n dX2_isPlayed_4 rfl rfl k_) ?_
  refine AX.map (fun _ k_ => AW.iconst (v := 1) dX2_isPlayed_5 (by decide) rfl k_) ?_
  refine AX.map (fun _ k_ => AW.iadd dX2_isPlayed_6 rfl k_) ?_
  refine AX.map (fun _ k_ => AW.iald dX2_isPlayed_7 gn628 (by rw [(show nI xx + 1 = nI (xx + 1) by rw [show (1 : Int32) = nI 1 from rfl, nI_add])]; exact in0 _ (by omega) (by decide)) (j := xx + 1) (by rw [(show nI xx + 1 = nI (xx + 1) by rw [show (1 : Int32) = nI 1 from rfl, nI_add])]; exact cI_nI (by omega)) rfl k_) ?_
  refine AX.map (fun _ k_ => AW.istore_n (i := 2) dX2_isPlayed_8 rfl rfl (Nat.le_of_ble_eq_true rfl) rfl rfl k_) ?_
  refine AX.map (fun _ k_ => AW.aload_n dX2_isPlayed_9 rfl rfl k_) ?_
  refine AX.map (fun _ k_ => AW.get ci2 2 (by decide) q1353 dX2_isPlayed_10 gM rfl rfl k_) ?_
  refine AX.map (fun _ k_ => AW.iload_n dX2_isPlayed_13 rfl rfl k_) ?_
  refine AX.map (fun _ k_ => AW.iconst (v := 2) dX2_isPlayed_14 (by decide) rfl k_) ?_
  refine AX.map (fun _ k_ => AW.iadd dX2_isPlayed_15 rfl k_) ?_
  refine AX.map (fun _ k_ => AW.iald dX2_isPlayed_16 gn628 (by rw [(show nI xx + 2 = nI (xx + 2) by rw [show (2 : Int32) = nI 2 from rfl, nI_add])]; exact in0 _ (by omega) (by decide)) (j := xx + 2) (by rw [(show nI xx + 2 = nI (xx + 2) by rw [show (2 : Int32) = nI 2 from rfl, nI_add])]; exact cI_nI (by omega)) rfl k_) ?_
  refine AX.map (fun _ k_ => AW.istore_n (i := 3) dX2_isPlayed_17 rfl rfl (Nat.le_of_ble_eq_true rfl) rfl rfl k_) ?_
  refine AX.map (fun _ k_ => AW.aload_n dX2_isPlayed_18 rfl rfl k_) ?_
  refine AX.map (fun _ k_ => AW.get ci2 2 (by decide) q1353 dX2_isPlayed_19 gM rfl rfl k_) ?_
  refine AX.map (fun _ k_ => AW.iload_n dX2_isPlayed_22 rfl rfl k_) ?_
  refine AX.map (fun _ k_ => AW.iald dX2_isPlayed_23 gn628 (in0 _ (by omega) (by decide)) (j := xx) (cI_nI (by omega)) rfl k_) ?_
  refine AX.map (fun _ k_ => AW.tableIn (off := 65) (tgt := 89) dX2_isPlayed_24 (by rw [hq]; decide) (by rw [hq]; decide) (by rw [hq]; rfl) (by decide) k_) ?_
  refine AX.map (fun _ k_ => AW.aload_n dX2_isPlayed_89 rfl rfl k_) ?_
  refine AX.map (fun _ k_ => AW.iload_n dX2_isPlayed_90 rfl rfl k_) ?_
  refine AX.map (fun _ k_ => AW.callV (Y := mX2_knock) (n := 1) (r_X2_knock_f hm.1 _ hc) (by decide) (by decide) rfl gM q1797 q1646 q1647 q141 q1648 dX2_isPlayed_91 (by decide +kernel) rfl rfl (Nat.le_of_ble_eq_true rfl) rfl k_) ?_
  refine AX.map (fun _ k_ => AW.if_lt (tgt := 101) dX2_isPlayed_94 (by decide) rfl (fun _ => k_) (fun c_ => by first | exact absurd c_ (by decide) | exact absurd (by decide) c_ | exact absurd c_ (not_not_intro (by decide)) | exact Bool.noConfusion (c_.symm.trans (by decide)))) ?_
  refine AX.map (fun _ k_ => AW.iconst (v := 0) dX2_isPlayed_101 (by decide) rfl k_) ?_
  exact ⟨_, ⟨N, V, B, by rw [setA_id]⟩, AW.bretE dX2_isPlayed_102 rfl rfl rfl rfl⟩
theorem pl_knock_t {s : Sg} {N : Nat → Int32} {V : Nat → Int64} {B : Nat → Bool} {L : Lw} (hm : MI (s.A 626)) (hL : LawM (s.A 626) (s.A 628) L) (xx : Nat) (hxx : xx + 3 < 2820) (hq : (s.A 628) xx = 4) (hc : (vwM (s.A 626)).her ((s.A 628) (xx + 1)) = true) : RX (Qn (s.setA 626 (doM (s.A 626) L ((s.A 628) xx) ((s.A 628) (xx + 1)) ((s.A 628) (xx + 2)) ((s.A 628) (xx + 3))).2)) 11 mX2_isPlayed [.ref 625, .int (nI xx)] (hp (sn s N V B)) (some (.int (b2i (doM (s.A 626) L ((s.A 628) xx) ((s.A 628) (xx + 1)) ((s.A 628) (xx + 2)) ((s.A 628) (xx + 3))).1))) := by
  have eD : (doM (s.A 626) L ((s.A 628) xx) ((s.A 628) (xx + 1)) ((s.A 628) (xx + 2)) ((s.A 628) (xx + 3))) = (true, knockM (keepI (s.A 626)) L ((s.A 628) (xx + 1))) := by unfold doM; rw [hq]; simp [hc]
  rw [eD]
  refine RX.of rfl (Nat.le_of_ble_eq_true rfl) rfl ?_
  refine AX.map (fun _ k_ => AW.aload_n dX2_isPlayed_0 rfl rfl k_) ?_
  refine AX.map (fun _ k_ => AW.get ci2 2 (by decide) q1353 dX2_isPlayed_1 gM rfl rfl k_) ?_
  refine AX.map (fun _ k_ => AW.iload_n dX2_isPlayed_4 rfl rfl k_) ?_
  refine AX.map (fun _ k_ => AW.iconst (v := 1) dX2_isPlayed_5 (by decide) rfl k_) ?_
  refine AX.map (fun _ k_ => AW.iadd dX2_isPlayed_6 rfl k_) ?_
  refine AX.map (fun _ k_ => AW.iald dX2_isPlayed_7 gn628 (by rw [(show nI xx + 1 = nI (xx + 1) by rw [show (1 : Int32) = nI 1 from rfl, nI_add])]; exact in0 _ (by omega) (by decide)) (j := xx + 1) (by rw [(show nI xx + 1 = nI (xx + 1) by rw [show (1 : Int32) = nI 1 from rfl, nI_add])]; exact cI_nI (by omega)) rfl k_) ?_
  refine AX.map (fun _ k_ => AW.istore_n (i := 2) dX2_isPlayed_8 rfl rfl (Nat.le_of_ble_eq_true rfl) rfl rfl k_) ?_
  refine AX.map (fun _ k_ => AW.aload_n dX2_isPlayed_9 rfl rfl k_) ?_
  refine AX.map (fun _ k_ => AW.get ci2 2 (by decide) q1353 dX2_isPlayed_10 gM rfl rfl k_) ?_
  refine AX.map (fun _ k_ => AW.iload_n dX2_isPlayed_13 rfl rfl k_) ?_
  refine AX.map (fun _ k_ => AW.iconst (v := 2) dX2_isPlayed_14 (by decide) rfl k_) ?_
  refine AX.map (fun _ k_ => AW.iadd dX2_isPlayed_15 rfl k_) ?_
  refine AX.map (fun _ k_ => AW.iald dX2_isPlayed_16 gn628 (by rw [(show nI xx + 2 = nI (xx + 2) by rw [show (2 : Int32) = nI 2 from rfl, nI_add])]; exact in0 _ (by omega) (by decide)) (j := xx + 2) (by rw [(show nI xx + 2 = nI (xx + 2) by rw [show (2 : Int32) = nI 2 from rfl, nI_add])]; exact cI_nI (by omega)) rfl k_) ?_
  refine AX.map (fun _ k_ => AW.istore_n (i := 3) dX2_isPlayed_17 rfl rfl (Nat.le_of_ble_eq_true rfl) rfl rfl k_) ?_
  refine AX.map (fun _ k_ => AW.aload_n dX2_isPlayed_18 rfl rfl k_) ?_
  refine AX.map (fun _ k_ => AW.get ci2 2 (by decide) q1353 dX2_isPlayed_19 gM rfl rfl k_) ?_
  refine AX.map (fun _ k_ => AW.iload_n dX2_isPlayed_22 rfl rfl k_) ?_
  refine AX.map (fun _ k_ => AW.iald dX2_isPlayed_23 gn628 (in0 _ (by omega) (by decide)) (j := xx) (cI_nI (by omega)) rfl k_) ?_
  refine AX.map (fun _ k_ => AW.tableIn (off := 65) (tgt := 89) dX2_isPlayed_24 (by rw [hq]; decide) (by rw [hq]; decide) (by rw [hq]; rfl) (by decide) k_) ?_
  refine AX.map (fun _ k_ => AW.aload_n dX2_isPlayed_89 rfl rfl k_) ?_
  refine AX.map (fun _ k_ => AW.iload_n dX2_isPlayed_90 rfl rfl k_) ?_
  obtain ⟨_, ⟨N2, V2, B2, rfl⟩, w⟩ := r_X2_knock_t (N := N) (V := V) (B := B) hm hL _ hc
  refine AX.map (fun _ k_ => AW.callV (Y := mX2_knock) (n := 1) (w) (by decide) (by decide) rfl gM q1797 q1646 q1647 q141 q1648 dX2_isPlayed_91 (by decide +kernel) rfl rfl (Nat.le_of_ble_eq_true rfl) rfl k_) ?_
  refine AX.map (fun _ k_ => AW.if_lt (tgt := 101) dX2_isPlayed_94 (by decide) rfl (fun c_ => by first | exact absurd c_ (by generalize hasI _ _ = z; cases z <;> decide) | exact absurd (by generalize hasI _ _ = z; cases z <;> decide) c_ | exact Bool.noConfusion (c_.symm.trans (by generalize hasI _ _ = z; cases z <;> decide))) (fun _ => k_)) ?_
  refine AX.map (fun _ k_ => AW.iconst (v := 1) dX2_isPlayed_97 (by decide) rfl k_) ?_
  refine AX.map (fun _ k_ => AW.goto (tgt := 102) dX2_isPlayed_98 (by decide) k_) ?_
  exact ⟨_, Qn.of, AW.bretE dX2_isPlayed_102 rfl rfl rfl rfl⟩
theorem pl_marry_f {s : Sg} {N : Nat → Int32} {V : Nat → Int64} {B : Nat → Bool} {L : Lw} (hm : MI (s.A 626)) (hL : LawM (s.A 626) (s.A 628) L) (xx : Nat) (hxx : xx + 3 < 2820) (hq : (s.A 628) xx = 5) (hc : (vwM (s.A 626)).weds ((s.A 628) (xx + 1)) ((s.A 628) (xx + 2)) = false) : RX (Qn (s.setA 626 (doM (s.A 626) L ((s.A 628) xx) ((s.A 628) (xx + 1)) ((s.A 628) (xx + 2)) ((s.A 628) (xx + 3))).2)) 11 mX2_isPlayed [.ref 625, .int (nI xx)] (hp (sn s N V B)) (some (.int (b2i (doM (s.A 626) L ((s.A 628) xx) ((s.A 628) (xx + 1)) ((s.A 628) (xx + 2)) ((s.A 628) (xx + 3))).1))) := by
  have eD : (doM (s.A 626) L ((s.A 628) xx) ((s.A 628) (xx + 1)) ((s.A 628) (xx + 2)) ((s.A 628) (xx + 3))) = (false, s.A 626) := by unfold doM; rw [hq]; simp [hc]
  rw [eD]
  refine RX.of rfl (Nat.le_of_ble_eq_true rfl) rfl ?_
  refine AX.map (fun _ k_ => AW.aload_n dX2_isPlayed_0 rfl rfl k_) ?_
  refine AX.map (fun _ k_ => AW.get ci2 2 (by decide) q1353 dX2_isPlayed_1 gM rfl rfl k_) ?_
  refine AX.map (fun _ k_ => AW.iload_n dX2_isPlayed_4 rfl rfl k_) ?_
  refine AX.map (fun _ k_ => AW.iconst (v := 1) dX2_isPlayed_5 (by decide) rfl k_) ?_
  refine AX.map (fun _ k_ => AW.iadd dX2_isPlayed_6 rfl k_) ?_
  refine AX.map (fun _ k_ => AW.iald dX2_isPlayed_7 gn628 (by rw [(show nI xx + 1 = nI (xx + 1) by rw [show (1 : Int32) = nI 1 from rfl, nI_add])]; exact in0 _ (by omega) (by decide)) (j := xx + 1) (by rw [(show nI xx + 1 = nI (xx + 1) by rw [show (1 : Int32) = nI 1 from rfl, nI_add])]; exact cI_nI (by omega)) rfl k_) ?_
  refine AX.map (fun _ k_ => AW.istore_n (i := 2) dX2_isPlayed_8 rfl rfl (Nat.le_of_ble_eq_true rfl) rfl rfl k_) ?_
  refine AX.map (fun _ k_ => AW.aload_n dX2_isPlayed_9 rfl rfl k_) ?_
  refine AX.map (fun _ k_ => AW.get ci2 2 (by decide) q1353 dX2_isPlayed_10 gM rfl rfl k_) ?_
  refine AX.map (fun _ k_ => AW.iload_n dX2_isPlayed_13 rfl rfl k_) ?_
  refine AX.map (fun _ k_ => AW.iconst (v := 2) dX2_isPlayed_14 (by decide) rfl k_) ?_
  refine AX.map (fun _ k_ => AW.iadd dX2_isPlayed_15 rfl k_) ?_
  refine AX.map (fun _ k_ => AW.iald dX2_isPlayed_16 gn628 (by rw [(show nI xx + 2 = nI (xx + 2) by rw [show (2 : Int32) = nI 2 from rfl, nI_add])]; exact in0 _ (by omega) (by decide)) (j := xx + 2) (by rw [(show nI xx + 2 = nI (xx + 2) by rw [show (2 : Int32) = nI 2 from rfl, nI_add])]; exact cI_nI (by omega)) rfl k_) ?_
  refine AX.map (fun _ k_ => AW.istore_n (i := 3) dX2_isPlayed_17 rfl rfl (Nat.le_of_ble_eq_true rfl) rfl rfl k_) ?_
  refine AX.map (fun _ k_ => AW.aload_n dX2_isPlayed_18 rfl rfl k_) ?_
  refine AX.map (fun _ k_ => AW.get ci2 2 (by decide) q1353 dX2_isPlayed_19 gM rfl rfl k_) ?_
  refine AX.map (fun _ k_ => AW.iload_n dX2_isPlayed_22 rfl rfl k_) ?_
  refine AX.map (fun _ k_ => AW.iald dX2_isPlayed_23 gn628 (in0 _ (by omega) (by decide)) (j := xx) (cI_nI (by omega)) rfl k_) ?_
  refine AX.map (fun _ k_ => AW.tableIn (off := 79) (tgt := 103) dX2_isPlayed_24 (by rw [hq]; decide) (by rw [hq]; decide) (by rw [hq]; rfl) (by decide) k_) ?_
  refine AX.map (fun _ k_ => AW.aload_n dX2_isPlayed_103 rfl rfl k_) ?_
  refine AX.map (fun _ k_ => AW.iload_n dX2_isPlayed_104 rfl rfl k_) ?_
  refine AX.map (fun _ k_ => AW.iload_n dX2_isPlayed_105 rfl rfl k_) ?_
  refine AX.map (fun _ k_ => AW.callV (Y := mX2_marry) (n := 2) (r_nX2_marry_f hm.1 _ _ hc) (by decide) (by decide) rfl gM q1798 q1730 q1731 q141 q1732 dX2_isPlayed_106 (by decide +kernel) rfl rfl (Nat.le_of_ble_eq_true rfl) rfl k_) ?_
  refine AX.map (fun _ k_ => AW.if_lt (tgt := 116) dX2_isPlayed_109 (by decide) rfl (fun _ => k_) (fun c_ => by first | exact absurd c_ (by decide) | exact absurd (by decide) c_ | exact absurd c_ (not_not_intro (by decide)) | exact Bool.noConfusion (c_.symm.trans (by decide)))) ?_
  refine AX.map (fun _ k_ => AW.iconst (v := 0) dX2_isPlayed_116 (by decide) rfl k_) ?_
  exact ⟨_, ⟨N, V, B, by rw [setA_id]⟩, AW.bretE dX2_isPlayed_117 rfl rfl rfl rfl⟩
theorem pl_marry_t {s : Sg} {N : Nat → Int32} {V : Nat → Int64} {B : Nat → Bool} {L : Lw} (hm : MI (s.A 626)) (hL : LawM (s.A 626) (s.A 628) L) (xx : Nat) (hxx : xx + 3 < 2820) (hq : (s.A 628) xx = 5) (hc : (vwM (s.A 626)).weds ((s.A 628) (xx + 1)) ((s.A 628) (xx + 2)) = true) : RX (Qn (s.setA 626 (doM (s.A 626) L ((s.A 628) xx) ((s.A 628) (xx + 1)) ((s.A 628) (xx + 2)) ((s.A 628) (xx + 3))).2)) 11 mX2_isPlayed [.ref 625, .int (nI xx)] (hp (sn s N V B)) (some (.int (b2i (doM (s.A 626) L ((s.A 628) xx) ((s.A 628) (xx + 1)) ((s.A 628) (xx + 2)) ((s.A 628) (xx + 3))).1))) := by
  have eD : (doM (s.A 626) L ((s.A 628) xx) ((s.A 628) (xx + 1)) ((s.A 628) (xx + 2)) ((s.A 628) (xx + 3))) = (decide (0 ≤ wedI ((vwM (s.A 626)).sh ((s.A 628) (xx + 1))) ((vwM (s.A 626)).sh ((s.A 628) (xx + 2)))), marryM (keepI (s.A 626)) ((s.A 628) (xx + 1)) ((s.A 628) (xx + 2)) (wedI ((vwM (s.A 626)).sh ((s.A 628) (xx + 1))) ((vwM (s.A 626)).sh ((s.A 628) (xx + 2))))) := by unfold doM; rw [hq]; simp [hc]
  rw [eD]
  refine RX.of rfl (Nat.le_of_ble_eq_true rfl) rfl ?_
  refine AX.map (fun _ k_ => AW.aload_n dX2_isPlayed_0 rfl rfl k_) ?_
  refine AX.map (fun _ k_ => AW.get ci2 2 (by decide) q1353 dX2_isPlayed_1 gM rfl rfl k_) ?_
  refine AX.map (fun _ k_ => AW.iload_n dX2_isPlayed_4 rfl rfl k_) ?_
  refine AX.map (fun _ k_ => AW.iconst (v := 1) dX2_isPlayed_5 (by decide) rfl k_) ?_
  refine AX.map (fun _ k_ => AW.iadd dX2_isPlayed_6 rfl k_) ?_
  refine AX.map (fun _ k_ => AW.iald dX2_isPlayed_7 gn628 (by rw [(show nI xx + 1 = nI (xx + 1) by rw [show (1 : Int32) = nI 1 from rfl, nI_add])]; exact in0 _ (by omega) (by decide)) (j := xx + 1) (by rw [(show nI xx + 1 = nI (xx + 1) by rw [show (1 : Int32) = nI 1 from rfl, nI_add])]; exact cI_nI (by omega)) rfl k_) ?_
  refine AX.map (fun _ k_ => AW.istore_n (i := 2) dX2_isPlayed_8 rfl rfl (Nat.le_of_ble_eq_true rfl) rfl rfl k_) ?_
  refine AX.map (fun _ k_ => AW.aload_n dX2_isPlayed_9 rfl rfl k_) ?_
  refine AX.map (fun _ k_ => AW.get ci2 2 (by decide) q1353 dX2_isPlayed_10 gM rfl rfl k_) ?_
  refine AX.map (fun _ k_ => AW.iload_n dX2_isPlayed_13 rfl rfl k_) ?_
  refine AX.map (fun _ k_ => AW.iconst (v := 2) dX2_isPlayed_14 (by decide) rfl k_) ?_
  refine AX.map (fun _ k_ => AW.iadd dX2_isPlayed_15 rfl k_) ?_
  refine AX.map (fun _ k_ => AW.iald dX2_isPlayed_16 gn628 (by rw [(show nI xx + 2 = nI (xx + 2) by rw [show (2 : Int32) = nI 2 from rfl, nI_add])]; exact in0 _ (by omega) (by decide)) (j := xx + 2) (by rw [(show nI xx + 2 = nI (xx + 2) by rw [show (2 : Int32) = nI 2 from rfl, nI_add])]; exact cI_nI (by omega)) rfl k_) ?_
  refine AX.map (fun _ k_ => AW.istore_n (i := 3) dX2_isPlayed_17 rfl rfl (Nat.le_of_ble_eq_true rfl) rfl rfl k_) ?_
  refine AX.map (fun _ k_ => AW.aload_n dX2_isPlayed_18 rfl rfl k_) ?_
  refine AX.map (fun _ k_ => AW.get ci2 2 (by decide) q1353 dX2_isPlayed_19 gM rfl rfl k_) ?_
  refine AX.map (fun _ k_ => AW.iload_n dX2_isPlayed_22 rfl rfl k_) ?_
  refine AX.map (fun _ k_ => AW.iald dX2_isPlayed_23 gn628 (in0 _ (by omega) (by decide)) (j := xx) (cI_nI (by omega)) rfl k_) ?_
  refine AX.map (fun _ k_ => AW.tableIn (off := 79) (tgt := 103) dX2_isPlayed_24 (by rw [hq]; decide) (by rw [hq]; decide) (by rw [hq]; rfl) (by decide) k_) ?_
  refine AX.map (fun _ k_ => AW.aload_n dX2_isPlayed_103 rfl rfl k_) ?_
  refine AX.map (fun _ k_ => AW.iload_n dX2_isPlayed_104 rfl rfl k_) ?_
  refine AX.map (fun _ k_ => AW.iload_n dX2_isPlayed_105 rfl rfl k_) ?_
  refine AX.map (fun _ k_ => AW.callV (Y := mX2_marry) (n := 2) (r_nX2_marry_t hm _ _ hc) (by decide) (by decide) rfl gM q1798 q1730 q1731 q141 q1732 dX2_isPlayed_106 (by decide +kernel) rfl rfl (Nat.le_of_ble_eq_true rfl) rfl k_) ?_
  refine AX.brN (fun _ kt_ kf_ => AW.if_lt (tgt := 116) dX2_isPlayed_109 (by decide) rfl kt_ kf_) (fun c1 => ?_) (fun c1 => ?_)
  · refine AX.map (fun _ k_ => AW.iconst (v := 0) dX2_isPlayed_116 (by decide) rfl k_) ?_
    exact ⟨_, Qn.of, AW.bretE dX2_isPlayed_117 rfl rfl (by first | (rw [decide_eq_true (Int32.not_lt.mp c1)]; rfl) | (rw [decide_eq_false (Int32.not_le.mpr c1)]; rfl)) rfl⟩
  · refine AX.map (fun _ k_ => AW.iconst (v := 1) dX2_isPlayed_112 (by decide) rfl k_) ?_
    refine AX.map (fun _ k_ => AW.goto (tgt := 117) dX2_isPlayed_113 (by decide) k_) ?_
    exact ⟨_, Qn.of, AW.bretE dX2_isPlayed_117 rfl rfl (by first | (rw [decide_eq_true (Int32.not_lt.mp c1)]; rfl) | (rw [decide_eq_false (Int32.not_le.mpr c1)]; rfl)) rfl⟩
theorem pl_hat_f {s : Sg} {N : Nat → Int32} {V : Nat → Int64} {B : Nat → Bool} {L : Lw} (hm : MI (s.A 626)) (hL : LawM (s.A 626) (s.A 628) L) (xx : Nat) (hxx : xx + 3 < 2820) (hq : (s.A 628) xx = 6) (hc : (vwM (s.A 626)).draws ((s.A 628) (xx + 1)) = false) : RX (Qn (s.setA 626 (doM (s.A 626) L ((s.A 628) xx) ((s.A 628) (xx + 1)) ((s.A 628) (xx + 2)) ((s.A 628) (xx + 3))).2)) 11 mX2_isPlayed [.ref 625, .int (nI xx)] (hp (sn s N V B)) (some (.int (b2i (doM (s.A 626) L ((s.A 628) xx) ((s.A 628) (xx + 1)) ((s.A 628) (xx + 2)) ((s.A 628) (xx + 3))).1))) := by
  have eD : (doM (s.A 626) L ((s.A 628) xx) ((s.A 628) (xx + 1)) ((s.A 628) (xx + 2)) ((s.A 628) (xx + 3))) = (false, s.A 626) := by unfold doM; rw [hq]; simp [hc]
  rw [eD]
  refine RX.of rfl (Nat.le_of_ble_eq_true rfl) rfl ?_
  refine AX.map (fun _ k_ => AW.aload_n dX2_isPlayed_0 rfl rfl k_) ?_
  refine AX.map (fun _ k_ => AW.get ci2 2 (by decide) q1353 dX2_isPlayed_1 gM rfl rfl k_) ?_
  refine AX.map (fun _ k_ => AW.iload_n dX2_isPlayed_4 rfl rfl k_) ?_
  refine AX.map (fun _ k_ => AW.iconst (v := 1) dX2_isPlayed_5 (by decide) rfl k_) ?_
  refine AX.map (fun _ k_ => AW.iadd dX2_isPlayed_6 rfl k_) ?_
  refine AX.map (fun _ k_ => AW.iald dX2_isPlayed_7 gn628 (by rw [(show nI xx + 1 = nI (xx + 1) by rw [show (1 : Int32) = nI 1 from rfl, nI_add])]; exact in0 _ (by omega) (by decide)) (j := xx + 1) (by rw [(show nI xx + 1 = nI (xx + 1) by rw [show (1 : Int32) = nI 1 from rfl, nI_add])]; exact cI_nI (by omega)) rfl k_) ?_
  refine AX.map (fun _ k_ => AW.istore_n (i := 2) dX2_isPlayed_8 rfl rfl (Nat.le_of_ble_eq_true rfl) rfl rfl k_) ?_
  refine AX.map (fun _ k_ => AW.aload_n dX2_isPlayed_9 rfl rfl k_) ?_
  refine AX.map (fun _ k_ => AW.get ci2 2 (by decide) q1353 dX2_isPlayed_10 gM rfl rfl k_) ?_
  refine AX.map (fun _ k_ => AW.iload_n dX2_isPlayed_13 rfl rfl k_) ?_
  refine AX.map (fun _ k_ => AW.iconst (v := 2) dX2_isPlayed_14 (by decide) rfl k_) ?_
  refine AX.map (fun _ k_ => AW.iadd dX2_isPlayed_15 rfl k_) ?_
  refine AX.map (fun _ k_ => AW.iald dX2_isPlayed_16 gn628 (by rw [(show nI xx + 2 = nI (xx + 2) by rw [show (2 : Int32) = nI 2 from rfl, nI_add])]; exact in0 _ (by omega) (by decide)) (j := xx + 2) (by rw [(show nI xx + 2 = nI (xx + 2) by rw [show (2 : Int32) = nI 2 from rfl, nI_add])]; exact cI_nI (by omega)) rfl k_) ?_
  refine AX.map (fun _ k_ => AW.istore_n (i := 3) dX2_isPlayed_17 rfl rfl (Nat.le_of_ble_eq_true rfl) rfl rfl k_) ?_
  refine AX.map (fun _ k_ => AW.aload_n dX2_isPlayed_18 rfl rfl k_) ?_
  refine AX.map (fun _ k_ => AW.get ci2 2 (by decide) q1353 dX2_isPlayed_19 gM rfl rfl k_) ?_
  refine AX.map (fun _ k_ => AW.iload_n dX2_isPlayed_22 rfl rfl k_) ?_
  refine AX.map (fun _ k_ => AW.iald dX2_isPlayed_23 gn628 (in0 _ (by omega) (by decide)) (j := xx) (cI_nI (by omega)) rfl k_) ?_
  refine AX.map (fun _ k_ => AW.tableIn (off := 94) (tgt := 118) dX2_isPlayed_24 (by rw [hq]; decide) (by rw [hq]; decide) (by rw [hq]; rfl) (by decide) k_) ?_
  refine AX.map (fun _ k_ => AW.aload_n dX2_isPlayed_118 rfl rfl k_) ?_
  refine AX.map (fun _ k_ => AW.iload_n dX2_isPlayed_119 rfl rfl k_) ?_
  refine AX.map (fun _ k_ => AW.callV (Y := mX2_canDraw) (n := 1) (r_nX2_canDraw hm.1 _) (by decide) (by decide) rfl gM q1737 q1739 qs104 q141 q1740 dX2_isPlayed_120 (by decide +kernel) rfl rfl (Nat.le_of_ble_eq_true rfl) rfl k_) ?_
  refine AX.map (fun _ k_ => AW.istore dX2_isPlayed_123 rfl (Nat.le_of_ble_eq_true rfl) rfl rfl k_) ?_
  refine AX.map (fun _ k_ => AW.aload_n dX2_isPlayed_125 rfl rfl k_) ?_
  refine AX.map (fun _ k_ => AW.iload_n dX2_isPlayed_126 rfl rfl k_) ?_
  refine AX.map (fun _ k_ => AW.callV (Y := mX2_hat) (n := 1) (r_nX2_hat_f hm.1 _ hc) (by decide) (by decide) rfl gM q1799 q1734 q1735 q141 q1736 dX2_isPlayed_127 (by decide +kernel) rfl rfl (Nat.le_of_ble_eq_true rfl) rfl k_) ?_
  refine AX.map (fun _ k_ => AW.pop dX2_isPlayed_130 rfl rfl k_) ?_
  refine AX.map (fun _ k_ => AW.iload dX2_isPlayed_131 rfl rfl k_) ?_
  exact ⟨_, ⟨N, V, B, by rw [setA_id]⟩, AW.bretE dX2_isPlayed_133 rfl rfl (by rw [hc]) rfl⟩
theorem pl_hat_t {s : Sg} {N : Nat → Int32} {V : Nat → Int64} {B : Nat → Bool} {L : Lw} (hm : MI (s.A 626)) (hL : LawM (s.A 626) (s.A 628) L) (xx : Nat) (hxx : xx + 3 < 2820) (hq : (s.A 628) xx = 6) (hc : (vwM (s.A 626)).draws ((s.A 628) (xx + 1)) = true) : RX (Qn (s.setA 626 (doM (s.A 626) L ((s.A 628) xx) ((s.A 628) (xx + 1)) ((s.A 628) (xx + 2)) ((s.A 628) (xx + 3))).2)) 11 mX2_isPlayed [.ref 625, .int (nI xx)] (hp (sn s N V B)) (some (.int (b2i (doM (s.A 626) L ((s.A 628) xx) ((s.A 628) (xx + 1)) ((s.A 628) (xx + 2)) ((s.A 628) (xx + 3))).1))) := by
  have eD : (doM (s.A 626) L ((s.A 628) xx) ((s.A 628) (xx + 1)) ((s.A 628) (xx + 2)) ((s.A 628) (xx + 3))) = (true, (hatR ((s.A 628) (xx + 1)) 20 (keepI (s.A 626))).2) := by unfold doM; rw [hq]; simp [hc]
  rw [eD]
  refine RX.of rfl (Nat.le_of_ble_eq_true rfl) rfl ?_
  refine AX.map (fun _ k_ => AW.aload_n dX2_isPlayed_0 rfl rfl k_) ?_
  refine AX.map (fun _ k_ => AW.get ci2 2 (by decide) q1353 dX2_isPlayed_1 gM rfl rfl k_) ?_
  refine AX.map (fun _ k_ => AW.iload_n dX2_isPlayed_4 rfl rfl k_) ?_
  refine AX.map (fun _ k_ => AW.iconst (v := 1) dX2_isPlayed_5 (by decide) rfl k_) ?_
  refine AX.map (fun _ k_ => AW.iadd dX2_isPlayed_6 rfl k_) ?_
  refine AX.map (fun _ k_ => AW.iald dX2_isPlayed_7 gn628 (by rw [(show nI xx + 1 = nI (xx + 1) by rw [show (1 : Int32) = nI 1 from rfl, nI_add])]; exact in0 _ (by omega) (by decide)) (j := xx + 1) (by rw [(show nI xx + 1 = nI (xx + 1) by rw [show (1 : Int32) = nI 1 from rfl, nI_add])]; exact cI_nI (by omega)) rfl k_) ?_
  refine AX.map (fun _ k_ => AW.istore_n (i := 2) dX2_isPlayed_8 rfl rfl (Nat.le_of_ble_eq_true rfl) rfl rfl k_) ?_
  refine AX.map (fun _ k_ => AW.aload_n dX2_isPlayed_9 rfl rfl k_) ?_
  refine AX.map (fun _ k_ => AW.get ci2 2 (by decide) q1353 dX2_isPlayed_10 gM rfl rfl k_) ?_
  refine AX.map (fun _ k_ => AW.iload_n dX2_isPlayed_13 rfl rfl k_) ?_
  refine AX.map (fun _ k_ => AW.iconst (v := 2) dX2_isPlayed_14 (by decide) rfl k_) ?_
  refine AX.map (fun _ k_ => AW.iadd dX2_isPlayed_15 rfl k_) ?_
  refine AX.map (fun _ k_ => AW.iald dX2_isPlayed_16 gn628 (by rw [(show nI xx + 2 = nI (xx + 2) by rw [show (2 : Int32) = nI 2 from rfl, nI_add])]; exact in0 _ (by omega) (by decide)) (j := xx + 2) (by rw [(show nI xx + 2 = nI (xx + 2) by rw [show (2 : Int32) = nI 2 from rfl, nI_add])]; exact cI_nI (by omega)) rfl k_) ?_
  refine AX.map (fun _ k_ => AW.istore_n (i := 3) dX2_isPlayed_17 rfl rfl (Nat.le_of_ble_eq_true rfl) rfl rfl k_) ?_
  refine AX.map (fun _ k_ => AW.aload_n dX2_isPlayed_18 rfl rfl k_) ?_
  refine AX.map (fun _ k_ => AW.get ci2 2 (by decide) q1353 dX2_isPlayed_19 gM rfl rfl k_) ?_
  refine AX.map (fun _ k_ => AW.iload_n dX2_isPlayed_22 rfl rfl k_) ?_
  refine AX.map (fun _ k_ => AW.iald dX2_isPlayed_23 gn628 (in0 _ (by omega) (by decide)) (j := xx) (cI_nI (by omega)) rfl k_) ?_
  refine AX.map (fun _ k_ => AW.tableIn (off := 94) (tgt := 118) dX2_isPlayed_24 (by rw [hq]; decide) (by rw [hq]; decide) (by rw [hq]; rfl) (by decide) k_) ?_
  refine AX.map (fun _ k_ => AW.aload_n dX2_isPlayed_118 rfl rfl k_) ?_
  refine AX.map (fun _ k_ => AW.iload_n dX2_isPlayed_119 rfl rfl k_) ?_
  refine AX.map (fun _ k_ => AW.callV (Y := mX2_canDraw) (n := 1) (r_nX2_canDraw hm.1 _) (by decide) (by decide) rfl gM q1737 q1739 qs104 q141 q1740 dX2_isPlayed_120 (by decide +kernel) rfl rfl (Nat.le_of_ble_eq_true rfl) rfl k_) ?_
  refine AX.map (fun _ k_ => AW.istore dX2_isPlayed_123 rfl (Nat.le_of_ble_eq_true rfl) rfl rfl k_) ?_
  refine AX.map (fun _ k_ => AW.aload_n dX2_isPlayed_125 rfl rfl k_) ?_
  refine AX.map (fun _ k_ => AW.iload_n dX2_isPlayed_126 rfl rfl k_) ?_
  refine AX.map (fun _ k_ => AW.callV (Y := mX2_hat) (n := 1) (r_nX2_hat_t hm _ hc) (by decide) (by decide) rfl gM q1799 q1734 q1735 q141 q1736 dX2_isPlayed_127 (by decide +kernel) rfl rfl (Nat.le_of_ble_eq_true rfl) rfl k_) ?_
  refine AX.map (fun _ k_ => AW.pop dX2_isPlayed_130 rfl rfl k_) ?_
  refine AX.map (fun _ k_ => AW.iload dX2_isPlayed_131 rfl rfl k_) ?_
  exact ⟨_, Qn.of, AW.bretE dX2_isPlayed_133 rfl rfl (by rw [hc]) rfl⟩
theorem pl_forget_f {s : Sg} {N : Nat → Int32} {V : Nat → Int64} {B : Nat → Bool} {L : Lw} (hm : MI (s.A 626)) (hL : LawM (s.A 626) (s.A 628) L) (xx : Nat) (hxx : xx + 3 < 2820) (hq : (s.A 628) xx = 7) (hc : (vwM (s.A 626)).forgets ((s.A 628) (xx + 1)) ((s.A 628) (xx + 2)) = false) : RX (Qn (s.setA 626 (doM (s.A 626) L ((s.A 628) xx) ((s.A 628) (xx + 1)) ((s.A 628) (xx + 2)) ((s.A 628) (xx + 3))).2)) 11 mX2_isPlayed [.ref 625, .int (nI xx)] (hp (sn s N V B)) (some (.int (b2i (doM (s.A 626) L ((s.A 628) xx) ((s.A 628) (xx + 1)) ((s.A 628) (xx + 2)) ((s.A 628) (xx + 3))).1))) := by
  have eD : (doM (s.A 626) L ((s.A 628) xx) ((s.A 628) (xx + 1)) ((s.A 628) (xx + 2)) ((s.A 628) (xx + 3))) = (false, s.A 626) := by unfold doM; rw [hq]; simp [hc]
  rw [eD]
  refine RX.of rfl (Nat.le_of_ble_eq_true rfl) rfl ?_
  refine AX.map (fun _ k_ => AW.aload_n dX2_isPlayed_0 rfl rfl k_) ?_
  refine AX.map (fun _ k_ => AW.get ci2 2 (by decide) q1353 dX2_isPlayed_1 gM rfl rfl k_) ?_
  refine AX.map (fun _ k_ => AW.iload_n dX2_isPlayed_4 rfl rfl k_) ?_
  refine AX.map (fun _ k_ => AW.iconst (v := 1) dX2_isPlayed_5 (by decide) rfl k_) ?_
  refine AX.map (fun _ k_ => AW.iadd dX2_isPlayed_6 rfl k_) ?_
  refine AX.map (fun _ k_ => AW.iald dX2_isPlayed_7 gn628 (by rw [(show nI xx + 1 = nI (xx + 1) by rw [show (1 : Int32) = nI 1 from rfl, nI_add])]; exact in0 _ (by omega) (by decide)) (j := xx + 1) (by rw [(show nI xx + 1 = nI (xx + 1) by rw [show (1 : Int32) = nI 1 from rfl, nI_add])]; exact cI_nI (by omega)) rfl k_) ?_
  refine AX.map (fun _ k_ => AW.istore_n (i := 2) dX2_isPlayed_8 rfl rfl (Nat.le_of_ble_eq_true rfl) rfl rfl k_) ?_
  refine AX.map (fun _ k_ => AW.aload_n dX2_isPlayed_9 rfl rfl k_) ?_
  refine AX.map (fun _ k_ => AW.get ci2 2 (by decide) q1353 dX2_isPlayed_10 gM rfl rfl k_) ?_
  refine AX.map (fun _ k_ => AW.iload_n dX2_isPlayed_13 rfl rfl k_) ?_
  refine AX.map (fun _ k_ => AW.iconst (v := 2) dX2_isPlayed_14 (by decide) rfl k_) ?_
  refine AX.map (fun _ k_ => AW.iadd dX2_isPlayed_15 rfl k_) ?_
  refine AX.map (fun _ k_ => AW.iald dX2_isPlayed_16 gn628 (by rw [(show nI xx + 2 = nI (xx + 2) by rw [show (2 : Int32) = nI 2 from rfl, nI_add])]; exact in0 _ (by omega) (by decide)) (j := xx + 2) (by rw [(show nI xx + 2 = nI (xx + 2) by rw [show (2 : Int32) = nI 2 from rfl, nI_add])]; exact cI_nI (by omega)) rfl k_) ?_
  refine AX.map (fun _ k_ => AW.istore_n (i := 3) dX2_isPlayed_17 rfl rfl (Nat.le_of_ble_eq_true rfl) rfl rfl k_) ?_
  refine AX.map (fun _ k_ => AW.aload_n dX2_isPlayed_18 rfl rfl k_) ?_
  refine AX.map (fun _ k_ => AW.get ci2 2 (by decide) q1353 dX2_isPlayed_19 gM rfl rfl k_) ?_
  refine AX.map (fun _ k_ => AW.iload_n dX2_isPlayed_22 rfl rfl k_) ?_
  refine AX.map (fun _ k_ => AW.iald dX2_isPlayed_23 gn628 (in0 _ (by omega) (by decide)) (j := xx) (cI_nI (by omega)) rfl k_) ?_
  refine AX.map (fun _ k_ => AW.tableIn (off := 110) (tgt := 134) dX2_isPlayed_24 (by rw [hq]; decide) (by rw [hq]; decide) (by rw [hq]; rfl) (by decide) k_) ?_
  refine AX.map (fun _ k_ => AW.aload_n dX2_isPlayed_134 rfl rfl k_) ?_
  refine AX.map (fun _ k_ => AW.iload_n dX2_isPlayed_135 rfl rfl k_) ?_
  refine AX.map (fun _ k_ => AW.iload_n dX2_isPlayed_136 rfl rfl k_) ?_
  refine AX.map (fun _ k_ => AW.callV (Y := mX2_forget) (n := 2) (r_nX2_forget_f hm.1 _ _ hc) (by decide) (by decide) rfl gM q1800 q1753 q1754 q141 q1755 dX2_isPlayed_137 (by decide +kernel) rfl rfl (Nat.le_of_ble_eq_true rfl) rfl k_) ?_
  exact ⟨_, ⟨N, V, B, by rw [setA_id]⟩, AW.bretE dX2_isPlayed_140 rfl rfl rfl rfl⟩
theorem pl_forget_t {s : Sg} {N : Nat → Int32} {V : Nat → Int64} {B : Nat → Bool} {L : Lw} (hm : MI (s.A 626)) (hL : LawM (s.A 626) (s.A 628) L) (xx : Nat) (hxx : xx + 3 < 2820) (hq : (s.A 628) xx = 7) (hc : (vwM (s.A 626)).forgets ((s.A 628) (xx + 1)) ((s.A 628) (xx + 2)) = true) : RX (Qn (s.setA 626 (doM (s.A 626) L ((s.A 628) xx) ((s.A 628) (xx + 1)) ((s.A 628) (xx + 2)) ((s.A 628) (xx + 3))).2)) 11 mX2_isPlayed [.ref 625, .int (nI xx)] (hp (sn s N V B)) (some (.int (b2i (doM (s.A 626) L ((s.A 628) xx) ((s.A 628) (xx + 1)) ((s.A 628) (xx + 2)) ((s.A 628) (xx + 3))).1))) := by
  have eD : (doM (s.A 626) L ((s.A 628) xx) ((s.A 628) (xx + 1)) ((s.A 628) (xx + 2)) ((s.A 628) (xx + 3))) = (true, forgetM (keepI (s.A 626)) ((s.A 628) (xx + 1)) ((s.A 628) (xx + 2))) := by unfold doM; rw [hq]; simp [hc]
  rw [eD]
  refine RX.of rfl (Nat.le_of_ble_eq_true rfl) rfl ?_
  refine AX.map (fun _ k_ => AW.aload_n dX2_isPlayed_0 rfl rfl k_) ?_
  refine AX.map (fun _ k_ => AW.get ci2 2 (by decide) q1353 dX2_isPlayed_1 gM rfl rfl k_) ?_
  refine AX.map (fun _ k_ => AW.iload_n dX2_isPlayed_4 rfl rfl k_) ?_
  refine AX.map (fun _ k_ => AW.iconst (v := 1) dX2_isPlayed_5 (by decide) rfl k_) ?_
  refine AX.map (fun _ k_ => AW.iadd dX2_isPlayed_6 rfl k_) ?_
  refine AX.map (fun _ k_ => AW.iald dX2_isPlayed_7 gn628 (by rw [(show nI xx + 1 = nI (xx + 1) by rw [show (1 : Int32) = nI 1 from rfl, nI_add])]; exact in0 _ (by omega) (by decide)) (j := xx + 1) (by rw [(show nI xx + 1 = nI (xx + 1) by rw [show (1 : Int32) = nI 1 from rfl, nI_add])]; exact cI_nI (by omega)) rfl k_) ?_
  refine AX.map (fun _ k_ => AW.istore_n (i := 2) dX2_isPlayed_8 rfl rfl (Nat.le_of_ble_eq_true rfl) rfl rfl k_) ?_
  refine AX.map (fun _ k_ => AW.aload_n dX2_isPlayed_9 rfl rfl k_) ?_
  refine AX.map (fun _ k_ => AW.get ci2 2 (by decide) q1353 dX2_isPlayed_10 gM rfl rfl k_) ?_
  refine AX.map (fun _ k_ => AW.iload_n dX2_isPlayed_13 rfl rfl k_) ?_
  refine AX.map (fun _ k_ => AW.iconst (v := 2) dX2_isPlayed_14 (by decide) rfl k_) ?_
  refine AX.map (fun _ k_ => AW.iadd dX2_isPlayed_15 rfl k_) ?_
  refine AX.map (fun _ k_ => AW.iald dX2_isPlayed_16 gn628 (by rw [(show nI xx + 2 = nI (xx + 2) by rw [show (2 : Int32) = nI 2 from rfl, nI_add])]; exact in0 _ (by omega) (by decide)) (j := xx + 2) (by rw [(show nI xx + 2 = nI (xx + 2) by rw [show (2 : Int32) = nI 2 from rfl, nI_add])]; exact cI_nI (by omega)) rfl k_) ?_
  refine AX.map (fun _ k_ => AW.istore_n (i := 3) dX2_isPlayed_17 rfl rfl (Nat.le_of_ble_eq_true rfl) rfl rfl k_) ?_
  refine AX.map (fun _ k_ => AW.aload_n dX2_isPlayed_18 rfl rfl k_) ?_
  refine AX.map (fun _ k_ => AW.get ci2 2 (by decide) q1353 dX2_isPlayed_19 gM rfl rfl k_) ?_
  refine AX.map (fun _ k_ => AW.iload_n dX2_isPlayed_22 rfl rfl k_) ?_
  refine AX.map (fun _ k_ => AW.iald dX2_isPlayed_23 gn628 (in0 _ (by omega) (by decide)) (j := xx) (cI_nI (by omega)) rfl k_) ?_
  refine AX.map (fun _ k_ => AW.tableIn (off := 110) (tgt := 134) dX2_isPlayed_24 (by rw [hq]; decide) (by rw [hq]; decide) (by rw [hq]; rfl) (by decide) k_) ?_
  refine AX.map (fun _ k_ => AW.aload_n dX2_isPlayed_134 rfl rfl k_) ?_
  refine AX.map (fun _ k_ => AW.iload_n dX2_isPlayed_135 rfl rfl k_) ?_
  refine AX.map (fun _ k_ => AW.iload_n dX2_isPlayed_136 rfl rfl k_) ?_
  refine AX.map (fun _ k_ => AW.callV (Y := mX2_forget) (n := 2) (r_nX2_forget_t hm _ _ hc) (by decide) (by decide) rfl gM q1800 q1753 q1754 q141 q1755 dX2_isPlayed_137 (by decide +kernel) rfl rfl (Nat.le_of_ble_eq_true rfl) rfl k_) ?_
  exact ⟨_, Qn.of, AW.bretE dX2_isPlayed_140 rfl rfl rfl rfl⟩
theorem pl_day {s : Sg} {N : Nat → Int32} {V : Nat → Int64} {B : Nat → Bool} {L : Lw} (hm : MI (s.A 626)) (hL : LawM (s.A 626) (s.A 628) L) (xx : Nat) (hxx : xx + 3 < 2820) (hq : (s.A 628) xx = 8) (hd : 0 ≤ ((s.A 628) (xx + 1)).toInt ∧ ((s.A 628) (xx + 1)).toInt ≤ 60) : RX (Qn (s.setA 626 (doM (s.A 626) L ((s.A 628) xx) ((s.A 628) (xx + 1)) ((s.A 628) (xx + 2)) ((s.A 628) (xx + 3))).2)) 11 mX2_isPlayed [.ref 625, .int (nI xx)] (hp (sn s N V B)) (some (.int (b2i (doM (s.A 626) L ((s.A 628) xx) ((s.A 628) (xx + 1)) ((s.A 628) (xx + 2)) ((s.A 628) (xx + 3))).1))) := by
  have eD : (doM (s.A 626) L ((s.A 628) xx) ((s.A 628) (xx + 1)) ((s.A 628) (xx + 2)) ((s.A 628) (xx + 3))) = (arePF (s.A 626) L (cI ((s.A 628) (xx + 1)) - 0) 0, keepsM (s.A 626) L (cI ((s.A 628) (xx + 1)))) := by unfold doM; rw [hq]; simp []
  rw [eD]
  refine RX.of rfl (Nat.le_of_ble_eq_true rfl) rfl ?_
  refine AX.map (fun _ k_ => AW.aload_n dX2_isPlayed_0 rfl rfl k_) ?_
  refine AX.map (fun _ k_ => AW.get ci2 2 (by decide) q1353 dX2_isPlayed_1 gM rfl rfl k_) ?_
  refine AX.map (fun _ k_ => AW.iload_n dX2_isPlayed_4 rfl rfl k_) ?_
  refine AX.map (fun _ k_ => AW.iconst (v := 1) dX2_isPlayed_5 (by decide) rfl k_) ?_
  refine AX.map (fun _ k_ => AW.iadd dX2_isPlayed_6 rfl k_) ?_
  refine AX.map (fun _ k_ => AW.iald dX2_isPlayed_7 gn628 (by rw [(show nI xx + 1 = nI (xx + 1) by rw [show (1 : Int32) = nI 1 from rfl, nI_add])]; exact in0 _ (by omega) (by decide)) (j := xx + 1) (by rw [(show nI xx + 1 = nI (xx + 1) by rw [show (1 : Int32) = nI 1 from rfl, nI_add])]; exact cI_nI (by omega)) rfl k_) ?_
  refine AX.map (fun _ k_ => AW.istore_n (i := 2) dX2_isPlayed_8 rfl rfl (Nat.le_of_ble_eq_true rfl) rfl rfl k_) ?_
  refine AX.map (fun _ k_ => AW.aload_n dX2_isPlayed_9 rfl rfl k_) ?_
  refine AX.map (fun _ k_ => AW.get ci2 2 (by decide) q1353 dX2_isPlayed_10 gM rfl rfl k_) ?_
  refine AX.map (fun _ k_ => AW.iload_n dX2_isPlayed_13 rfl rfl k_) ?_
  refine AX.map (fun _ k_ => AW.iconst (v := 2) dX2_isPlayed_14 (by decide) rfl k_) ?_
  refine AX.map (fun _ k_ => AW.iadd dX2_isPlayed_15 rfl k_) ?_
  refine AX.map (fun _ k_ => AW.iald dX2_isPlayed_16 gn628 (by rw [(show nI xx + 2 = nI (xx + 2) by rw [show (2 : Int32) = nI 2 from rfl, nI_add])]; exact in0 _ (by omega) (by decide)) (j := xx + 2) (by rw [(show nI xx + 2 = nI (xx + 2) by rw [show (2 : Int32) = nI 2 from rfl, nI_add])]; exact cI_nI (by omega)) rfl k_) ?_
  refine AX.map (fun _ k_ => AW.istore_n (i := 3) dX2_isPlayed_17 rfl rfl (Nat.le_of_ble_eq_true rfl) rfl rfl k_) ?_
  refine AX.map (fun _ k_ => AW.aload_n dX2_isPlayed_18 rfl rfl k_) ?_
  refine AX.map (fun _ k_ => AW.get ci2 2 (by decide) q1353 dX2_isPlayed_19 gM rfl rfl k_) ?_
  refine AX.map (fun _ k_ => AW.iload_n dX2_isPlayed_22 rfl rfl k_) ?_
  refine AX.map (fun _ k_ => AW.iald dX2_isPlayed_23 gn628 (in0 _ (by omega) (by decide)) (j := xx) (cI_nI (by omega)) rfl k_) ?_
  refine AX.map (fun _ k_ => AW.tableIn (off := 117) (tgt := 141) dX2_isPlayed_24 (by rw [hq]; decide) (by rw [hq]; decide) (by rw [hq]; rfl) (by decide) k_) ?_
  refine AX.map (fun _ k_ => AW.aload_n dX2_isPlayed_141 rfl rfl k_) ?_
  refine AX.map (fun _ k_ => AW.iload_n dX2_isPlayed_142 rfl rfl k_) ?_
  obtain ⟨_, ⟨N2, V2, B2, rfl⟩, w⟩ := r_X2_arePassed (N := N) (V := V) (B := B) hm hL (cI ((s.A 628) (xx + 1))) (cI_lt _)
  rw [nI_cI hd.1] at w
  refine AX.map (fun _ k_ => AW.callV (Y := mX2_arePassed) (n := 1) (w) (by decide) (by decide) rfl gM q1768 q1770 qs109 q141 q1771 dX2_isPlayed_143 (by decide +kernel) rfl rfl (Nat.le_of_ble_eq_true rfl) rfl k_) ?_
  exact ⟨_, Qn.of, AW.bretE dX2_isPlayed_146 rfl rfl rfl rfl⟩
theorem pl_other {s : Sg} {N : Nat → Int32} {V : Nat → Int64} {B : Nat → Bool} {L : Lw} (hm : MI (s.A 626)) (hL : LawM (s.A 626) (s.A 628) L) (xx : Nat) (hxx : xx + 3 < 2820) (ho : ¬ (s.A 628) xx = 3 ∧ ¬ (s.A 628) xx = 4 ∧ ¬ (s.A 628) xx = 5 ∧ ¬ (s.A 628) xx = 6 ∧ ¬ (s.A 628) xx = 7 ∧ ¬ (s.A 628) xx = 8) : RX (Qn (s.setA 626 (doM (s.A 626) L ((s.A 628) xx) ((s.A 628) (xx + 1)) ((s.A 628) (xx + 2)) ((s.A 628) (xx + 3))).2)) 11 mX2_isPlayed [.ref 625, .int (nI xx)] (hp (sn s N V B)) (some (.int (b2i (doM (s.A 626) L ((s.A 628) xx) ((s.A 628) (xx + 1)) ((s.A 628) (xx + 2)) ((s.A 628) (xx + 3))).1))) := by
  obtain ⟨o3, o4, o5, o6, o7, o8⟩ := ho
  have eD : (doM (s.A 626) L ((s.A 628) xx) ((s.A 628) (xx + 1)) ((s.A 628) (xx + 2)) ((s.A 628) (xx + 3))) = (true, (s.A 626)) := by unfold doM; simp [*]
  rw [eD]
  refine RX.of rfl (Nat.le_of_ble_eq_true rfl) rfl ?_
  refine AX.map (fun _ k_ => AW.aload_n dX2_isPlayed_0 rfl rfl k_) ?_
  refine AX.map (fun _ k_ => AW.get ci2 2 (by decide) q1353 dX2_isPlayed_1 gM rfl rfl k_) ?_
  refine AX.map (fun _ k_ => AW.iload_n dX2_isPlayed_4 rfl rfl k_) ?_
  refine AX.map (fun _ k_ => AW.iconst (v := 1) dX2_isPlayed_5 (by decide) rfl k_) ?_
  refine AX.map (fun _ k_ => AW.iadd dX2_isPlayed_6 rfl k_) ?_
  refine AX.map (fun _ k_ => AW.iald dX2_isPlayed_7 gn628 (by rw [(show nI xx + 1 = nI (xx + 1) by rw [show (1 : Int32) = nI 1 from rfl, nI_add])]; exact in0 _ (by omega) (by decide)) (j := xx + 1) (by rw [(show nI xx + 1 = nI (xx + 1) by rw [show (1 : Int32) = nI 1 from rfl, nI_add])]; exact cI_nI (by omega)) rfl k_) ?_
  refine AX.map (fun _ k_ => AW.istore_n (i := 2) dX2_isPlayed_8 rfl rfl (Nat.le_of_ble_eq_true rfl) rfl rfl k_) ?_
  refine AX.map (fun _ k_ => AW.aload_n dX2_isPlayed_9 rfl rfl k_) ?_
  refine AX.map (fun _ k_ => AW.get ci2 2 (by decide) q1353 dX2_isPlayed_10 gM rfl rfl k_) ?_
  refine AX.map (fun _ k_ => AW.iload_n dX2_isPlayed_13 rfl rfl k_) ?_
  refine AX.map (fun _ k_ => AW.iconst (v := 2) dX2_isPlayed_14 (by decide) rfl k_) ?_
  refine AX.map (fun _ k_ => AW.iadd dX2_isPlayed_15 rfl k_) ?_
  refine AX.map (fun _ k_ => AW.iald dX2_isPlayed_16 gn628 (by rw [(show nI xx + 2 = nI (xx + 2) by rw [show (2 : Int32) = nI 2 from rfl, nI_add])]; exact in0 _ (by omega) (by decide)) (j := xx + 2) (by rw [(show nI xx + 2 = nI (xx + 2) by rw [show (2 : Int32) = nI 2 from rfl, nI_add])]; exact cI_nI (by omega)) rfl k_) ?_
  refine AX.map (fun _ k_ => AW.istore_n (i := 3) dX2_isPlayed_17 rfl rfl (Nat.le_of_ble_eq_true rfl) rfl rfl k_) ?_
  refine AX.map (fun _ k_ => AW.aload_n dX2_isPlayed_18 rfl rfl k_) ?_
  refine AX.map (fun _ k_ => AW.get ci2 2 (by decide) q1353 dX2_isPlayed_19 gM rfl rfl k_) ?_
  refine AX.map (fun _ k_ => AW.iload_n dX2_isPlayed_22 rfl rfl k_) ?_
  refine AX.map (fun _ k_ => AW.iald dX2_isPlayed_23 gn628 (in0 _ (by omega) (by decide)) (j := xx) (cI_nI (by omega)) rfl k_) ?_
  refine AX.map (fun _ k_ => AW.tableOut (tgt := 147) dX2_isPlayed_24 (by have q3 : ¬ ((s.A 628) xx).toInt = 3 := fun q => o3 (Int32.toInt_inj.mp q); have q4 : ¬ ((s.A 628) xx).toInt = 4 := fun q => o4 (Int32.toInt_inj.mp q); have q5 : ¬ ((s.A 628) xx).toInt = 5 := fun q => o5 (Int32.toInt_inj.mp q); have q6 : ¬ ((s.A 628) xx).toInt = 6 := fun q => o6 (Int32.toInt_inj.mp q); have q7 : ¬ ((s.A 628) xx).toInt = 7 := fun q => o7 (Int32.toInt_inj.mp q); have q8 : ¬ ((s.A 628) xx).toInt = 8 := fun q => o8 (Int32.toInt_inj.mp q); omega) (by decide) k_) ?_
  refine AX.map (fun _ k_ => AW.iconst (v := 1) dX2_isPlayed_147 (by decide) rfl k_) ?_
  exact ⟨_, ⟨N, V, B, by rw [setA_id]⟩, AW.bretE dX2_isPlayed_148 rfl rfl rfl rfl⟩
theorem r_X2_isPlayed {s : Sg} {N : Nat → Int32} {V : Nat → Int64} {B : Nat → Bool} {L : Lw} (hm : MI (s.A 626)) (hL : LawM (s.A 626) (s.A 628) L) (xx : Nat) (hxx : xx + 3 < 2820) (hd : dayOk ((s.A 628) xx) ((s.A 628) (xx + 1))) : RX (Qn (s.setA 626 (doM (s.A 626) L ((s.A 628) xx) ((s.A 628) (xx + 1)) ((s.A 628) (xx + 2)) ((s.A 628) (xx + 3))).2)) 11 mX2_isPlayed [.ref 625, .int (nI xx)] (hp (sn s N V B)) (some (.int (b2i (doM (s.A 626) L ((s.A 628) xx) ((s.A 628) (xx + 1)) ((s.A 628) (xx + 2)) ((s.A 628) (xx + 3))).1))) := by
  by_cases o3 : (s.A 628) xx = 3
  · cases c : okH (s.A 626 0) ((s.A 628) (xx + 1)) (-1) (-1) ((s.A 628) (xx + 2)) ((s.A 628) (xx + 3))
    · exact pl_house_f hm hL xx hxx o3 c
    · exact pl_house_t hm hL xx hxx o3 c
  by_cases o4 : (s.A 628) xx = 4
  · cases c : (vwM (s.A 626)).her ((s.A 628) (xx + 1))
    · exact pl_knock_f hm hL xx hxx o4 c
    · exact pl_knock_t hm hL xx hxx o4 c
  by_cases o5 : (s.A 628) xx = 5
  · cases c : (vwM (s.A 626)).weds ((s.A 628) (xx + 1)) ((s.A 628) (xx + 2))
    · exact pl_marry_f hm hL xx hxx o5 c
    · exact pl_marry_t hm hL xx hxx o5 c
  by_cases o6 : (s.A 628) xx = 6
  · cases c : (vwM (s.A 626)).draws ((s.A 628) (xx + 1))
    · exact pl_hat_f hm hL xx hxx o6 c
    · exact pl_hat_t hm hL xx hxx o6 c
  by_cases o7 : (s.A 628) xx = 7
  · cases c : (vwM (s.A 626)).forgets ((s.A 628) (xx + 1)) ((s.A 628) (xx + 2))
    · exact pl_forget_f hm hL xx hxx o7 c
    · exact pl_forget_t hm hL xx hxx o7 c
  by_cases o8 : (s.A 628) xx = 8
  · exact pl_day hm hL xx hxx o8 (hd o8)
  exact pl_other hm hL xx hxx ⟨o3, o4, o5, o6, o7, o8⟩
