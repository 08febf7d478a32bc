/-! MODEL 13: knocks, days, years (printed by tools/m13.py) -/
set_option maxRecDepth 100000
section NRUN2
variable {s : Sg} {N : Nat → Int32} {V : Nat → Int64} {B : Nat → Bool}
theorem r_nX2_isHere (hn : (vwM (s.A 626)).ok) (h : Int32) : Run 3 mX2_isHere [.ref 625, .int h] (hp (sn s N V B)) (.inl (some (.int (b2i ((vwM (s.A 626)).her h))))) (hp (sn s N V B)) := by
  have q := r_X2_isHere (s := sn s N V B) (by rw [sn_A (by decide) (by decide)]; exact hn) h
  rw [sn_A (k := 626) (by decide) (by decide)] at q; exact q
theorem r_nX2_isHouse (h : Int32) : Run 2 mX2_isHouse [.ref 625, .int h] (hp (sn s N V B)) (.inl (some (.int (b2i ((vwM (s.A 626)).hou h))))) (hp (sn s N V B)) := by
  have q := r_X2_isHouse (s := sn s N V B) h
  rw [sn_A (k := 626) (by decide) (by decide)] at q; exact q
theorem r_nX2_isOpen (hn : (vwM (s.A 626)).ok) (h dt : Int32) : Run 4 mX2_isOpen [.ref 625, .int h, .int dt] (hp (sn s N V B)) (.inl (some (.int (b2i ((vwM (s.A 626)).opn h dt))))) (hp (sn s N V B)) := by
  have q := r_X2_isOpen (s := sn s N V B) (by rw [sn_A (by decide) (by decide)]; exact hn) h dt
  rw [sn_A (k := 626) (by decide) (by decide)] at q; exact q
theorem r_nX2_besideOn (hn : (vwM (s.A 626)).ok) (h dt : Int32) : Run 5 mX2_besideOn [.ref 625, .int h, .int dt] (hp (sn s N V B)) (.inl (some (.int ((vwM (s.A 626)).beside h dt)))) (hp (sn s N V B)) := by
  have q := r_X2_besideOn (s := sn s N V B) (by rw [sn_A (by decide) (by decide)]; exact hn) h dt
  rw [sn_A (k := 626) (by decide) (by decide)] at q; exact q
theorem r_nX2_canDraw (hn : (vwM (s.A 626)).ok) (h : Int32) : Run 4 mX2_canDraw [.ref 625, .int h] (hp (sn s N V B)) (.inl (some (.int (b2i ((vwM (s.A 626)).draws h))))) (hp (sn s N V B)) := by
  have q := r_X2_canDraw (s := sn s N V B) (by rw [sn_A (by decide) (by decide)]; exact hn) h
  rw [sn_A (k := 626) (by decide) (by decide)] at q; exact q
theorem r_nX2_canForget (hn : (vwM (s.A 626)).ok) (dt h : Int32) : Run 4 mX2_canForget [.ref 625, .int dt, .int h] (hp (sn s N V B)) (.inl (some (.int (b2i ((vwM (s.A 626)).forgets dt h))))) (hp (sn s N V B)) := by
  have q := r_X2_canForget (s := sn s N V B) (by rw [sn_A (by decide) (by decide)]; exact hn) dt h
  rw [sn_A (k := 626) (by decide) (by decide)] at q; exact q
theorem r_nX2_anew : Run 1 mX2_anew [.ref 625] (hp (sn s N V B)) (.inl none) (hp (sn (s.setA 626 (drawN (s.A 626))) N V B)) := by
  have q := r_X2_anew (s := sn s N V B)
  rw [sn_A (k := 626) (by decide) (by decide), sn_set (by decide) (by decide)] at q; exact q
theorem r_nX2_forgetNow (dt h : Int32) (hi : vp_in (12 + 8 * h + 0) 2308) : Run 2 mX2_forgetNow [.ref 625, .int dt, .int h] (hp (sn s N V B)) (.inl none) (hp (sn (s.setA 626 (forgetM (s.A 626) dt h)) N V B)) := by
  have q := r_X2_forgetNow (s := sn s N V B) dt h hi
  rw [sn_A (k := 626) (by decide) (by decide), sn_set (by decide) (by decide)] at q; exact q
theorem r_nX2_hatNow (h : Int32) (hi : vp_in (12 + 8 * h + 0) 2308) : Run 2 mX2_hatNow [.ref 625, .int h] (hp (sn s N V B)) (.inl (some (.int ((hatR h 20 (s.A 626)).1)))) (hp (sn (s.setA 626 (hatR h 20 (s.A 626)).2) N V B)) := by
  have q := r_X2_hatNow (s := sn s N V B) h hi
  rw [sn_A (k := 626) (by decide) (by decide), sn_set (by decide) (by decide)] at q; exact q
theorem r_nX2_keep (hm : MI (s.A 626)) : Run 2 mX2_keep [.ref 625] (hp (sn s N V B)) (.inl none) (hp (sn (s.setA 626 (keepI (s.A 626))) N V B)) := by
  obtain ⟨c, h1, h2⟩ := hm.2.1
  have q := r_X2_keep (s := sn s N V B) c (by rw [sn_A (by decide) (by decide)]; exact h2) h1
  rw [sn_A (k := 626) (by decide) (by decide), sn_set (by decide) (by decide)] at q
  unfold keepI
  rw [h2, cI_nI (by omega)]
  exact q
theorem r_nX2_write (hm : MI (s.A 626)) (h : Int32) : Run 1 mX2_write [.ref 625, .int h, .int (b2i (hasI (gtM (s.A 626) h 0) (s.A 626 8 % 20)))] (hp (sn s N V B)) (.inl none) (hp (sn (s.setA 626 (knockB (s.A 626) h)) N V B)) := by
  obtain ⟨c, h1, h2⟩ := hm.2.2
  have q := r_X2_write (s := sn s N V B) c (by rw [sn_A (by decide) (by decide)]; exact h2) h1 h (b2i (hasI (gtM (s.A 626) h 0) (s.A 626 8 % 20)))
  rw [sn_A (k := 626) (by decide) (by decide), sn_set (by decide) (by decide)] at q
  unfold knockB
  rw [h2, cI_nI (by omega)]
  exact q
theorem r_nX2_setAside : Run 1 mX2_setAside [.ref 625] (hp (sn s N V B)) (.inl none) (hp (sn (s.setA 634 (mv (s.A 634) 8 (fun j => s.A 626 (8 + j)) 60)) N V B)) := by
  have q := r_X2_setAside (s := sn s N V B)
  rw [sn_A (k := 626) (by decide) (by decide), sn_A (k := 634) (by decide) (by decide), sn_set (by decide) (by decide)] at q; exact q
theorem r_nX2_putBack : Run 1 mX2_putBack [.ref 625] (hp (sn s N V B)) (.inl none) (hp (sn (s.setA 626 (mv (s.A 626) 8 (fun j => s.A 634 (8 + j)) 60)) N V B)) := by
  have q := r_X2_putBack (s := sn s N V B)
  rw [sn_A (k := 626) (by decide) (by decide), sn_A (k := 634) (by decide) (by decide), sn_set (by decide) (by decide)] at q; exact q
end NRUN2
theorem r_X2_knockNow {s : Sg} {N : Nat → Int32} {V : Nat → Int64} {B : Nat → Bool} {L : Lw} (hm : MI (s.A 626)) (hL : LawM (s.A 626) (s.A 628) L) (h : Int32) (hh : (vwM (s.A 626)).hou h = true) : RX (Qn (s.setA 626 (knockM (s.A 626) L h))) 8 mX2_knockNow [.ref 625, .int h] (hp (sn s N V B)) (some (.int (b2i (hasI (gtM (s.A 626) h 0) (s.A 626 8 % 20))))) := by
  refine RX.of rfl (Nat.le_of_ble_eq_true rfl) rfl ?_
  refine AX.map (fun _ k_ => AW.aload_n dX2_knockNow_0 rfl rfl k_) ?_
  refine AX.map (fun _ k_ => AW.iload_n dX2_knockNow_1 rfl rfl k_) ?_
  refine AX.map (fun _ k_ => AW.iconst (v := 0) dX2_knockNow_2 (by decide) rfl k_) ?_
  refine AX.map (fun _ k_ => AW.callV (Y := mX2_get) (n := 2) (r_nX2_get h 0 (in_get hm.1 hh (by decide) (by decide))) (by decide) (by decide) rfl gM q1477 q1479 qs63 q141 q1480 dX2_knockNow_3 (by decide +kernel) rfl rfl (Nat.le_of_ble_eq_true rfl) rfl k_) ?_
  refine AX.map (fun _ k_ => AW.aload_n dX2_knockNow_6 rfl rfl k_) ?_
  refine AX.map (fun _ k_ => AW.callV (Y := mX2_date) (n := 0) (r_nX2_date) (by decide) (by decide) rfl gM q1665 q1667 qs95 q141 q1668 dX2_knockNow_7 (by decide +kernel) rfl rfl (Nat.le_of_ble_eq_true rfl) rfl k_) ?_
  refine AX.map (fun _ k_ => AW.callS (Y := mX2_has) (n := 2) (r_X2_has _ _) (by decide) (by decide) q1547 q1548 q141 q1549 dX2_knockNow_10 (by decide +kernel) rfl rfl (Nat.le_of_ble_eq_true rfl) rfl k_) ?_
  refine AX.brF (fun _ kt_ kf_ => AW.if_eqB (tgt := 20) dX2_knockNow_13 (by decide) rfl kt_ kf_) (fun c13 => ?_) (fun c13 => ?_)
  · refine AX.map (fun _ k_ => AW.iconst (v := 0) dX2_knockNow_20 (by decide) rfl k_) ?_
    refine AX.stE (st1 := [.int (b2i (hasI (gtM (s.A 626) h 0) (s.A 626 8 % 20)))]) (by first | (rw [show hasI (gtM (s.A 626) h 0) (s.A 626 8 % 20) = true from c13]; rfl) | (rw [show hasI (gtM (s.A 626) h 0) (s.A 626 8 % 20) = false from c13]; rfl)) ?_
    refine AX.map (fun _ k_ => AW.istore_n (i := 2) dX2_knockNow_21 rfl rfl (Nat.le_of_ble_eq_true rfl) rfl rfl k_) ?_
    refine AX.map (fun _ k_ => AW.aload_n dX2_knockNow_22 rfl rfl k_) ?_
    refine AX.map (fun _ k_ => AW.iload_n dX2_knockNow_23 rfl rfl k_) ?_
    refine AX.map (fun _ k_ => AW.iload_n dX2_knockNow_24 rfl rfl k_) ?_
    refine AX.map (fun _ k_ => AW.callV (Y := mX2_write) (n := 2) (r_nX2_write hm h) (by decide) (by decide) rfl gM q1669 q1671 qs96 q141 q1672 dX2_knockNow_25 (by decide +kernel) rfl rfl (Nat.le_of_ble_eq_true rfl) rfl k_) ?_
    have hu : (s.setA 626 (knockB (s.A 626) h)).A 626 = knockB (s.A 626) h := setA_at
    have hs : ∀ f, (s.setA 626 (knockB (s.A 626) h)).setA 626 f = s.setA 626 f := fun f => setA_setA
    have hX : (s.setA 626 (knockB (s.A 626) h)).A 628 = s.A 628 := setA_ne (by decide)
    generalize (s.setA 626 (knockB (s.A 626) h)) = u at *
    have hm2 : MI (u.A 626) := by rw [hu]; exact MI_knockB hm
    have hL2 : LawM (u.A 626) (u.A 628) L := by rw [hu, hX]; exact hL.by knockB_same
    have hh2 : (vwM (u.A 626)).hou h = true := by rw [hu]; exact hou_of0 knockB_same.1.symm hh
    refine AX.map (fun _ k_ => AW.iload_n dX2_knockNow_28 rfl rfl k_) ?_
    refine AX.map (fun _ k_ => AW.iconst (v := 1) dX2_knockNow_29 (by decide) rfl k_) ?_
    refine AX.brP (fun _ kt_ kf_ => AW.icmp_ne (tgt := 37) dX2_knockNow_30 (by decide) rfl kt_ kf_) (fun c30 => ?_) (fun c30 => ?_)
    · refine AX.map (fun _ k_ => AW.aload_n dX2_knockNow_37 rfl rfl k_) ?_
      refine AX.map (fun _ k_ => AW.iload_n dX2_knockNow_38 rfl rfl k_) ?_
      obtain ⟨_, ⟨N2, V2, B2, rfl⟩, w⟩ := r_X2_isLetting (N := N) (V := V) (B := B) hm2.1 hL2 h hh2
      refine AX.map (fun _ k_ => AW.callV (Y := mX2_isLetting) (n := 1) (w) (by decide) (by decide) rfl gM q1673 q1675 qs97 q141 q1676 dX2_knockNow_39 (by decide +kernel) rfl rfl (Nat.le_of_ble_eq_true rfl) rfl k_) ?_
      refine AX.brF (fun _ kt_ kf_ => AW.if_eqB (tgt := 49) dX2_knockNow_42 (by decide) rfl kt_ kf_) (fun c42 => ?_) (fun c42 => ?_)
      · refine AX.map (fun _ k_ => AW.iconst (v := 0) dX2_knockNow_49 (by decide) rfl k_) ?_
        refine AX.stE (st1 := [.int (if hasI (gtM (s.A 626) h 0) (s.A 626 8 % 20) then -1 else b2i (letF L (vwM (u.A 626)) h (u.A 626 8)))]) (by first | (rw [if_pos c13]; rfl) | (rw [if_neg (by rw [c13]; decide)]; first | (rw [show letF L (vwM (u.A 626)) h (u.A 626 8) = true from c42]; rfl) | (rw [show letF L (vwM (u.A 626)) h (u.A 626 8) = false from c42]; rfl)) | (exfalso; rw [c13] at c30; exact c30 rfl) | (exfalso; rw [c13] at c30; exact absurd c30 (by decide))) ?_
        refine AX.map (fun _ k_ => AW.istore_n (i := 3) dX2_knockNow_50 rfl rfl (Nat.le_of_ble_eq_true rfl) rfl rfl k_) ?_
        refine AX.map (fun _ k_ => AW.aload_n dX2_knockNow_51 rfl rfl k_) ?_
        refine AX.map (fun _ k_ => AW.iload_n dX2_knockNow_52 rfl rfl k_) ?_
        refine AX.map (fun _ k_ => AW.iconst (v := 2) dX2_knockNow_53 (by decide) rfl k_) ?_
        refine AX.map (fun _ k_ => AW.aload_n dX2_knockNow_54 rfl rfl k_) ?_
        refine AX.map (fun _ k_ => AW.iload_n dX2_knockNow_55 rfl rfl k_) ?_
        refine AX.map (fun _ k_ => AW.iconst (v := 2) dX2_knockNow_56 (by decide) rfl k_) ?_
        refine AX.map (fun _ k_ => AW.callV (Y := mX2_get) (n := 2) (r_nX2_get h 2 (in_get hm2.1 hh2 (by decide) (by decide))) (by decide) (by decide) rfl gM q1477 q1479 qs63 q141 q1480 dX2_knockNow_57 (by decide +kernel) rfl rfl (Nat.le_of_ble_eq_true rfl) rfl k_) ?_
        refine AX.map (fun _ k_ => AW.iload_n dX2_knockNow_60 rfl rfl k_) ?_
        refine AX.map (fun _ k_ => AW.iadd dX2_knockNow_61 rfl k_) ?_
        refine AX.map (fun _ k_ => AW.i2l dX2_knockNow_62 rfl k_) ?_
        refine AX.map (fun _ k_ => AW.iconst (v := 0) dX2_knockNow_63 (by decide) rfl k_) ?_
        refine AX.map (fun _ k_ => AW.bipush (v := 99) dX2_knockNow_64 (by decide) rfl k_) ?_
        refine AX.map (fun _ k_ => AW.callS (Y := mX2_cut) (n := 3) (r_X2_cut _ _ _) (by decide) (by decide) q1726 q1727 q141 q1728 dX2_knockNow_66 (by decide +kernel) rfl rfl (Nat.le_of_ble_eq_true rfl) rfl k_) ?_
        refine AX.map (fun _ k_ => AW.callV (Y := mX2_put) (n := 3) (r_nX2_put h 2 _ (in_get hm2.1 hh2 (by decide) (by decide))) (by decide) (by decide) rfl gM q1469 q1471 qs61 q141 q1472 dX2_knockNow_69 (by decide +kernel) rfl rfl (Nat.le_of_ble_eq_true rfl) rfl k_) ?_
        refine AX.map (fun _ k_ => AW.iload_n dX2_knockNow_72 rfl rfl k_) ?_
        exact ⟨_, Qn.of, AW.iretE dX2_knockNow_73 rfl rfl rfl (by rw [hs, hu]; rfl)⟩
      · refine AX.map (fun _ k_ => AW.iconst (v := 1) dX2_knockNow_45 (by decide) rfl k_) ?_
        refine AX.map (fun _ k_ => AW.goto (tgt := 50) dX2_knockNow_46 (by decide) k_) ?_
        refine AX.stE (st1 := [.int (if hasI (gtM (s.A 626) h 0) (s.A 626 8 % 20) then -1 else b2i (letF L (vwM (u.A 626)) h (u.A 626 8)))]) (by first | (rw [if_pos c13]; rfl) | (rw [if_neg (by rw [c13]; decide)]; first | (rw [show letF L (vwM (u.A 626)) h (u.A 626 8) = true from c42]; rfl) | (rw [show letF L (vwM (u.A 626)) h (u.A 626 8) = false from c42]; rfl)) | (exfalso; rw [c13] at c30; exact c30 rfl) | (exfalso; rw [c13] at c30; exact absurd c30 (by decide))) ?_
        refine AX.map (fun _ k_ => AW.istore_n (i := 3) dX2_knockNow_50 rfl rfl (Nat.le_of_ble_eq_true rfl) rfl rfl k_) ?_
        refine AX.map (fun _ k_ => AW.aload_n dX2_knockNow_51 rfl rfl k_) ?_
        refine AX.map (fun _ k_ => AW.iload_n dX2_knockNow_52 rfl rfl k_) ?_
        refine AX.map (fun _ k_ => AW.iconst (v := 2) dX2_knockNow_53 (by decide) rfl k_) ?_
        refine AX.map (fun _ k_ => AW.aload_n dX2_knockNow_54 rfl rfl k_) ?_
        refine AX.map (fun _ k_ => AW.iload_n dX2_knockNow_55 rfl rfl k_) ?_
        refine AX.map (fun _ k_ => AW.iconst (v := 2) dX2_knockNow_56 (by decide) rfl k_) ?_
        refine AX.map (fun _ k_ => AW.callV (Y := mX2_get) (n := 2) (r_nX2_get h 2 (in_get hm2.1 hh2 (by decide) (by decide))) (by decide) (by decide) rfl gM q1477 q1479 qs63 q141 q1480 dX2_knockNow_57 (by decide +kernel) rfl rfl (Nat.le_of_ble_eq_true rfl) rfl k_) ?_
        refine AX.map (fun _ k_ => AW.iload_n dX2_knockNow_60 rfl rfl k_) ?_
        refine AX.map (fun _ k_ => AW.iadd dX2_knockNow_61 rfl k_) ?_
        refine AX.map (fun _ k_ => AW.i2l dX2_knockNow_62 rfl k_) ?_
        refine AX.map (fun _ k_ => AW.iconst (v := 0) dX2_knockNow_63 (by decide) rfl k_) ?_
        refine AX.map (fun _ k_ => AW.bipush (v := 99) dX2_knockNow_64 (by decide) rfl k_) ?_
        refine AX.map (fun _ k_ => AW.callS (Y := mX2_cut) (n := 3) (r_X2_cut _ _ _) (by decide) (by decide) q1726 q1727 q141 q1728 dX2_knockNow_66 (by decide +kernel) rfl rfl (Nat.le_of_ble_eq_true rfl) rfl k_) ?_
        refine AX.map (fun _ k_ => AW.callV (Y := mX2_put) (n := 3) (r_nX2_put h 2 _ (in_get hm2.1 hh2 (by decide) (by decide))) (by decide) (by decide) rfl gM q1469 q1471 qs61 q141 q1472 dX2_knockNow_69 (by decide +kernel) rfl rfl (Nat.le_of_ble_eq_true rfl) rfl k_) ?_
        refine AX.map (fun _ k_ => AW.iload_n dX2_knockNow_72 rfl rfl k_) ?_
        exact ⟨_, Qn.of, AW.iretE dX2_knockNow_73 rfl rfl rfl (by rw [hs, hu]; rfl)⟩
    · refine AX.map (fun _ k_ => AW.iconst (v := (-1)) dX2_knockNow_33 (by decide) rfl k_) ?_
      refine AX.map (fun _ k_ => AW.goto (tgt := 50) dX2_knockNow_34 (by decide) k_) ?_
      refine AX.stE (st1 := [.int (if hasI (gtM (s.A 626) h 0) (s.A 626 8 % 20) then -1 else b2i (letF L (vwM (u.A 626)) h (u.A 626 8)))]) (by first | (rw [if_pos c13]; rfl) | (rw [if_neg (by rw [c13]; decide)]; first | (rw [show letF L (vwM (u.A 626)) h (u.A 626 8) = true from c42]; rfl) | (rw [show letF L (vwM (u.A 626)) h (u.A 626 8) = false from c42]; rfl)) | (exfalso; rw [c13] at c30; exact c30 rfl) | (exfalso; rw [c13] at c30; exact absurd c30 (by decide))) ?_
      refine AX.map (fun _ k_ => AW.istore_n (i := 3) dX2_knockNow_50 rfl rfl (Nat.le_of_ble_eq_true rfl) rfl rfl k_) ?_
      refine AX.map (fun _ k_ => AW.aload_n dX2_knockNow_51 rfl rfl k_) ?_
      refine AX.map (fun _ k_ => AW.iload_n dX2_knockNow_52 rfl rfl k_) ?_
      refine AX.map (fun _ k_ => AW.iconst (v := 2) dX2_knockNow_53 (by decide) rfl k_) ?_
      refine AX.map (fun _ k_ => AW.aload_n dX2_knockNow_54 rfl rfl k_) ?_
      refine AX.map (fun _ k_ => AW.iload_n dX2_knockNow_55 rfl rfl k_) ?_
      refine AX.map (fun _ k_ => AW.iconst (v := 2) dX2_knockNow_56 (by decide) rfl k_) ?_
      refine AX.map (fun _ k_ => AW.callV (Y := mX2_get) (n := 2) (r_nX2_get h 2 (in_get hm2.1 hh2 (by decide) (by decide))) (by decide) (by decide) rfl gM q1477 q1479 qs63 q141 q1480 dX2_knockNow_57 (by decide +kernel) rfl rfl (Nat.le_of_ble_eq_true rfl) rfl k_) ?_
      refine AX.map (fun _ k_ => AW.iload_n dX2_knockNow_60 rfl rfl k_) ?_
      refine AX.map (fun _ k_ => AW.iadd dX2_knockNow_61 rfl k_) ?_
      refine AX.map (fun _ k_ => AW.i2l dX2_knockNow_62 rfl k_) ?_
      refine AX.map (fun _ k_ => AW.iconst (v := 0) dX2_knockNow_63 (by decide) rfl k_) ?_
      refine AX.map (fun _ k_ => AW.bipush (v := 99) dX2_knockNow_64 (by decide) rfl k_) ?_
      refine AX.map (fun _ k_ => AW.callS (Y := mX2_cut) (n := 3) (r_X2_cut _ _ _) (by decide) (by decide) q1726 q1727 q141 q1728 dX2_knockNow_66 (by decide +kernel) rfl rfl (Nat.le_of_ble_eq_true rfl) rfl k_) ?_
      refine AX.map (fun _ k_ => AW.callV (Y := mX2_put) (n := 3) (r_nX2_put h 2 _ (in_get hm2.1 hh2 (by decide) (by decide))) (by decide) (by decide) rfl gM q1469 q1471 qs61 q141 q1472 dX2_knockNow_69 (by decide +kernel) rfl rfl (Nat.le_of_ble_eq_true rfl) rfl k_) ?_
      refine AX.map (fun _ k_ => AW.iload_n dX2_knockNow_72 rfl rfl k_) ?_
      exact ⟨_, Qn.of, AW.iretE dX2_knockNow_73 rfl rfl rfl (by rw [hs, hu]; rfl)⟩
  · refine AX.map (fun _ k_ => AW.iconst (v := 1) dX2_knockNow_16 (by decide) rfl k_) ?_
    refine AX.map (fun _ k_ => AW.goto (tgt := 21) dX2_knockNow_17 (by decide) k_) ?_
    refine AX.stE (st1 := [.int (b2i (hasI (gtM (s.A 626) h 0) (s.A 626 8 % 20)))]) (by first | (rw [show hasI (gtM (s.A 626) h 0) (s.A 626 8 % 20) = true from c13]; rfl) | (rw [show hasI (gtM (s.A 626) h 0) (s.A 626 8 % 20) = false from c13]; rfl)) ?_
    refine AX.map (fun _ k_ => AW.istore_n (i := 2) dX2_knockNow_21 rfl rfl (Nat.le_of_ble_eq_true rfl) rfl rfl k_) ?_
    refine AX.map (fun _ k_ => AW.aload_n dX2_knockNow_22 rfl rfl k_) ?_
    refine AX.map (fun _ k_ => AW.iload_n dX2_knockNow_23 rfl rfl k_) ?_
    refine AX.map (fun _ k_ => AW.iload_n dX2_knockNow_24 rfl rfl k_) ?_
    refine AX.map (fun _ k_ => AW.callV (Y := mX2_write) (n := 2) (r_nX2_write hm h) (by decide) (by decide) rfl gM q1669 q1671 qs96 q141 q1672 dX2_knockNow_25 (by decide +kernel) rfl rfl (Nat.le_of_ble_eq_true rfl) rfl k_) ?_
    have hu : (s.setA 626 (knockB (s.A 626) h)).A 626 = knockB (s.A 626) h := setA_at
    have hs : ∀ f, (s.setA 626 (knockB (s.A 626) h)).setA 626 f = s.setA 626 f := fun f => setA_setA
    have hX : (s.setA 626 (knockB (s.A 626) h)).A 628 = s.A 628 := setA_ne (by decide)
    generalize (s.setA 626 (knockB (s.A 626) h)) = u at *
    have hm2 : MI (u.A 626) := by rw [hu]; exact MI_knockB hm
    have hL2 : LawM (u.A 626) (u.A 628) L := by rw [hu, hX]; exact hL.by knockB_same
    have hh2 : (vwM (u.A 626)).hou h = true := by rw [hu]; exact hou_of0 knockB_same.1.symm hh
    refine AX.map (fun _ k_ => AW.iload_n dX2_knockNow_28 rfl rfl k_) ?_
    refine AX.map (fun _ k_ => AW.iconst (v := 1) dX2_knockNow_29 (by decide) rfl k_) ?_
    refine AX.brP (fun _ kt_ kf_ => AW.icmp_ne (tgt := 37) dX2_knockNow_30 (by decide) rfl kt_ kf_) (fun c30 => ?_) (fun c30 => ?_)
    · refine AX.map (fun _ k_ => AW.aload_n dX2_knockNow_37 rfl rfl k_) ?_
      refine AX.map (fun _ k_ => AW.iload_n dX2_knockNow_38 rfl rfl k_) ?_
      obtain ⟨_, ⟨N2, V2, B2, rfl⟩, w⟩ := r_X2_isLetting (N := N) (V := V) (B := B) hm2.1 hL2 h hh2
      refine AX.map (fun _ k_ => AW.callV (Y := mX2_isLetting) (n := 1) (w) (by decide) (by decide) rfl gM q1673 q1675 qs97 q141 q1676 dX2_knockNow_39 (by decide +kernel) rfl rfl (Nat.le_of_ble_eq_true rfl) rfl k_) ?_
      refine AX.brF (fun _ kt_ kf_ => AW.if_eqB (tgt := 49) dX2_knockNow_42 (by decide) rfl kt_ kf_) (fun c42 => ?_) (fun c42 => ?_)
      · refine AX.map (fun _ k_ => AW.iconst (v := 0) dX2_knockNow_49 (by decide) rfl k_) ?_
        refine AX.stE (st1 := [.int (if hasI (gtM (s.A 626) h 0) (s.A 626 8 % 20) then -1 else b2i (letF L (vwM (u.A 626)) h (u.A 626 8)))]) (by first | (rw [if_pos c13]; rfl) | (rw [if_neg (by rw [c13]; decide)]; first | (rw [show letF L (vwM (u.A 626)) h (u.A 626 8) = true from c42]; rfl) | (rw [show letF L (vwM (u.A 626)) h (u.A 626 8) = false from c42]; rfl)) | (exfalso; rw [c13] at c30; exact c30 rfl) | (exfalso; rw [c13] at c30; exact absurd c30 (by decide))) ?_
        refine AX.map (fun _ k_ => AW.istore_n (i := 3) dX2_knockNow_50 rfl rfl (Nat.le_of_ble_eq_true rfl) rfl rfl k_) ?_
        refine AX.map (fun _ k_ => AW.aload_n dX2_knockNow_51 rfl rfl k_) ?_
        refine AX.map (fun _ k_ => AW.iload_n dX2_knockNow_52 rfl rfl k_) ?_
        refine AX.map (fun _ k_ => AW.iconst (v := 2) dX2_knockNow_53 (by decide) rfl k_) ?_
        refine AX.map (fun _ k_ => AW.aload_n dX2_knockNow_54 rfl rfl k_) ?_
        refine AX.map (fun _ k_ => AW.iload_n dX2_knockNow_55 rfl rfl k_) ?_
        refine AX.map (fun _ k_ => AW.iconst (v := 2) dX2_knockNow_56 (by decide) rfl k_) ?_
        refine AX.map (fun _ k_ => AW.callV (Y := mX2_get) (n := 2) (r_nX2_get h 2 (in_get hm2.1 hh2 (by decide) (by decide))) (by decide) (by decide) rfl gM q1477 q1479 qs63 q141 q1480 dX2_knockNow_57 (by decide +kernel) rfl rfl (Nat.le_of_ble_eq_true rfl) rfl k_) ?_
        refine AX.map (fun _ k_ => AW.iload_n dX2_knockNow_60 rfl rfl k_) ?_
        refine AX.map (fun _ k_ => AW.iadd dX2_knockNow_61 rfl k_) ?_
        refine AX.map (fun _ k_ => AW.i2l dX2_knockNow_62 rfl k_) ?_
        refine AX.map (fun _ k_ => AW.iconst (v := 0) dX2_knockNow_63 (by decide) rfl k_) ?_
        refine AX.map (fun _ k_ => AW.bipush (v := 99) dX2_knockNow_64 (by decide) rfl k_) ?_
        refine AX.map (fun _ k_ => AW.callS (Y := mX2_cut) (n := 3) (r_X2_cut _ _ _) (by decide) (by decide) q1726 q1727 q141 q1728 dX2_knockNow_66 (by decide +kernel) rfl rfl (Nat.le_of_ble_eq_true rfl) rfl k_) ?_
        refine AX.map (fun _ k_ => AW.callV (Y := mX2_put) (n := 3) (r_nX2_put h 2 _ (in_get hm2.1 hh2 (by decide) (by decide))) (by decide) (by decide) rfl gM q1469 q1471 qs61 q141 q1472 dX2_knockNow_69 (by decide +kernel) rfl rfl (Nat.le_of_ble_eq_true rfl) rfl k_) ?_
        refine AX.map (fun _ k_ => AW.iload_n dX2_knockNow_72 rfl rfl k_) ?_
        exact ⟨_, Qn.of, AW.iretE dX2_knockNow_73 rfl rfl rfl (by rw [hs, hu]; rfl)⟩
      · refine AX.map (fun _ k_ => AW.iconst (v := 1) dX2_knockNow_45 (by decide) rfl k_) ?_
        refine AX.map (fun _ k_ => AW.goto (tgt := 50) dX2_knockNow_46 (by decide) k_) ?_
        refine AX.stE (st1 := [.int (if hasI (gtM (s.A 626) h 0) (s.A 626 8 % 20) then -1 else b2i (letF L (vwM (u.A 626)) h (u.A 626 8)))]) (by first | (rw [if_pos c13]; rfl) | (rw [if_neg (by rw [c13]; decide)]; first | (rw [show letF L (vwM (u.A 626)) h (u.A 626 8) = true from c42]; rfl) | (rw [show letF L (vwM (u.A 626)) h (u.A 626 8) = false from c42]; rfl)) | (exfalso; rw [c13] at c30; exact c30 rfl) | (exfalso; rw [c13] at c30; exact absurd c30 (by decide))) ?_
        refine AX.map (fun _ k_ => AW.istore_n (i := 3) dX2_knockNow_50 rfl rfl (Nat.le_of_ble_eq_true rfl) rfl rfl k_) ?_
        refine AX.map (fun _ k_ => AW.aload_n dX2_knockNow_51 rfl rfl k_) ?_
        refine AX.map (fun _ k_ => AW.iload_n dX2_knockNow_52 rfl rfl k_) ?_
        refine AX.map (fun _ k_ => AW.iconst (v := 2) dX2_knockNow_53 (by decide) rfl k_) ?_
        refine AX.map (fun _ k_ => AW.aload_n dX2_knockNow_54 rfl rfl k_) ?_
        refine AX.map (fun _ k_ => AW.iload_n dX2_knockNow_55 rfl rfl k_) ?_
        refine AX.map (fun _ k_ => AW.iconst (v := 2) dX2_knockNow_56 (by decide) rfl k_) ?_
        refine AX.map (fun _ k_ => AW.callV (Y := mX2_get) (n := 2) (r_nX2_get h 2 (in_get hm2.1 hh2 (by decide) (by decide))) (by decide) (by decide) rfl gM q1477 q1479 qs63 q141 q1480 dX2_knockNow_57 (by decide +kernel) rfl rfl (Nat.le_of_ble_eq_true rfl) rfl k_) ?_
        refine AX.map (fun _ k_ => AW.iload_n dX2_knockNow_60 rfl rfl k_) ?_
        refine AX.map (fun _ k_ => AW.iadd dX2_knockNow_61 rfl k_) ?_
        refine AX.map (fun _ k_ => AW.i2l dX2_knockNow_62 rfl k_) ?_
        refine AX.map (fun _ k_ => AW.iconst (v := 0) dX2_knockNow_63 (by decide) rfl k_) ?_
        refine AX.map (fun _ k_ => AW.bipush (v := 99) dX2_knockNow_64 (by decide) rfl k_) ?_
        refine AX.map (fun _ k_ => AW.callS (Y := mX2_cut) (n := 3) (r_X2_cut _ _ _) (by decide) (by decide) q1726 q1727 q141 q1728 dX2_knockNow_66 (by decide +kernel) rfl rfl (Nat.le_of_ble_eq_true rfl) rfl k_) ?_
        refine AX.map (fun _ k_ => AW.callV (Y := mX2_put) (n := 3) (r_nX2_put h 2 _ (in_get hm2.1 hh2 (by decide) (by decide))) (by decide) (by decide) rfl gM q1469 q1471 qs61 q141 q1472 dX2_knockNow_69 (by decide +kernel) rfl rfl (Nat.le_of_ble_eq_true rfl) rfl k_) ?_
        refine AX.map (fun _ k_ => AW.iload_n dX2_knockNow_72 rfl rfl k_) ?_
        exact ⟨_, Qn.of, AW.iretE dX2_knockNow_73 rfl rfl rfl (by rw [hs, hu]; rfl)⟩
    · refine AX.map (fun _ k_ => AW.iconst (v := (-1)) dX2_knockNow_33 (by decide) rfl k_) ?_
      refine AX.map (fun _ k_ => AW.goto (tgt := 50) dX2_knockNow_34 (by decide) k_) ?_
      refine AX.stE (st1 := [.int (if hasI (gtM (s.A 626) h 0) (s.A 626 8 % 20) then -1 else b2i (letF L (vwM (u.A 626)) h (u.A 626 8)))]) (by first | (rw [if_pos c13]; rfl) | (rw [if_neg (by rw [c13]; decide)]; first | (rw [show letF L (vwM (u.A 626)) h (u.A 626 8) = true from c42]; rfl) | (rw [show letF L (vwM (u.A 626)) h (u.A 626 8) = false from c42]; rfl)) | (exfalso; rw [c13] at c30; exact c30 rfl) | (exfalso; rw [c13] at c30; exact absurd c30 (by decide))) ?_
      refine AX.map (fun _ k_ => AW.istore_n (i := 3) dX2_knockNow_50 rfl rfl (Nat.le_of_ble_eq_true rfl) rfl rfl k_) ?_
      refine AX.map (fun _ k_ => AW.aload_n dX2_knockNow_51 rfl rfl k_) ?_
      refine AX.map (fun _ k_ => AW.iload_n dX2_knockNow_52 rfl rfl k_) ?_
      refine AX.map (fun _ k_ => AW.iconst (v := 2) dX2_knockNow_53 (by decide) rfl k_) ?_
      refine AX.map (fun _ k_ => AW.aload_n dX2_knockNow_54 rfl rfl k_) ?_
      refine AX.map (fun _ k_ => AW.iload_n dX2_knockNow_55 rfl rfl k_) ?_
      refine AX.map (fun _ k_ => AW.iconst (v := 2) dX2_knockNow_56 (by decide) rfl k_) ?_
      refine AX.map (fun _ k_ => AW.callV (Y := mX2_get) (n := 2) (r_nX2_get h 2 (in_get hm2.1 hh2 (by decide) (by decide))) (by decide) (by decide) rfl gM q1477 q1479 qs63 q141 q1480 dX2_knockNow_57 (by decide +kernel) rfl rfl (Nat.le_of_ble_eq_true rfl) rfl k_) ?_
      refine AX.map (fun _ k_ => AW.iload_n dX2_knockNow_60 rfl rfl k_) ?_
      refine AX.map (fun _ k_ => AW.iadd dX2_knockNow_61 rfl k_) ?_
      refine AX.map (fun _ k_ => AW.i2l dX2_knockNow_62 rfl k_) ?_
      refine AX.map (fun _ k_ => AW.iconst (v := 0) dX2_knockNow_63 (by decide) rfl k_) ?_
      refine AX.map (fun _ k_ => AW.bipush (v := 99) dX2_knockNow_64 (by decide) rfl k_) ?_
      refine AX.map (fun _ k_ => AW.callS (Y := mX2_cut) (n := 3) (r_X2_cut _ _ _) (by decide) (by decide) q1726 q1727 q141 q1728 dX2_knockNow_66 (by decide +kernel) rfl rfl (Nat.le_of_ble_eq_true rfl) rfl k_) ?_
      refine AX.map (fun _ k_ => AW.callV (Y := mX2_put) (n := 3) (r_nX2_put h 2 _ (in_get hm2.1 hh2 (by decide) (by decide))) (by decide) (by decide) rfl gM q1469 q1471 qs61 q141 q1472 dX2_knockNow_69 (by decide +kernel) rfl rfl (Nat.le_of_ble_eq_true rfl) rfl k_) ?_
      refine AX.map (fun _ k_ => AW.iload_n dX2_knockNow_72 rfl rfl k_) ?_
      exact ⟨_, Qn.of, AW.iretE dX2_knockNow_73 rfl rfl rfl (by rw [hs, hu]; rfl)⟩
theorem r_X2_knock_f {s : Sg} {N : Nat → Int32} {V : Nat → Int64} {B : Nat → Bool} (hn : (vwM (s.A 626)).ok) (h : Int32) (hh : (vwM (s.A 626)).her h = false) : Run 4 mX2_knock [.ref 625, .int h] (hp (sn s N V B)) (.inl (some (.int (-1)))) (hp (sn s N V B)) := by
  refine Run.of rfl (Nat.le_of_ble_eq_true rfl) rfl ?_
  refine AW.aload_n dX2_knock_0 rfl rfl ?_
  refine AW.iload_n dX2_knock_1 rfl rfl ?_
  refine AW.callV (Y := mX2_isHere) (n := 1) (r_nX2_isHere hn _) (by decide) (by decide) rfl gM q1649 q1651 qs91 q141 q1652 dX2_knock_2 (by decide +kernel) rfl rfl (Nat.le_of_ble_eq_true rfl) rfl ?_
  refine AW.if_neB (tgt := 10) dX2_knock_5 (by decide) rfl (fun c_ => by first | exact absurd c_ hh | exact absurd hh c_ | exact Bool.noConfusion (c_.symm.trans hh)) (fun _ => ?_)
  refine AW.iconst (v := (-1)) dX2_knock_8 (by decide) rfl ?_
  exact AW.iretE dX2_knock_9 rfl rfl rfl rfl
theorem r_X2_knock_t {s : Sg} {N : Nat → Int32} {V : Nat → Int64} {B : Nat → Bool} {L : Lw} (hm : MI (s.A 626)) (hL : LawM (s.A 626) (s.A 628) L) (h : Int32) (hh : (vwM (s.A 626)).her h = true) : RX (Qn (s.setA 626 (knockM (keepI (s.A 626)) L h))) 9 mX2_knock [.ref 625, .int h] (hp (sn s N V B)) (some (.int (b2i (hasI (gtM (keepI (s.A 626)) h 0) ((keepI (s.A 626)) 8 % 20))))) := by
  refine RX.of rfl (Nat.le_of_ble_eq_true rfl) rfl ?_
  refine AX.map (fun _ k_ => AW.aload_n dX2_knock_0 rfl rfl k_) ?_
  refine AX.map (fun _ k_ => AW.iload_n dX2_knock_1 rfl rfl k_) ?_
  refine AX.map (fun _ k_ => AW.callV (Y := mX2_isHere) (n := 1) (r_nX2_isHere hm.1 _) (by decide) (by decide) rfl gM q1649 q1651 qs91 q141 q1652 dX2_knock_2 (by decide +kernel) rfl rfl (Nat.le_of_ble_eq_true rfl) rfl k_) ?_
  refine AX.map (fun _ k_ => AW.if_neB (tgt := 10) dX2_knock_5 (by decide) rfl (fun _ => k_) (fun c_ => by first | exact absurd c_ hh | exact absurd hh c_ | exact absurd c_ (not_not_intro hh) | exact Bool.noConfusion (c_.symm.trans hh))) ?_
  refine AX.map (fun _ k_ => AW.aload_n dX2_knock_10 rfl rfl k_) ?_
  refine AX.map (fun _ k_ => AW.callV (Y := mX2_keep) (n := 0) (r_nX2_keep hm) (by decide) (by decide) rfl gM q1657 q1659 qs93 q141 q1660 dX2_knock_11 (by decide +kernel) rfl rfl (Nat.le_of_ble_eq_true rfl) rfl k_) ?_
  have hu : (s.setA 626 (keepI (s.A 626))).A 626 = (keepI (s.A 626)) := setA_at
  have hs : ∀ g, (s.setA 626 (keepI (s.A 626))).setA 626 g = s.setA 626 g := fun g => setA_setA
  have hX : (s.setA 626 (keepI (s.A 626))).A 628 = s.A 628 := setA_ne (by decide)
  generalize s.setA 626 (keepI (s.A 626)) = u at *
  have hm2 : MI (u.A 626) := by rw [hu]; exact MI_keep hm
  have hL2 : LawM (u.A 626) (u.A 628) L := by rw [hu, hX]; exact hL.keep hm
  have hh2 : (vwM (u.A 626)).hou h = true := by rw [hu]; exact hou_of0 (keepI_lo hm (by decide) (by decide)).symm (Vw.her_hou hh)
  refine AX.map (fun _ k_ => AW.aload_n dX2_knock_14 rfl rfl k_) ?_
  refine AX.map (fun _ k_ => AW.iload_n dX2_knock_15 rfl rfl k_) ?_
  obtain ⟨_, ⟨N2, V2, B2, rfl⟩, w⟩ := r_X2_knockNow (N := N) (V := V) (B := B) hm2 hL2 h hh2
  rw [hs, hu] at w
  refine AX.map (fun _ k_ => AW.callV (Y := mX2_knockNow) (n := 1) (w) (by decide) (by decide) rfl gM q1661 q1663 qs94 q141 q1664 dX2_knock_16 (by decide +kernel) rfl rfl (Nat.le_of_ble_eq_true rfl) rfl k_) ?_
  exact ⟨_, Qn.of, AW.iretE dX2_knock_19 rfl rfl rfl rfl⟩
theorem kM_s {a : Nat → Int32} {L : Lw} {k : Nat} (h : ¬ keepsM a L k 8 = 9999) : keepsM a L (k + 1) = passM (keepI (keepsM a L k)) L := if_neg h
theorem gM_s {a : Nat → Int32} {L : Lw} {k : Nat} (h : goesM a L k 8 < 9999) : goesM a L (k + 1) = passM (goesM a L k) L := if_pos h
theorem gM_n {a : Nat → Int32} {L : Lw} {k : Nat} (h : ¬ goesM a L k 8 < 9999) : goesM a L (k + 1) = goesM a L k := if_neg h
/-- how many days pass ahead of the last -/
def arePF (a : Nat → Int32) (L : Lw) : Nat → Nat → Bool
  | 0, _ => true
  | m + 1, k => if keepsM a L k 8 = 9999 then false else arePF a L m (k + 1)
theorem keepsM_stay {a : Nat → Int32} {L : Lw} {k : Nat} (h : keepsM a L k 8 = 9999) : ∀ m, keepsM a L (k + m) = keepsM a L k
  | 0 => rfl
  | m + 1 => by
    have e := keepsM_stay h m
    have e2 : keepsM a L (k + (m + 1)) = if keepsM a L (k + m) 8 = 9999 then keepsM a L (k + m) else passM (keepI (keepsM a L (k + m))) L := rfl
    rw [e2, e, if_pos h]
theorem arePF_t {a : Nat → Int32} {L : Lw} {n k : Nat} (hk : k < n) (h : keepsM a L k 8 = 9999) : arePF a L (n - k) k = false := by
  obtain ⟨j, rfl⟩ := Nat.exists_eq_add_of_lt hk
  rw [show k + j + 1 - k = j + 1 by omega]
  exact if_pos h
theorem arePF_n {a : Nat → Int32} {L : Lw} {n k : Nat} (hk : k < n) (h : ¬ keepsM a L k 8 = 9999) : arePF a L (n - k) k = arePF a L (n - (k + 1)) (k + 1) := by
  obtain ⟨j, rfl⟩ := Nat.exists_eq_add_of_lt hk
  rw [show k + j + 1 - k = j + 1 by omega, show k + j + 1 - (k + 1) = j by omega]
  exact if_neg h
theorem r_X2_arePassed {s : Sg} {N : Nat → Int32} {V : Nat → Int64} {B : Nat → Bool} {L : Lw} (hm : MI (s.A 626)) (hL : LawM (s.A 626) (s.A 628) L) (n : Nat) (hn : n < 2147483648) : RX (Qn (s.setA 626 (keepsM (s.A 626) L n))) 9 mX2_arePassed [.ref 625, .int (nI n)] (hp (sn s N V B)) (some (.int (b2i (arePF (s.A 626) L (n - 0) 0)))) := by
  refine RX.of rfl (Nat.le_of_ble_eq_true rfl) rfl ?_
  refine AX.map (fun _ k_ => AW.iconst (v := 0) dX2_arePassed_0 (by decide) rfl k_) ?_
  refine AX.map (fun _ k_ => AW.istore_n (i := 2) dX2_arePassed_1 rfl rfl (Nat.le_of_ble_eq_true rfl) rfl rfl k_) ?_
  refine AX.hpE (h1 := hp (sn (s.setA 626 (keepsM (s.A 626) L 0)) N V B)) (by rw [show (keepsM (s.A 626) L 0) = (s.A 626) from rfl, setA_id]) ?_
  refine loopUp (P := fun k => ∀ N V B, AX (Qn (s.setA 626 (keepsM (s.A 626) L n))) 9 mX2_arePassed (hp (sn (s.setA 626 (keepsM (s.A 626) L k)) N V B)) 2 [some (.ref 625), some (.int (nI n)), some (.int (nI k))] [] (.inl (some (.int (b2i (arePF (s.A 626) L (n - k) k)))))) n ?_ ?_ 0 (by first | exact Nat.zero_le _ | omega) N V B
  · clear N V B
    intro N V B
    refine AX.map (fun _ k_ => AW.iload_n dX2_arePassed_2 rfl rfl k_) ?_
    refine AX.map (fun _ k_ => AW.iload_n dX2_arePassed_3 rfl rfl k_) ?_
    refine AX.map (fun _ k_ => AW.icmp_ge (tgt := 36) dX2_arePassed_4 (by decide) rfl (fun _ => k_) (fun c_ => by first | exact absurd c_ (Int32.le_refl _) | exact absurd (Int32.le_refl _) c_ | exact absurd c_ (not_not_intro (Int32.le_refl _)) | exact Bool.noConfusion (c_.symm.trans (Int32.le_refl _)))) ?_
    refine AX.map (fun _ k_ => AW.iconst (v := 1) dX2_arePassed_36 (by decide) rfl k_) ?_
    rw [Nat.sub_self]
    exact ⟨_, Qn.of, AW.bretE dX2_arePassed_37 rfl rfl rfl rfl⟩
  · intro k hk ihk
    clear N V B
    intro N V B
    obtain ⟨hmk, hk0, hk2⟩ := keepsM_ok (L := L) hm k
    have hLk : LawM (keepsM (s.A 626) L k) (s.A 628) L := hL.to hk2.symm
    have hu : (s.setA 626 (keepsM (s.A 626) L k)).A 626 = (keepsM (s.A 626) L k) := setA_at
    have hs : ∀ g, (s.setA 626 (keepsM (s.A 626) L k)).setA 626 g = s.setA 626 g := fun g => setA_setA
    have hX : (s.setA 626 (keepsM (s.A 626) L k)).A 628 = s.A 628 := setA_ne (by decide)
    generalize s.setA 626 (keepsM (s.A 626) L k) = u at *
    rw [← hu] at hmk hLk
    rw [← hX] at hLk
    refine AX.map (fun _ k_ => AW.iload_n dX2_arePassed_2 rfl rfl k_) ?_
    refine AX.map (fun _ k_ => AW.iload_n dX2_arePassed_3 rfl rfl k_) ?_
    refine AX.map (fun _ k_ => AW.icmp_ge (tgt := 36) dX2_arePassed_4 (by decide) rfl (fun c_ => by first | exact absurd c_ (by rw [Int32.le_iff_toInt_le, nI_t hn, nI_t (by omega)]; omega) | exact absurd (by rw [Int32.le_iff_toInt_le, nI_t hn, nI_t (by omega)]; omega) c_ | exact Bool.noConfusion (c_.symm.trans (by rw [Int32.le_iff_toInt_le, nI_t hn, nI_t (by omega)]; omega))) (fun _ => k_)) ?_
    refine AX.map (fun _ k_ => AW.aload_n dX2_arePassed_7 rfl rfl k_) ?_
    refine AX.map (fun _ k_ => AW.get ci2 0 (by decide) q1351 dX2_arePassed_8 gM rfl rfl k_) ?_
    refine AX.map (fun _ k_ => AW.bipush (v := 8) dX2_arePassed_11 (by decide) rfl k_) ?_
    refine AX.map (fun _ k_ => AW.iald dX2_arePassed_13 gn626 (vp_in_iff.mpr (by decide)) (j := 8) (by decide) rfl k_) ?_
    refine AX.map (fun _ k_ => AW.sipush (v := 9999) dX2_arePassed_14 (by decide) rfl k_) ?_
    refine AX.brP (fun _ kt_ kf_ => AW.icmp_ne (tgt := 22) dX2_arePassed_17 (by decide) rfl kt_ kf_) (fun c17 => ?_) (fun c17 => ?_)
    · refine AX.map (fun _ k_ => AW.aload_n dX2_arePassed_22 rfl rfl k_) ?_
      refine AX.map (fun _ k_ => AW.callV (Y := mX2_keep) (n := 0) (r_nX2_keep hmk) (by decide) (by decide) rfl gM q1657 q1659 qs93 q141 q1660 dX2_arePassed_23 (by decide +kernel) rfl rfl (Nat.le_of_ble_eq_true rfl) rfl k_) ?_
      refine AX.map (fun _ k_ => AW.aload_n dX2_arePassed_26 rfl rfl k_) ?_
      have hm3 := MI_keep hmk
      have hL3 := hLk.keep hmk
      have hu3 : (u.setA 626 (keepI (u.A 626))).A 626 = keepI (u.A 626) := setA_at
      have hX3 : (u.setA 626 (keepI (u.A 626))).A 628 = u.A 628 := setA_ne (by decide)
      have hs3 : ∀ g, (u.setA 626 (keepI (u.A 626))).setA 626 g = s.setA 626 g := fun g => setA_setA.trans (hs g)
      generalize u.setA 626 (keepI (u.A 626)) = u3 at *
      rw [← hu3] at hm3 hL3
      rw [← hX3] at hL3
      obtain ⟨_, ⟨N2, V2, B2, rfl⟩, w⟩ := r_X2_pass (N := N) (V := V) (B := B) hm3.1 hL3
      rw [hs3, hu3, hu] at w
      refine AX.map (fun _ k_ => AW.callV (Y := mX2_pass) (n := 0) (w) (by decide) (by decide) rfl gM q1772 q1774 qs110 q141 q1775 dX2_arePassed_27 (by decide +kernel) rfl rfl (Nat.le_of_ble_eq_true rfl) rfl k_) ?_
      refine AX.map (fun _ k_ => AW.iinc (v := 1) dX2_arePassed_30 rfl (by decide) rfl rfl rfl k_) ?_
      refine AX.map (fun _ k_ => AW.goto (tgt := 2) dX2_arePassed_33 (by decide) k_) ?_
      rw [hu] at c17
      rw [kM_s c17] at ihk
      exact AX.lsE (by rw [nI_succ k]; rfl) (AX.ooE (by rw [arePF_n hk c17]) (ihk _ _ _))
    · refine AX.map (fun _ k_ => AW.iconst (v := 0) dX2_arePassed_20 (by decide) rfl k_) ?_
      have c18 := hu ▸ c17
      rw [arePF_t hk c18]
      have e9 := keepsM_stay c18 (n - k)
      rw [show k + (n - k) = n by omega] at e9
      have e7 := hs (u.A 626)
      rw [setA_id, hu] at e7
      rw [e9, ← e7]
      exact ⟨_, Qn.of, AW.bretE dX2_arePassed_21 rfl rfl rfl rfl⟩
theorem r_X2_goOn {s : Sg} {N : Nat → Int32} {V : Nat → Int64} {B : Nat → Bool} {L : Lw} (hm : MI (s.A 626)) (hL : LawM (s.A 626) (s.A 628) L) (n : Nat) (hn : n < 2147483648) : RX (Qn (s.setA 626 (goesM (s.A 626) L n))) 9 mX2_goOn [.ref 625, .int (nI n)] (hp (sn s N V B)) none := by
  refine RX.of rfl (Nat.le_of_ble_eq_true rfl) rfl ?_
  refine AX.map (fun _ k_ => AW.iconst (v := 0) dX2_goOn_0 (by decide) rfl k_) ?_
  refine AX.map (fun _ k_ => AW.istore_n (i := 2) dX2_goOn_1 rfl rfl (Nat.le_of_ble_eq_true rfl) rfl rfl k_) ?_
  refine AX.hpE (h1 := hp (sn (s.setA 626 (goesM (s.A 626) L 0)) N V B)) (by rw [show (goesM (s.A 626) L 0) = (s.A 626) from rfl, setA_id]) ?_
  refine loopUp (P := fun k => ∀ N V B, AX (Qn (s.setA 626 (goesM (s.A 626) L n))) 9 mX2_goOn (hp (sn (s.setA 626 (goesM (s.A 626) L k)) N V B)) 2 [some (.ref 625), some (.int (nI n)), some (.int (nI k))] [] (.inl none)) n ?_ ?_ 0 (by first | exact Nat.zero_le _ | omega) N V B
  · clear N V B
    intro N V B
    refine AX.map (fun _ k_ => AW.iload_n dX2_goOn_2 rfl rfl k_) ?_
    refine AX.map (fun _ k_ => AW.iload_n dX2_goOn_3 rfl rfl k_) ?_
    refine AX.map (fun _ k_ => AW.icmp_ge (tgt := 30) dX2_goOn_4 (by decide) rfl (fun _ => k_) (fun c_ => by first | exact absurd c_ (Int32.le_refl _) | exact absurd (Int32.le_refl _) c_ | exact absurd c_ (not_not_intro (Int32.le_refl _)) | exact Bool.noConfusion (c_.symm.trans (Int32.le_refl _)))) ?_
    exact ⟨_, Qn.of, AW.vretE dX2_goOn_30 rfl rfl rfl⟩
  · intro k hk ihk
    clear N V B
    intro N V B
    obtain ⟨hmk, hk2⟩ := goesM_ok (L := L) hm k
    have hLk : LawM (goesM (s.A 626) L k) (s.A 628) L := hL.by hk2
    have hu : (s.setA 626 (goesM (s.A 626) L k)).A 626 = (goesM (s.A 626) L k) := setA_at
    have hs : ∀ g, (s.setA 626 (goesM (s.A 626) L k)).setA 626 g = s.setA 626 g := fun g => setA_setA
    have hX : (s.setA 626 (goesM (s.A 626) L k)).A 628 = s.A 628 := setA_ne (by decide)
    generalize s.setA 626 (goesM (s.A 626) L k) = u at *
    rw [← hu] at hmk hLk
    rw [← hX] at hLk
    refine AX.map (fun _ k_ => AW.iload_n dX2_goOn_2 rfl rfl k_) ?_
    refine AX.map (fun _ k_ => AW.iload_n dX2_goOn_3 rfl rfl k_) ?_
    refine AX.map (fun _ k_ => AW.icmp_ge (tgt := 30) dX2_goOn_4 (by decide) rfl (fun c_ => by first | exact absurd c_ (by rw [Int32.le_iff_toInt_le, nI_t hn, nI_t (by omega)]; omega) | exact absurd (by rw [Int32.le_iff_toInt_le, nI_t hn, nI_t (by omega)]; omega) c_ | exact Bool.noConfusion (c_.symm.trans (by rw [Int32.le_iff_toInt_le, nI_t hn, nI_t (by omega)]; omega))) (fun _ => k_)) ?_
    refine AX.map (fun _ k_ => AW.aload_n dX2_goOn_7 rfl rfl k_) ?_
    refine AX.map (fun _ k_ => AW.get ci2 0 (by decide) q1351 dX2_goOn_8 gM rfl rfl k_) ?_
    refine AX.map (fun _ k_ => AW.bipush (v := 8) dX2_goOn_11 (by decide) rfl k_) ?_
    refine AX.map (fun _ k_ => AW.iald dX2_goOn_13 gn626 (vp_in_iff.mpr (by decide)) (j := 8) (by decide) rfl k_) ?_
    refine AX.map (fun _ k_ => AW.sipush (v := 9999) dX2_goOn_14 (by decide) rfl k_) ?_
    refine AX.brN (fun _ kt_ kf_ => AW.icmp_ge (tgt := 24) dX2_goOn_17 (by decide) rfl kt_ kf_) (fun c17 => ?_) (fun c17 => ?_)
    · refine AX.map (fun _ k_ => AW.iinc (v := 1) dX2_goOn_24 rfl (by decide) rfl rfl rfl k_) ?_
      refine AX.map (fun _ k_ => AW.goto (tgt := 2) dX2_goOn_27 (by decide) k_) ?_
      rw [hu] at c17
      rw [gM_n (Int32.not_lt.mpr c17)] at ihk
      have e7 := hs (u.A 626)
      rw [setA_id, hu] at e7
      exact AX.lsE (by rw [nI_succ k]; rfl) (AX.hpE (by rw [e7]) (ihk _ _ _))
    · refine AX.map (fun _ k_ => AW.aload_n dX2_goOn_20 rfl rfl k_) ?_
      obtain ⟨_, ⟨N2, V2, B2, rfl⟩, w⟩ := r_X2_pass (N := N) (V := V) (B := B) hmk.1 hLk
      rw [hs, hu] at w
      refine AX.map (fun _ k_ => AW.callV (Y := mX2_pass) (n := 0) (w) (by decide) (by decide) rfl gM q1772 q1774 qs110 q141 q1775 dX2_goOn_21 (by decide +kernel) rfl rfl (Nat.le_of_ble_eq_true rfl) rfl k_) ?_
      refine AX.map (fun _ k_ => AW.iinc (v := 1) dX2_goOn_24 rfl (by decide) rfl rfl rfl k_) ?_
      refine AX.map (fun _ k_ => AW.goto (tgt := 2) dX2_goOn_27 (by decide) k_) ?_
      rw [hu] at c17
      rw [gM_s (Int32.not_le.mp c17)] at ihk
      exact AX.lsE (by rw [nI_succ k]; rfl) (ihk _ _ _)
