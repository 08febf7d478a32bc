/-! MODEL 16: a text played; what is foretold (printed by tools/m16.py) -/
set_option maxRecDepth 100000
theorem play_t {D : Nat → Int32 × Int32 × Int32 × Int32} {L : Lw} {n k : Nat} {a : Nat → Int32} (hk : k < n) (h : (doM a L (D k).1 (D k).2.1 (D k).2.2.1 (D k).2.2.2).1 = true) : playM D L (n - k) k a = playM D L (n - (k + 1)) (k + 1) (doM a L (D k).1 (D k).2.1 (D k).2.2.1 (D k).2.2.2).2 := by
  obtain ⟨j, rfl⟩ := Nat.exists_eq_add_of_lt hk
  rw [show k + j + 1 - k = j + 1 by omega, show k + j + 1 - (k + 1) = j by omega]
  exact if_pos h
theorem play_f {D : Nat → Int32 × Int32 × Int32 × Int32} {L : Lw} {n k : Nat} {a : Nat → Int32} (hk : k < n) (h : (doM a L (D k).1 (D k).2.1 (D k).2.2.1 (D k).2.2.2).1 = false) : playM D L (n - k) k a = (nI k, (doM a L (D k).1 (D k).2.1 (D k).2.2.1 (D k).2.2.2).2) := by
  obtain ⟨j, rfl⟩ := Nat.exists_eq_add_of_lt hk
  rw [show k + j + 1 - k = j + 1 by omega]
  exact if_neg (by rw [h]; decide)
theorem play_e {D : Nat → Int32 × Int32 × Int32 × Int32} {L : Lw} {n : Nat} {a : Nat → Int32} : playM D L (n - n) n a = (-1, a) := by rw [Nat.sub_self]; rfl
theorem r_X2_played_f {s : Sg} {N : Nat → Int32} {V : Nat → Int64} {B : Nat → Bool} (t : Int32) (hc : inI t 0 (s.A 626 1 - 1) = false) : Run 3 mX2_played [.ref 625, .int t] (hp (sn s N V B)) (.inl (some (.int (-2)))) (hp (sn s N V B)) := by
  refine Run.of rfl (Nat.le_of_ble_eq_true rfl) rfl ?_
  refine AW.iload_n dX2_played_0 rfl rfl ?_
  refine AW.iconst (v := 0) dX2_played_1 (by decide) rfl ?_
  refine AW.aload_n dX2_played_2 rfl rfl ?_
  refine AW.get ci2 0 (by decide) q1351 dX2_played_3 gM rfl rfl ?_
  refine AW.iconst (v := 1) dX2_played_6 (by decide) rfl ?_
  refine AW.iald dX2_played_7 gn626 (vp_in_iff.mpr (by decide)) (j := 1) (by decide) rfl ?_
  refine AW.iconst (v := 1) dX2_played_8 (by decide) rfl ?_
  refine AW.isub dX2_played_9 rfl ?_
  refine AW.callS (Y := mX2_isIn) (n := 3) (r_X2_isIn _ _ _) (by decide) (by decide) q1466 q1467 q141 q1468 dX2_played_10 (by decide +kernel) rfl rfl (Nat.le_of_ble_eq_true rfl) rfl ?_
  refine AW.if_neB (tgt := 19) dX2_played_13 (by decide) rfl (fun c_ => by first | exact absurd c_ hc | exact absurd hc c_ | exact Bool.noConfusion (c_.symm.trans hc)) (fun _ => ?_)
  refine AW.bipush (v := (-2)) dX2_played_16 (by decide) rfl ?_
  exact AW.iretE dX2_played_18 rfl rfl rfl rfl
theorem r_X2_played_t {s : Sg} {N : Nat → Int32} {V : Nat → Int64} {B : Nat → Bool} {L : Lw} (hm : MI (s.A 626)) (hL : LawM (s.A 626) (s.A 628) L) (t n : Nat) (ht4 : t < 4) (hc : inI (nI t) 0 (s.A 626 1 - 1) = true) (hx : (s.A 628) (705 * t) = nI n) (hn24 : n ≤ 24) (hd : ∀ k, k < n → dayOk ((clauseD (s.A 628) t) k).1 ((clauseD (s.A 628) t) k).2.1) : RX (Qn (s.setA 626 (playM (clauseD (s.A 628) t) L (n - 0) 0 (s.A 626)).2)) 12 mX2_played [.ref 625, .int (nI t)] (hp (sn s N V B)) (some (.int ((playM (clauseD (s.A 628) t) L (n - 0) 0 (s.A 626)).1))) := by
  refine RX.of rfl (Nat.le_of_ble_eq_true rfl) rfl ?_
  refine AX.map (fun _ k_ => AW.iload_n dX2_played_0 rfl rfl k_) ?_
  refine AX.map (fun _ k_ => AW.iconst (v := 0) dX2_played_1 (by decide) rfl k_) ?_
  refine AX.map (fun _ k_ => AW.aload_n dX2_played_2 rfl rfl k_) ?_
  refine AX.map (fun _ k_ => AW.get ci2 0 (by decide) q1351 dX2_played_3 gM rfl rfl k_) ?_
  refine AX.map (fun _ k_ => AW.iconst (v := 1) dX2_played_6 (by decide) rfl k_) ?_
  refine AX.map (fun _ k_ => AW.iald dX2_played_7 gn626 (vp_in_iff.mpr (by decide)) (j := 1) (by decide) rfl k_) ?_
  refine AX.map (fun _ k_ => AW.iconst (v := 1) dX2_played_8 (by decide) rfl k_) ?_
  refine AX.map (fun _ k_ => AW.isub dX2_played_9 rfl k_) ?_
  refine AX.map (fun _ k_ => AW.callS (Y := mX2_isIn) (n := 3) (r_X2_isIn _ _ _) (by decide) (by decide) q1466 q1467 q141 q1468 dX2_played_10 (by decide +kernel) rfl rfl (Nat.le_of_ble_eq_true rfl) rfl k_) ?_
  refine AX.map (fun _ k_ => AW.if_neB (tgt := 19) dX2_played_13 (by decide) rfl (fun _ => k_) (fun c_ => by first | exact absurd c_ hc | exact absurd hc c_ | exact absurd c_ (not_not_intro hc) | exact Bool.noConfusion (c_.symm.trans hc))) ?_
  refine AX.map (fun _ k_ => AW.iconst (v := 0) dX2_played_19 (by decide) rfl k_) ?_
  refine AX.map (fun _ k_ => AW.istore_n (i := 2) dX2_played_20 rfl rfl (Nat.le_of_ble_eq_true rfl) rfl rfl k_) ?_
  rw [← setA_id (s := sn s N V B) (k := 626), sn_A (k := 626) (by decide) (by decide), sn_set (by decide) (by decide)]
  refine loopUp (P := fun k => ∀ b N V B, MI b → LawM b (s.A 628) L → playM (clauseD (s.A 628) t) L (n - k) k b = (playM (clauseD (s.A 628) t) L (n - 0) 0 (s.A 626)) → AX (Qn (s.setA 626 (playM (clauseD (s.A 628) t) L (n - 0) 0 (s.A 626)).2)) 12 mX2_played (hp (sn (s.setA 626 b) N V B)) 21 [some (.ref 625), some (.int (nI t)), some (.int (nI k))] [] (.inl (some (.int ((playM (clauseD (s.A 628) t) L (n - 0) 0 (s.A 626)).1))))) n ?_ ?_ 0 (by first | exact Nat.zero_le _ | omega) (s.A 626) N V B hm hL rfl
  · clear hm hL N V B
    intro b N V B hm hL hpl
    refine AX.map (fun _ k_ => AW.iload_n dX2_played_21 rfl rfl k_) ?_
    refine AX.map (fun _ k_ => AW.aload_n dX2_played_22 rfl rfl k_) ?_
    refine AX.map (fun _ k_ => AW.get ci2 2 (by decide) q1353 dX2_played_23 gM rfl rfl k_) ?_
    refine AX.map (fun _ k_ => AW.sipush (v := 705) dX2_played_26 (by decide) rfl k_) ?_
    refine AX.map (fun _ k_ => AW.iload_n dX2_played_29 rfl rfl k_) ?_
    refine AX.map (fun _ k_ => AW.imul dX2_played_30 rfl k_) ?_
    refine AX.map (fun _ k_ => AW.iald dX2_played_31 gn628 (by rw [(show (705 : Int32) * nI t = nI (705 * t) by rw [show (705 : Int32) = nI 705 from rfl, nI_mul])]; exact in0 _ (by omega) (by decide)) (j := 705 * t) (by rw [(show (705 : Int32) * nI t = nI (705 * t) by rw [show (705 : Int32) = nI 705 from rfl, nI_mul])]; exact cI_nI (by omega)) rfl k_) ?_
    refine AX.map (fun _ k_ => AW.icmp_ge (tgt := 61) dX2_played_32 (by decide) rfl (fun _ => k_) (fun c_ => by first | exact absurd c_ (by rw [show (s.setA 626 b).A 628 = s.A 628 from setA_ne (by decide), hx]; exact Int32.le_refl _) | exact absurd (by rw [show (s.setA 626 b).A 628 = s.A 628 from setA_ne (by decide), hx]; exact Int32.le_refl _) c_ | exact absurd c_ (not_not_intro (by rw [show (s.setA 626 b).A 628 = s.A 628 from setA_ne (by decide), hx]; exact Int32.le_refl _)) | exact Bool.noConfusion (c_.symm.trans (by rw [show (s.setA 626 b).A 628 = s.A 628 from setA_ne (by decide), hx]; exact Int32.le_refl _)))) ?_
    refine AX.map (fun _ k_ => AW.iconst (v := (-1)) dX2_played_61 (by decide) rfl k_) ?_
    rw [play_e] at hpl
    rw [← hpl]
    exact ⟨_, Qn.of, AW.iretE dX2_played_62 rfl rfl rfl rfl⟩
  · intro k hk ihk
    clear hm hL N V B
    intro b N V B hm hL hpl
    have hdo := doM_ok (L := L) (q := ((clauseD (s.A 628) t) k).1) (v := ((clauseD (s.A 628) t) k).2.1) (w := ((clauseD (s.A 628) t) k).2.2.1) (u := ((clauseD (s.A 628) t) k).2.2.2) hm
    have hu : (s.setA 626 b).A 626 = b := setA_at
    have hs : ∀ g, (s.setA 626 b).setA 626 g = s.setA 626 g := fun g => setA_setA
    have hX : (s.setA 626 b).A 628 = s.A 628 := setA_ne (by decide)
    have w0 : RX (Qn (s.setA 626 (doM b L ((clauseD (s.A 628) t) k).1 ((clauseD (s.A 628) t) k).2.1 ((clauseD (s.A 628) t) k).2.2.1 ((clauseD (s.A 628) t) k).2.2.2).2)) 11 mX2_isPlayed [.ref 625, .int (705 * nI t + 1 + 4 * nI k)] (hp (sn (s.setA 626 b) N V B)) (some (.int (b2i (doM b L ((clauseD (s.A 628) t) k).1 ((clauseD (s.A 628) t) k).2.1 ((clauseD (s.A 628) t) k).2.2.1 ((clauseD (s.A 628) t) k).2.2.2).1))) := by
      rw [(show (705 : Int32) * nI t + 1 + 4 * nI k = nI (705 * t + 1 + 4 * k) by rw [show (705 : Int32) = nI 705 from rfl, show (4 : Int32) = nI 4 from rfl, nI_mul, nI_mul, nI_1, nI_add])]
      generalize s.setA 626 b = u at *
      rw [← hu] at hm hL
      rw [← hX] at hL
      have w := r_X2_isPlayed (N := N) (V := V) (B := B) hm hL (705 * t + 1 + 4 * k) (by omega) (by rw [hX]; exact hd k hk)
      rw [hs, hu, hX] at w
      exact w
    obtain ⟨_, ⟨N2, V2, B2, rfl⟩, w0⟩ := w0
    refine AX.map (fun _ k_ => AW.iload_n dX2_played_21 rfl rfl k_) ?_
    refine AX.map (fun _ k_ => AW.aload_n dX2_played_22 rfl rfl k_) ?_
    refine AX.map (fun _ k_ => AW.get ci2 2 (by decide) q1353 dX2_played_23 gM rfl rfl k_) ?_
    refine AX.map (fun _ k_ => AW.sipush (v := 705) dX2_played_26 (by decide) rfl k_) ?_
    refine AX.map (fun _ k_ => AW.iload_n dX2_played_29 rfl rfl k_) ?_
    refine AX.map (fun _ k_ => AW.imul dX2_played_30 rfl k_) ?_
    refine AX.map (fun _ k_ => AW.iald dX2_played_31 gn628 (by rw [(show (705 : Int32) * nI t = nI (705 * t) by rw [show (705 : Int32) = nI 705 from rfl, nI_mul])]; exact in0 _ (by omega) (by decide)) (j := 705 * t) (by rw [(show (705 : Int32) * nI t = nI (705 * t) by rw [show (705 : Int32) = nI 705 from rfl, nI_mul])]; exact cI_nI (by omega)) rfl k_) ?_
    refine AX.map (fun _ k_ => AW.icmp_ge (tgt := 61) dX2_played_32 (by decide) rfl (fun c_ => by first | exact absurd c_ (by rw [show (s.setA 626 b).A 628 = s.A 628 from setA_ne (by decide), hx, Int32.le_iff_toInt_le, nI_t (by omega), nI_t (by omega)]; omega) | exact absurd (by rw [show (s.setA 626 b).A 628 = s.A 628 from setA_ne (by decide), hx, Int32.le_iff_toInt_le, nI_t (by omega), nI_t (by omega)]; omega) c_ | exact Bool.noConfusion (c_.symm.trans (by rw [show (s.setA 626 b).A 628 = s.A 628 from setA_ne (by decide), hx, Int32.le_iff_toInt_le, nI_t (by omega), nI_t (by omega)]; omega))) (fun _ => k_)) ?_
    refine AX.map (fun _ k_ => AW.aload_n dX2_played_35 rfl rfl k_) ?_
    refine AX.map (fun _ k_ => AW.sipush (v := 705) dX2_played_36 (by decide) rfl k_) ?_
    refine AX.map (fun _ k_ => AW.iload_n dX2_played_39 rfl rfl k_) ?_
    refine AX.map (fun _ k_ => AW.imul dX2_played_40 rfl k_) ?_
    refine AX.map (fun _ k_ => AW.iconst (v := 1) dX2_played_41 (by decide) rfl k_) ?_
    refine AX.map (fun _ k_ => AW.iadd dX2_played_42 rfl k_) ?_
    refine AX.map (fun _ k_ => AW.iconst (v := 4) dX2_played_43 (by decide) rfl k_) ?_
    refine AX.map (fun _ k_ => AW.iload_n dX2_played_44 rfl rfl k_) ?_
    refine AX.map (fun _ k_ => AW.imul dX2_played_45 rfl k_) ?_
    refine AX.map (fun _ k_ => AW.iadd dX2_played_46 rfl k_) ?_
    refine AX.map (fun _ k_ => AW.callV (Y := mX2_isPlayed) (n := 1) (w0) (by decide) (by decide) rfl gM q1792 q1794 qs114 q141 q1795 dX2_played_47 (by decide +kernel) rfl rfl (Nat.le_of_ble_eq_true rfl) rfl k_) ?_
    refine AX.brT (fun _ kt_ kf_ => AW.if_neB (tgt := 55) dX2_played_50 (by decide) rfl kt_ kf_) (fun c50 => ?_) (fun c50 => ?_)
    · refine AX.map (fun _ k_ => AW.iinc (v := 1) dX2_played_55 rfl (by decide) rfl rfl rfl k_) ?_
      refine AX.map (fun _ k_ => AW.goto (tgt := 21) dX2_played_58 (by decide) k_) ?_
      rw [play_t hk c50] at hpl
      exact AX.lsE (by rw [nI_succ k]; rfl) (ihk _ _ _ _ hdo.1 (hL.to hdo.2.symm) hpl)
    · refine AX.map (fun _ k_ => AW.iload_n dX2_played_53 rfl rfl k_) ?_
      rw [play_f hk c50] at hpl
      rw [← hpl]
      exact ⟨_, Qn.of, AW.iretE dX2_played_54 rfl rfl rfl rfl⟩
theorem r_X2_of_f {s : Sg} {N : Nat → Int32} {V : Nat → Int64} {B : Nat → Bool} (h w : Int32) (hh : (vwM (s.A 626)).hou h = false) : Run 3 mX2_of [.ref 625, .int h, .int w] (hp (sn s N V B)) (.inl (some (.int (-1)))) (hp (sn s N V B)) := by
  refine Run.of rfl (Nat.le_of_ble_eq_true rfl) rfl ?_
  refine AW.aload_n dX2_of_0 rfl rfl ?_
  refine AW.iload_n dX2_of_1 rfl rfl ?_
  refine AW.callV (Y := mX2_isHouse) (n := 1) (r_nX2_isHouse _) (by decide) (by decide) rfl gM q1653 q1655 qs92 q141 q1656 dX2_of_2 (by decide +kernel) rfl rfl (Nat.le_of_ble_eq_true rfl) rfl ?_
  refine AW.if_neB (tgt := 10) dX2_of_5 (by decide) rfl (fun c_ => by first | exact absurd c_ hh | exact absurd hh c_ | exact Bool.noConfusion (c_.symm.trans hh)) (fun _ => ?_)
  refine AW.iconst (v := (-1)) dX2_of_8 (by decide) rfl ?_
  exact AW.iretE dX2_of_9 rfl rfl rfl rfl
theorem r_X2_of_4 {s : Sg} {N : Nat → Int32} {V : Nat → Int64} {B : Nat → Bool} {L : Lw} (hm : MI (s.A 626)) (hL : LawM (s.A 626) (s.A 628) L) (h : Int32) (hh : (vwM (s.A 626)).hou h = true) : Run 8 mX2_of [.ref 625, .int h, .int 4] (hp (sn s N V B)) (.inl (some (.int (b2i (hasI ((vwM (s.A 626)).sh h) (s.A 626 8 % 20)))))) (hp (sn s N V B)) := by
  refine Run.of rfl (Nat.le_of_ble_eq_true rfl) rfl ?_
  refine AW.aload_n dX2_of_0 rfl rfl ?_
  refine AW.iload_n dX2_of_1 rfl rfl ?_
  refine AW.callV (Y := mX2_isHouse) (n := 1) (r_nX2_isHouse _) (by decide) (by decide) rfl gM q1653 q1655 qs92 q141 q1656 dX2_of_2 (by decide +kernel) rfl rfl (Nat.le_of_ble_eq_true rfl) rfl ?_
  refine AW.if_neB (tgt := 10) dX2_of_5 (by decide) rfl (fun _ => ?_) (fun c_ => by first | exact absurd c_ hh | exact absurd hh c_ | exact absurd c_ (not_not_intro hh) | exact Bool.noConfusion (c_.symm.trans hh))
  refine AW.iload_n dX2_of_10 rfl rfl ?_
  refine AW.tableIn (off := 33) (tgt := 44) dX2_of_11 (by rw [show (4 : Int32) = 4 from rfl]; decide) (by rw [show (4 : Int32) = 4 from rfl]; decide) (by rw [show (4 : Int32) = 4 from rfl]; rfl) (by decide) ?_
  refine AW.aload_n dX2_of_44 rfl rfl ?_
  refine AW.iload_n dX2_of_45 rfl rfl ?_
  refine AW.iconst (v := 0) dX2_of_46 (by decide) rfl ?_
  refine AW.callV (Y := mX2_get) (n := 2) (r_nX2_get _ _ (in_get hm.1 hh (by decide) (by decide))) (by decide) (by decide) rfl gM q1477 q1479 qs63 q141 q1480 dX2_of_47 (by decide +kernel) rfl rfl (Nat.le_of_ble_eq_true rfl) rfl ?_
  refine AW.aload_n dX2_of_50 rfl rfl ?_
  refine AW.callV (Y := mX2_date) (n := 0) (r_nX2_date) (by decide) (by decide) rfl gM q1665 q1667 qs95 q141 q1668 dX2_of_51 (by decide +kernel) rfl rfl (Nat.le_of_ble_eq_true rfl) rfl ?_
  refine AW.callS (Y := mX2_has) (n := 2) (r_X2_has _ _) (by decide) (by decide) q1547 q1548 q141 q1549 dX2_of_54 (by decide +kernel) rfl rfl (Nat.le_of_ble_eq_true rfl) rfl ?_
  refine AW.if_eqB (tgt := 64) dX2_of_57 (by decide) rfl (fun c1 => ?_) (fun c1 => ?_)
  · refine AW.iconst (v := 0) dX2_of_64 (by decide) rfl ?_
    exact AW.iretE dX2_of_65 rfl rfl (by rw [vwM_sh hh]; first | (rw [c1]; rfl)) rfl
  · refine AW.iconst (v := 1) dX2_of_60 (by decide) rfl ?_
    refine AW.goto (tgt := 65) dX2_of_61 (by decide) ?_
    exact AW.iretE dX2_of_65 rfl rfl (by rw [vwM_sh hh]; first | (rw [c1]; rfl)) rfl
theorem r_X2_of_5 {s : Sg} {N : Nat → Int32} {V : Nat → Int64} {B : Nat → Bool} {L : Lw} (hm : MI (s.A 626)) (hL : LawM (s.A 626) (s.A 628) L) (h : Int32) (hh : (vwM (s.A 626)).hou h = true) : RX (Qn s) 8 mX2_of [.ref 625, .int h, .int 5] (hp (sn s N V B)) (some (.int (earnF L (vwM (s.A 626)) h (s.A 626 8)))) := by
  refine RX.of rfl (Nat.le_of_ble_eq_true rfl) rfl ?_
  refine AX.map (fun _ k_ => AW.aload_n dX2_of_0 rfl rfl k_) ?_
  refine AX.map (fun _ k_ => AW.iload_n dX2_of_1 rfl rfl k_) ?_
  refine AX.map (fun _ k_ => AW.callV (Y := mX2_isHouse) (n := 1) (r_nX2_isHouse _) (by decide) (by decide) rfl gM q1653 q1655 qs92 q141 q1656 dX2_of_2 (by decide +kernel) rfl rfl (Nat.le_of_ble_eq_true rfl) rfl k_) ?_
  refine AX.map (fun _ k_ => AW.if_neB (tgt := 10) dX2_of_5 (by decide) rfl (fun _ => k_) (fun c_ => by first | exact absurd c_ hh | exact absurd hh c_ | exact absurd c_ (not_not_intro hh) | exact Bool.noConfusion (c_.symm.trans hh))) ?_
  refine AX.map (fun _ k_ => AW.iload_n dX2_of_10 rfl rfl k_) ?_
  refine AX.map (fun _ k_ => AW.tableIn (off := 55) (tgt := 66) dX2_of_11 (by rw [show (5 : Int32) = 5 from rfl]; decide) (by rw [show (5 : Int32) = 5 from rfl]; decide) (by rw [show (5 : Int32) = 5 from rfl]; rfl) (by decide) k_) ?_
  refine AX.map (fun _ k_ => AW.aload_n dX2_of_66 rfl rfl k_) ?_
  refine AX.map (fun _ k_ => AW.iload_n dX2_of_67 rfl rfl k_) ?_
  refine AX.map (fun _ k_ => AW.aload_n dX2_of_68 rfl rfl k_) ?_
  refine AX.map (fun _ k_ => AW.get ci2 0 (by decide) q1351 dX2_of_69 gM rfl rfl k_) ?_
  refine AX.map (fun _ k_ => AW.bipush (v := 8) dX2_of_72 (by decide) rfl k_) ?_
  refine AX.map (fun _ k_ => AW.iald dX2_of_74 gn626 (vp_in_iff.mpr (by decide)) (j := 8) (by decide) rfl k_) ?_
  obtain ⟨_, ⟨N2, V2, B2, rfl⟩, w⟩ := r_X2_earnsOn (N := N) (V := V) (B := B) hm.1 hL h (s.A 626 8) hh
  refine AX.map (fun _ k_ => AW.callV (Y := mX2_earnsOn) (n := 2) (w) (by decide) (by decide) rfl gM q1784 q1786 qs113 q141 q1787 dX2_of_75 (by decide +kernel) rfl rfl (Nat.le_of_ble_eq_true rfl) rfl k_) ?_
  exact ⟨_, Qn.of, AW.iretE dX2_of_78 rfl rfl rfl rfl⟩
theorem r_X2_of_6 {s : Sg} {N : Nat → Int32} {V : Nat → Int64} {B : Nat → Bool} {L : Lw} (hm : MI (s.A 626)) (hL : LawM (s.A 626) (s.A 628) L) (h : Int32) (hh : (vwM (s.A 626)).hou h = true) : RX (Qn s) 8 mX2_of [.ref 625, .int h, .int 6] (hp (sn s N V B)) (some (.int (loseF L (vwM (s.A 626)) h (s.A 626 8)))) := by
  refine RX.of rfl (Nat.le_of_ble_eq_true rfl) rfl ?_
  refine AX.map (fun _ k_ => AW.aload_n dX2_of_0 rfl rfl k_) ?_
  refine AX.map (fun _ k_ => AW.iload_n dX2_of_1 rfl rfl k_) ?_
  refine AX.map (fun _ k_ => AW.callV (Y := mX2_isHouse) (n := 1) (r_nX2_isHouse _) (by decide) (by decide) rfl gM q1653 q1655 qs92 q141 q1656 dX2_of_2 (by decide +kernel) rfl rfl (Nat.le_of_ble_eq_true rfl) rfl k_) ?_
  refine AX.map (fun _ k_ => AW.if_neB (tgt := 10) dX2_of_5 (by decide) rfl (fun _ => k_) (fun c_ => by first | exact absurd c_ hh | exact absurd hh c_ | exact absurd c_ (not_not_intro hh) | exact Bool.noConfusion (c_.symm.trans hh))) ?_
  refine AX.map (fun _ k_ => AW.iload_n dX2_of_10 rfl rfl k_) ?_
  refine AX.map (fun _ k_ => AW.tableIn (off := 68) (tgt := 79) dX2_of_11 (by rw [show (6 : Int32) = 6 from rfl]; decide) (by rw [show (6 : Int32) = 6 from rfl]; decide) (by rw [show (6 : Int32) = 6 from rfl]; rfl) (by decide) k_) ?_
  refine AX.map (fun _ k_ => AW.aload_n dX2_of_79 rfl rfl k_) ?_
  refine AX.map (fun _ k_ => AW.iload_n dX2_of_80 rfl rfl k_) ?_
  obtain ⟨_, ⟨N2, V2, B2, rfl⟩, w⟩ := r_X2_losesOf (N := N) (V := V) (B := B) hm.1 hL h hh
  refine AX.map (fun _ k_ => AW.callV (Y := mX2_losesOf) (n := 1) (w) (by decide) (by decide) rfl gM q1776 q1778 qs111 q141 q1779 dX2_of_81 (by decide +kernel) rfl rfl (Nat.le_of_ble_eq_true rfl) rfl k_) ?_
  exact ⟨_, Qn.of, AW.iretE dX2_of_84 rfl rfl rfl rfl⟩
theorem r_X2_of_7 {s : Sg} {N : Nat → Int32} {V : Nat → Int64} {B : Nat → Bool} {L : Lw} (hm : MI (s.A 626)) (hL : LawM (s.A 626) (s.A 628) L) (h : Int32) (hh : (vwM (s.A 626)).hou h = true) : RX (Qn s) 8 mX2_of [.ref 625, .int h, .int 7] (hp (sn s N V B)) (some (.int (b2i (letF L (vwM (s.A 626)) h (s.A 626 8))))) := by
  refine RX.of rfl (Nat.le_of_ble_eq_true rfl) rfl ?_
  refine AX.map (fun _ k_ => AW.aload_n dX2_of_0 rfl rfl k_) ?_
  refine AX.map (fun _ k_ => AW.iload_n dX2_of_1 rfl rfl k_) ?_
  refine AX.map (fun _ k_ => AW.callV (Y := mX2_isHouse) (n := 1) (r_nX2_isHouse _) (by decide) (by decide) rfl gM q1653 q1655 qs92 q141 q1656 dX2_of_2 (by decide +kernel) rfl rfl (Nat.le_of_ble_eq_true rfl) rfl k_) ?_
  refine AX.map (fun _ k_ => AW.if_neB (tgt := 10) dX2_of_5 (by decide) rfl (fun _ => k_) (fun c_ => by first | exact absurd c_ hh | exact absurd hh c_ | exact absurd c_ (not_not_intro hh) | exact Bool.noConfusion (c_.symm.trans hh))) ?_
  refine AX.map (fun _ k_ => AW.iload_n dX2_of_10 rfl rfl k_) ?_
  refine AX.map (fun _ k_ => AW.tableIn (off := 74) (tgt := 85) dX2_of_11 (by rw [show (7 : Int32) = 7 from rfl]; decide) (by rw [show (7 : Int32) = 7 from rfl]; decide) (by rw [show (7 : Int32) = 7 from rfl]; rfl) (by decide) k_) ?_
  refine AX.map (fun _ k_ => AW.aload_n dX2_of_85 rfl rfl k_) ?_
  refine AX.map (fun _ k_ => AW.iload_n dX2_of_86 rfl rfl k_) ?_
  obtain ⟨_, ⟨N2, V2, B2, rfl⟩, w⟩ := r_X2_isLetting (N := N) (V := V) (B := B) hm.1 hL h hh
  refine AX.map (fun _ k_ => AW.callV (Y := mX2_isLetting) (n := 1) (w) (by decide) (by decide) rfl gM q1673 q1675 qs97 q141 q1676 dX2_of_87 (by decide +kernel) rfl rfl (Nat.le_of_ble_eq_true rfl) rfl k_) ?_
  refine AX.brF (fun _ kt_ kf_ => AW.if_eqB (tgt := 97) dX2_of_90 (by decide) rfl kt_ kf_) (fun c1 => ?_) (fun c1 => ?_)
  · refine AX.map (fun _ k_ => AW.iconst (v := 0) dX2_of_97 (by decide) rfl k_) ?_
    exact ⟨_, Qn.of, AW.iretE dX2_of_98 rfl rfl (by rw [show letF L _ h _ = _ from c1]; rfl) rfl⟩
  · refine AX.map (fun _ k_ => AW.iconst (v := 1) dX2_of_93 (by decide) rfl k_) ?_
    refine AX.map (fun _ k_ => AW.goto (tgt := 98) dX2_of_94 (by decide) k_) ?_
    exact ⟨_, Qn.of, AW.iretE dX2_of_98 rfl rfl (by rw [show letF L _ h _ = _ from c1]; rfl) rfl⟩
theorem r_X2_of_8 {s : Sg} {N : Nat → Int32} {V : Nat → Int64} {B : Nat → Bool} {L : Lw} (hm : MI (s.A 626)) (hL : LawM (s.A 626) (s.A 628) L) (h : Int32) (hh : (vwM (s.A 626)).hou h = true) : Run 8 mX2_of [.ref 625, .int h, .int 8] (hp (sn s N V B)) (.inl (some (.int ((vwM (s.A 626)).beside h (s.A 626 8 % 20))))) (hp (sn s N V B)) := by
  refine Run.of rfl (Nat.le_of_ble_eq_true rfl) rfl ?_
  refine AW.aload_n dX2_of_0 rfl rfl ?_
  refine AW.iload_n dX2_of_1 rfl rfl ?_
  refine AW.callV (Y := mX2_isHouse) (n := 1) (r_nX2_isHouse _) (by decide) (by decide) rfl gM q1653 q1655 qs92 q141 q1656 dX2_of_2 (by decide +kernel) rfl rfl (Nat.le_of_ble_eq_true rfl) rfl ?_
  refine AW.if_neB (tgt := 10) dX2_of_5 (by decide) rfl (fun _ => ?_) (fun c_ => by first | exact absurd c_ hh | exact absurd hh c_ | exact absurd c_ (not_not_intro hh) | exact Bool.noConfusion (c_.symm.trans hh))
  refine AW.iload_n dX2_of_10 rfl rfl ?_
  refine AW.tableIn (off := 88) (tgt := 99) dX2_of_11 (by rw [show (8 : Int32) = 8 from rfl]; decide) (by rw [show (8 : Int32) = 8 from rfl]; decide) (by rw [show (8 : Int32) = 8 from rfl]; rfl) (by decide) ?_
  refine AW.aload_n dX2_of_99 rfl rfl ?_
  refine AW.iload_n dX2_of_100 rfl rfl ?_
  refine AW.aload_n dX2_of_101 rfl rfl ?_
  refine AW.callV (Y := mX2_date) (n := 0) (r_nX2_date) (by decide) (by decide) rfl gM q1665 q1667 qs95 q141 q1668 dX2_of_102 (by decide +kernel) rfl rfl (Nat.le_of_ble_eq_true rfl) rfl ?_
  refine AW.callV (Y := mX2_besideOn) (n := 2) (r_nX2_besideOn hm.1 _ _) (by decide) (by decide) rfl gM q1696 q1698 qs102 q141 q1699 dX2_of_105 (by decide +kernel) rfl rfl (Nat.le_of_ble_eq_true rfl) rfl ?_
  exact AW.iretE dX2_of_108 rfl rfl rfl rfl
theorem r_X2_of_o {s : Sg} {N : Nat → Int32} {V : Nat → Int64} {B : Nat → Bool} {L : Lw} (hm : MI (s.A 626)) (hL : LawM (s.A 626) (s.A 628) L) (h w : Int32) (hh : (vwM (s.A 626)).hou h = true) (ho : ¬ w = 4 ∧ ¬ w = 5 ∧ ¬ w = 6 ∧ ¬ w = 7 ∧ ¬ w = 8) : Run 3 mX2_of [.ref 625, .int h, .int w] (hp (sn s N V B)) (.inl (some (.int (if inI w 0 3 then gtM (s.A 626) h w else -1)))) (hp (sn s N V B)) := by
  obtain ⟨o4, o5, o6, o7, o8⟩ := ho
  refine Run.of rfl (Nat.le_of_ble_eq_true rfl) rfl ?_
  refine AW.aload_n dX2_of_0 rfl rfl ?_
  refine AW.iload_n dX2_of_1 rfl rfl ?_
  refine AW.callV (Y := mX2_isHouse) (n := 1) (r_nX2_isHouse _) (by decide) (by decide) rfl gM q1653 q1655 qs92 q141 q1656 dX2_of_2 (by decide +kernel) rfl rfl (Nat.le_of_ble_eq_true rfl) rfl ?_
  refine AW.if_neB (tgt := 10) dX2_of_5 (by decide) rfl (fun _ => ?_) (fun c_ => by first | exact absurd c_ hh | exact absurd hh c_ | exact absurd c_ (not_not_intro hh) | exact Bool.noConfusion (c_.symm.trans hh))
  refine AW.iload_n dX2_of_10 rfl rfl ?_
  refine AW.tableOut (tgt := 109) dX2_of_11 (by have q4 : ¬ (w).toInt = 4 := fun q => o4 (Int32.toInt_inj.mp q); have q5 : ¬ (w).toInt = 5 := fun q => o5 (Int32.toInt_inj.mp q); have q6 : ¬ (w).toInt = 6 := fun q => o6 (Int32.toInt_inj.mp q); have q7 : ¬ (w).toInt = 7 := fun q => o7 (Int32.toInt_inj.mp q); have q8 : ¬ (w).toInt = 8 := fun q => o8 (Int32.toInt_inj.mp q); omega) (by decide) ?_
  refine AW.iload_n dX2_of_109 rfl rfl ?_
  refine AW.iconst (v := 0) dX2_of_110 (by decide) rfl ?_
  refine AW.iconst (v := 3) dX2_of_111 (by decide) rfl ?_
  refine AW.callS (Y := mX2_isIn) (n := 3) (r_X2_isIn _ _ _) (by decide) (by decide) q1466 q1467 q141 q1468 dX2_of_112 (by decide +kernel) rfl rfl (Nat.le_of_ble_eq_true rfl) rfl ?_
  refine AW.if_eqB (tgt := 127) dX2_of_115 (by decide) rfl (fun c115 => ?_) (fun c115 => ?_)
  · refine AW.iconst (v := (-1)) dX2_of_127 (by decide) rfl ?_
    exact AW.iretE dX2_of_128 rfl rfl (by first | (rw [if_pos c115]; done) | (rw [if_neg (by rw [c115]; decide)]; done)) rfl
  · refine AW.aload_n dX2_of_118 rfl rfl ?_
    refine AW.iload_n dX2_of_119 rfl rfl ?_
    refine AW.iload_n dX2_of_120 rfl rfl ?_
    refine AW.callV (Y := mX2_get) (n := 2) (r_nX2_get _ _ (in_get hm.1 hh (by have := inI_iff.mp c115; rw [t0] at this; omega) (by have := inI_iff.mp c115; rw [show (3 : Int32).toInt = 3 from rfl] at this; omega))) (by decide) (by decide) rfl gM q1477 q1479 qs63 q141 q1480 dX2_of_121 (by decide +kernel) rfl rfl (Nat.le_of_ble_eq_true rfl) rfl ?_
    refine AW.goto (tgt := 128) dX2_of_124 (by decide) ?_
    exact AW.iretE dX2_of_128 rfl rfl (by first | (rw [if_pos c115]; done) | (rw [if_neg (by rw [c115]; decide)]; done)) rfl
