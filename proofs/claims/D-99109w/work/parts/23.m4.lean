/-! MODEL 4: gossip, alone, seen, copies (printed by tools/m4.py) -/
set_option maxRecDepth 100000
theorem r_X2_spread {s : Sg} (hg : (gwM (s.A 626)).ok) (x : Int32) : Run 2 mX2_spread [.ref 625, .int x] (hp s) (.inl (some (.int ((gwM (s.A 626)).spread x)))) (hp s) := by
  refine Run.of rfl (Nat.le_of_ble_eq_true rfl) rfl ?_
  refine AW.iload_n dX2_spread_0 rfl rfl ?_
  refine AW.istore_n (i := 2) dX2_spread_1 rfl rfl (Nat.le_of_ble_eq_true rfl) rfl rfl ?_
  refine AW.iconst (v := 0) dX2_spread_2 (by decide) rfl ?_
  refine AW.istore_n (i := 3) dX2_spread_3 rfl rfl (Nat.le_of_ble_eq_true rfl) rfl rfl ?_
  refine loopUp (P := fun k => AW 2 mX2_spread (hp s) 4 [some (.ref 625), some (.int (x)), some (.int (orAcc x (fun k => if hasI x ((gwM (s.A 626)).a k) then bit ((gwM (s.A 626)).b k) else 0) k)), some (.int (nI k))] [] (.inl (some (.int ((gwM (s.A 626)).spread x)))) (hp s)) (gwM (s.A 626)).n ?_ ?_ 0 (by first | exact Nat.zero_le _ | omega)
  · refine AW.iload_n dX2_spread_4 rfl rfl ?_
    refine AW.aload_n dX2_spread_5 rfl rfl ?_
    refine AW.get ci2 0 (by decide) q1351 dX2_spread_6 gM rfl rfl ?_
    refine AW.iconst (v := 5) dX2_spread_9 (by decide) rfl ?_
    refine AW.iald dX2_spread_10 g626 (vp_in_iff.mpr (by decide)) (j := 5) (by decide) rfl ?_
    refine AW.icmp_ge (tgt := 56) dX2_spread_11 (by decide) rfl (fun _ => ?_) (fun c_ => by first | exact absurd c_ (loop_end (by have := Gw.n8 hg; omega) (Gw.nN hg)) | exact absurd (loop_end (by have := Gw.n8 hg; omega) (Gw.nN hg)) c_ | exact absurd c_ (not_not_intro (loop_end (by have := Gw.n8 hg; omega) (Gw.nN hg))) | exact Bool.noConfusion (c_.symm.trans (loop_end (by have := Gw.n8 hg; omega) (Gw.nN hg))))
    refine AW.iload_n dX2_spread_56 rfl rfl ?_
    exact AW.iretE dX2_spread_57 rfl rfl rfl rfl
  · intro k hk ihk
    have h8 := Gw.n8 hg
    have e1 := gwM_a hk
    have e2 := gwM_b hk
    refine AW.iload_n dX2_spread_4 rfl rfl ?_
    refine AW.aload_n dX2_spread_5 rfl rfl ?_
    refine AW.get ci2 0 (by decide) q1351 dX2_spread_6 gM rfl rfl ?_
    refine AW.iconst (v := 5) dX2_spread_9 (by decide) rfl ?_
    refine AW.iald dX2_spread_10 g626 (vp_in_iff.mpr (by decide)) (j := 5) (by decide) rfl ?_
    refine AW.icmp_ge (tgt := 56) dX2_spread_11 (by decide) rfl (fun c_ => by first | exact absurd c_ (loop_in hk (by have := Gw.n8 hg; omega) (Gw.nN hg)) | exact absurd (loop_in hk (by have := Gw.n8 hg; omega) (Gw.nN hg)) c_ | exact Bool.noConfusion (c_.symm.trans (loop_in hk (by have := Gw.n8 hg; omega) (Gw.nN hg)))) (fun _ => ?_)
    refine AW.iload_n dX2_spread_14 rfl rfl ?_
    refine AW.aload_n dX2_spread_15 rfl rfl ?_
    refine AW.get ci2 0 (by decide) q1351 dX2_spread_16 gM rfl rfl ?_
    refine AW.bipush (v := 92) dX2_spread_19 (by decide) rfl ?_
    refine AW.iconst (v := 2) dX2_spread_21 (by decide) rfl ?_
    refine AW.iload_n dX2_spread_22 rfl rfl ?_
    refine AW.imul dX2_spread_23 rfl ?_
    refine AW.iadd dX2_spread_24 rfl ?_
    refine AW.iald dX2_spread_25 g626 (in2 92 2 k (by omega) (by decide)) (j := 92 + 2 * k) (at2 92 2 k (by omega)) rfl ?_
    refine AW.callS (Y := mX2_has) (n := 2) (r_X2_has _ _) (by decide) (by decide) q1547 q1548 q141 q1549 dX2_spread_26 (by decide +kernel) rfl rfl (Nat.le_of_ble_eq_true rfl) rfl ?_
    refine AW.if_eqB (tgt := 50) dX2_spread_29 (by decide) rfl (fun c => ?_) (fun c => ?_)
    · refine AW.iinc (v := 1) dX2_spread_50 rfl (by decide) rfl rfl rfl ?_
      refine AW.goto (tgt := 4) dX2_spread_53 (by decide) ?_
      exact AW.ls (by simp [orAcc, nI_succ, e1, e2, c, bit]) ihk
    · refine AW.iload_n dX2_spread_32 rfl rfl ?_
      refine AW.iconst (v := 1) dX2_spread_33 (by decide) rfl ?_
      refine AW.aload_n dX2_spread_34 rfl rfl ?_
      refine AW.get ci2 0 (by decide) q1351 dX2_spread_35 gM rfl rfl ?_
      refine AW.bipush (v := 92) dX2_spread_38 (by decide) rfl ?_
      refine AW.iconst (v := 2) dX2_spread_40 (by decide) rfl ?_
      refine AW.iload_n dX2_spread_41 rfl rfl ?_
      refine AW.imul dX2_spread_42 rfl ?_
      refine AW.iadd dX2_spread_43 rfl ?_
      refine AW.iconst (v := 1) dX2_spread_44 (by decide) rfl ?_
      refine AW.iadd dX2_spread_45 rfl ?_
      refine AW.iald dX2_spread_46 g626 (in3 92 2 k 1 (by omega) (by decide)) (j := 92 + 2 * k + 1) (at3 92 2 k 1 (by omega)) rfl ?_
      refine AW.ishl dX2_spread_47 rfl ?_
      refine AW.ior dX2_spread_48 rfl ?_
      refine AW.istore_n (i := 2) dX2_spread_49 rfl rfl (Nat.le_of_ble_eq_true rfl) rfl rfl ?_
      refine AW.iinc (v := 1) dX2_spread_50 rfl (by decide) rfl rfl rfl ?_
      refine AW.goto (tgt := 4) dX2_spread_53 (by decide) ?_
      exact AW.ls (by simp [orAcc, nI_succ, e1, e2, c, bit]) ihk
theorem r_X2_knows {s : Sg} (hg : (gwM (s.A 626)).ok) (h e : Int32) : Run 3 mX2_knows [.ref 625, .int h, .int e] (hp s) (.inl (some (.int ((gwM (s.A 626)).knows (vwM (s.A 626)) 8 h e)))) (hp s) := by
  refine Run.of rfl (Nat.le_of_ble_eq_true rfl) rfl ?_
  refine AW.aload_n dX2_knows_0 rfl rfl ?_
  refine AW.iload_n dX2_knows_1 rfl rfl ?_
  refine AW.callV (Y := mX2_isHouse) (n := 1) (r_X2_isHouse _) (by decide) (by decide) rfl gM q1653 q1655 qs92 q141 q1656 dX2_knows_2 (by decide +kernel) rfl rfl (Nat.le_of_ble_eq_true rfl) rfl ?_
  refine AW.if_eqB (tgt := 16) dX2_knows_5 (by decide) rfl (fun c5 => ?_) (fun c5 => ?_)
  · refine AW.iconst (v := (-1)) dX2_knows_16 (by decide) rfl ?_
    exact AW.iretE dX2_knows_17 rfl rfl (by simp [Gw.knows, *]) rfl
  · refine AW.aload_n dX2_knows_8 rfl rfl ?_
    refine AW.iload_n dX2_knows_9 rfl rfl ?_
    refine AW.callV (Y := mX2_isHouse) (n := 1) (r_X2_isHouse _) (by decide) (by decide) rfl gM q1653 q1655 qs92 q141 q1656 dX2_knows_10 (by decide +kernel) rfl rfl (Nat.le_of_ble_eq_true rfl) rfl ?_
    refine AW.if_neB (tgt := 18) dX2_knows_13 (by decide) rfl (fun c13 => ?_) (fun c13 => ?_)
    · refine AW.iconst (v := 1) dX2_knows_18 (by decide) rfl ?_
      refine AW.iload_n dX2_knows_19 rfl rfl ?_
      refine AW.ishl dX2_knows_20 rfl ?_
      refine AW.istore_n (i := 3) dX2_knows_21 rfl rfl (Nat.le_of_ble_eq_true rfl) rfl rfl ?_
      refine AW.iconst (v := 0) dX2_knows_22 (by decide) rfl ?_
      refine AW.istore dX2_knows_23 rfl (Nat.le_of_ble_eq_true rfl) rfl rfl ?_
      refine AW.oo (o2 := .inl (some (.int (srch (fun k => hasI (iter (gwM (s.A 626)).spread k (bit e)) h) nI (-1) (8 - 0) 0)))) (by unfold Gw.knows; rw [c5, c13]; rfl) ?_
      refine loopUp (P := fun k => AW 3 mX2_knows (hp s) 25 [some (.ref 625), some (.int (h)), some (.int (e)), some (.int (iter (gwM (s.A 626)).spread k (bit e))), some (.int (nI k))] [] (.inl (some (.int (srch (fun k => hasI (iter (gwM (s.A 626)).spread k (bit e)) h) nI (-1) (8 - k) k)))) (hp s)) 8 ?_ ?_ 0 (by first | exact Nat.zero_le _ | omega)
      · refine AW.iload dX2_knows_25 rfl rfl ?_
        refine AW.bipush (v := 8) dX2_knows_27 (by decide) rfl ?_
        refine AW.icmp_ge (tgt := 55) dX2_knows_29 (by decide) rfl (fun _ => ?_) (fun c_ => by first | exact absurd c_ (by decide) | exact absurd (by decide) c_ | exact absurd c_ (not_not_intro (by decide)) | exact Bool.noConfusion (c_.symm.trans (by decide)))
        refine AW.iconst (v := (-1)) dX2_knows_55 (by decide) rfl ?_
        exact AW.iretE dX2_knows_56 rfl rfl (srch_e.symm) rfl
      · intro k hk ihk
        refine AW.iload dX2_knows_25 rfl rfl ?_
        refine AW.bipush (v := 8) dX2_knows_27 (by decide) rfl ?_
        refine AW.icmp_ge (tgt := 55) dX2_knows_29 (by decide) rfl (fun c_ => by first | exact absurd c_ (nle_lit 8 rfl hk (by decide)) | exact absurd (nle_lit 8 rfl hk (by decide)) c_ | exact Bool.noConfusion (c_.symm.trans (nle_lit 8 rfl hk (by decide)))) (fun _ => ?_)
        refine AW.iload_n dX2_knows_32 rfl rfl ?_
        refine AW.iload_n dX2_knows_33 rfl rfl ?_
        refine AW.callS (Y := mX2_has) (n := 2) (r_X2_has _ _) (by decide) (by decide) q1547 q1548 q141 q1549 dX2_knows_34 (by decide +kernel) rfl rfl (Nat.le_of_ble_eq_true rfl) rfl ?_
        refine AW.if_eqB (tgt := 43) dX2_knows_37 (by decide) rfl (fun c => ?_) (fun c => ?_)
        · refine AW.aload_n dX2_knows_43 rfl rfl ?_
          refine AW.iload_n dX2_knows_44 rfl rfl ?_
          refine AW.callV (Y := mX2_spread) (n := 1) (r_X2_spread hg _) (by decide) (by decide) rfl gM q1990 q1992 qs135 q141 q1993 dX2_knows_45 (by decide +kernel) rfl rfl (Nat.le_of_ble_eq_true rfl) rfl ?_
          refine AW.istore_n (i := 3) dX2_knows_48 rfl rfl (Nat.le_of_ble_eq_true rfl) rfl rfl ?_
          refine AW.iinc (v := 1) dX2_knows_49 rfl (by decide) rfl rfl rfl ?_
          refine AW.goto (tgt := 25) dX2_knows_52 (by decide) ?_
          exact AW.ls (by rw [nI_succ]; rfl) (AW.oo (by rw [srch_f hk c]) ihk)
        · refine AW.iload dX2_knows_40 rfl rfl ?_
          exact AW.iretE dX2_knows_42 rfl rfl (srch_t hk c).symm rfl
    · refine AW.iconst (v := (-1)) dX2_knows_16 (by decide) rfl ?_
      exact AW.iretE dX2_knows_17 rfl rfl (by simp [Gw.knows, *]) rfl
theorem r_X2_never {s : Sg} (hg : (gwM (s.A 626)).ok) (h : Int32) : Run 3 mX2_never [.ref 625, .int h] (hp s) (.inl (some (.int ((gwM (s.A 626)).never (vwM (s.A 626)) 8 h)))) (hp s) := by
  refine Run.of rfl (Nat.le_of_ble_eq_true rfl) rfl ?_
  refine AW.aload_n dX2_never_0 rfl rfl ?_
  refine AW.iload_n dX2_never_1 rfl rfl ?_
  refine AW.callV (Y := mX2_isHouse) (n := 1) (r_X2_isHouse _) (by decide) (by decide) rfl gM q1653 q1655 qs92 q141 q1656 dX2_never_2 (by decide +kernel) rfl rfl (Nat.le_of_ble_eq_true rfl) rfl ?_
  refine AW.if_neB (tgt := 10) dX2_never_5 (by decide) rfl (fun c5 => ?_) (fun c5 => ?_)
  · refine AW.iconst (v := 1) dX2_never_10 (by decide) rfl ?_
    refine AW.iload_n dX2_never_11 rfl rfl ?_
    refine AW.ishl dX2_never_12 rfl ?_
    refine AW.istore_n (i := 2) dX2_never_13 rfl rfl (Nat.le_of_ble_eq_true rfl) rfl rfl ?_
    refine AW.iconst (v := 0) dX2_never_14 (by decide) rfl ?_
    refine AW.istore_n (i := 3) dX2_never_15 rfl rfl (Nat.le_of_ble_eq_true rfl) rfl rfl ?_
    refine loopUp (P := fun k => AW 3 mX2_never (hp s) 16 [some (.ref 625), some (.int (h)), some (.int (iter (gwM (s.A 626)).spread k (bit h))), some (.int (nI k))] [] (.inl (some (.int ((gwM (s.A 626)).never (vwM (s.A 626)) 8 h)))) (hp s)) 8 ?_ ?_ 0 (by first | exact Nat.zero_le _ | omega)
    · refine AW.iload_n dX2_never_16 rfl rfl ?_
      refine AW.bipush (v := 8) dX2_never_17 (by decide) rfl ?_
      refine AW.icmp_ge (tgt := 34) dX2_never_19 (by decide) rfl (fun _ => ?_) (fun c_ => by first | exact absurd c_ (by decide) | exact absurd (by decide) c_ | exact absurd c_ (not_not_intro (by decide)) | exact Bool.noConfusion (c_.symm.trans (by decide)))
      refine AW.iconst (v := 1) dX2_never_34 (by decide) rfl ?_
      refine AW.aload_n dX2_never_35 rfl rfl ?_
      refine AW.get ci2 0 (by decide) q1351 dX2_never_36 gM rfl rfl ?_
      refine AW.iconst (v := 0) dX2_never_39 (by decide) rfl ?_
      refine AW.iald dX2_never_40 g626 (vp_in_iff.mpr (by decide)) (j := 0) (by decide) rfl ?_
      refine AW.ishl dX2_never_41 rfl ?_
      refine AW.iconst (v := 1) dX2_never_42 (by decide) rfl ?_
      refine AW.isub dX2_never_43 rfl ?_
      refine AW.iload_n dX2_never_44 rfl rfl ?_
      refine AW.iconst (v := (-1)) dX2_never_45 (by decide) rfl ?_
      refine AW.ixor dX2_never_46 rfl ?_
      refine AW.iand dX2_never_47 rfl ?_
      exact AW.iretE dX2_never_48 rfl rfl (by unfold Gw.never; rw [c5]; rfl) rfl
    · intro k hk ihk
      refine AW.iload_n dX2_never_16 rfl rfl ?_
      refine AW.bipush (v := 8) dX2_never_17 (by decide) rfl ?_
      refine AW.icmp_ge (tgt := 34) dX2_never_19 (by decide) rfl (fun c_ => by first | exact absurd c_ (nle_lit 8 rfl hk (by decide)) | exact absurd (nle_lit 8 rfl hk (by decide)) c_ | exact Bool.noConfusion (c_.symm.trans (nle_lit 8 rfl hk (by decide)))) (fun _ => ?_)
      refine AW.aload_n dX2_never_22 rfl rfl ?_
      refine AW.iload_n dX2_never_23 rfl rfl ?_
      refine AW.callV (Y := mX2_spread) (n := 1) (r_X2_spread hg _) (by decide) (by decide) rfl gM q1990 q1992 qs135 q141 q1993 dX2_never_24 (by decide +kernel) rfl rfl (Nat.le_of_ble_eq_true rfl) rfl ?_
      refine AW.istore_n (i := 2) dX2_never_27 rfl rfl (Nat.le_of_ble_eq_true rfl) rfl rfl ?_
      refine AW.iinc (v := 1) dX2_never_28 rfl (by decide) rfl rfl rfl ?_
      refine AW.goto (tgt := 16) dX2_never_31 (by decide) ?_
      exact AW.ls (by rw [nI_succ]; rfl) ihk
  · refine AW.iconst (v := (-1)) dX2_never_8 (by decide) rfl ?_
    exact AW.iretE dX2_never_9 rfl rfl (by simp [Gw.never, *]) rfl
theorem r_X2_gossip_0 {s : Sg} (e : Int32) : Run 1 mX2_gossip [.ref 625, .int (-1), .int e] (hp s) (.inl (some (.int (0)))) (hp (s.setA 626 (up (s.A 626) 5 0))) := by
  refine Run.of rfl (Nat.le_of_ble_eq_true rfl) rfl ?_
  refine AW.iload_n dX2_gossip_0 rfl rfl ?_
  refine AW.iconst (v := (-1)) dX2_gossip_1 (by decide) rfl ?_
  refine AW.icmp_ne (tgt := 14) dX2_gossip_2 (by decide) rfl (fun c_ => by first | exact absurd c_ (by decide) | exact absurd (by decide) c_ | exact Bool.noConfusion (c_.symm.trans (by decide))) (fun _ => ?_)
  refine AW.aload_n dX2_gossip_5 rfl rfl ?_
  refine AW.get ci2 0 (by decide) q1351 dX2_gossip_6 gM rfl rfl ?_
  refine AW.iconst (v := 5) dX2_gossip_9 (by decide) rfl ?_
  refine AW.iconst (v := 0) dX2_gossip_10 (by decide) rfl ?_
  refine AW.iast dX2_gossip_11 (by decide) g626 (vp_in_iff.mpr (by decide)) (j := 5) (by decide) s626 rfl ?_
  refine AW.iconst (v := 0) dX2_gossip_12 (by decide) rfl ?_
  exact AW.iretE dX2_gossip_13 rfl rfl rfl rfl
theorem r_X2_gossip_f {s : Sg} (h e : Int32) (h0 : ¬ h = -1) (hb : ¬ ((vwM (s.A 626)).hou h = true ∧ (vwM (s.A 626)).hou e = true ∧ ¬ h = e ∧ ¬ (s.A 626) 5 = 8)) : Run 3 mX2_gossip [.ref 625, .int h, .int e] (hp s) (.inl (some (.int (-2)))) (hp s) := by
  refine Run.of rfl (Nat.le_of_ble_eq_true rfl) rfl ?_
  refine AW.iload_n dX2_gossip_0 rfl rfl ?_
  refine AW.iconst (v := (-1)) dX2_gossip_1 (by decide) rfl ?_
  refine AW.icmp_ne (tgt := 14) dX2_gossip_2 (by decide) rfl (fun _ => ?_) (fun c_ => by first | exact absurd c_ h0 | exact absurd h0 c_ | exact absurd c_ (not_not_intro h0) | exact Bool.noConfusion (c_.symm.trans h0))
  refine AW.aload_n dX2_gossip_14 rfl rfl ?_
  refine AW.iload_n dX2_gossip_15 rfl rfl ?_
  refine AW.callV (Y := mX2_isHouse) (n := 1) (r_X2_isHouse _) (by decide) (by decide) rfl gM q1653 q1655 qs92 q141 q1656 dX2_gossip_16 (by decide +kernel) rfl rfl (Nat.le_of_ble_eq_true rfl) rfl ?_
  refine AW.if_eqB (tgt := 46) dX2_gossip_19 (by decide) rfl (fun c1 => ?_) (fun c1 => ?_)
  · refine AW.bipush (v := (-2)) dX2_gossip_46 (by decide) rfl ?_
    exact AW.iretE dX2_gossip_48 rfl rfl rfl rfl
  · refine AW.aload_n dX2_gossip_22 rfl rfl ?_
    refine AW.iload_n dX2_gossip_23 rfl rfl ?_
    refine AW.callV (Y := mX2_isHouse) (n := 1) (r_X2_isHouse _) (by decide) (by decide) rfl gM q1653 q1655 qs92 q141 q1656 dX2_gossip_24 (by decide +kernel) rfl rfl (Nat.le_of_ble_eq_true rfl) rfl ?_
    refine AW.if_eqB (tgt := 46) dX2_gossip_27 (by decide) rfl (fun c2 => ?_) (fun c2 => ?_)
    · refine AW.bipush (v := (-2)) dX2_gossip_46 (by decide) rfl ?_
      exact AW.iretE dX2_gossip_48 rfl rfl rfl rfl
    · refine AW.iload_n dX2_gossip_30 rfl rfl ?_
      refine AW.iload_n dX2_gossip_31 rfl rfl ?_
      refine AW.icmp_eq (tgt := 46) dX2_gossip_32 (by decide) rfl (fun c3 => ?_) (fun c3 => ?_)
      · refine AW.bipush (v := (-2)) dX2_gossip_46 (by decide) rfl ?_
        exact AW.iretE dX2_gossip_48 rfl rfl rfl rfl
      · refine AW.aload_n dX2_gossip_35 rfl rfl ?_
        refine AW.get ci2 0 (by decide) q1351 dX2_gossip_36 gM rfl rfl ?_
        refine AW.iconst (v := 5) dX2_gossip_39 (by decide) rfl ?_
        refine AW.iald dX2_gossip_40 g626 (vp_in_iff.mpr (by decide)) (j := 5) (by decide) rfl ?_
        refine AW.bipush (v := 8) dX2_gossip_41 (by decide) rfl ?_
        refine AW.icmp_ne (tgt := 49) dX2_gossip_43 (by decide) rfl (fun c4 => ?_) (fun c4 => ?_)
        · exact absurd ⟨c1, c2, c3, c4⟩ hb
        · refine AW.bipush (v := (-2)) dX2_gossip_46 (by decide) rfl ?_
          exact AW.iretE dX2_gossip_48 rfl rfl rfl rfl
theorem r_X2_gossip_t {s : Sg} (h e : Int32) (c : Nat) (h0 : ¬ h = -1) (h1 : (vwM (s.A 626)).hou h = true) (h2 : (vwM (s.A 626)).hou e = true) (h3 : ¬ h = e) (h4 : (s.A 626) 5 = nI c) (h5 : c < 8) : Run 3 mX2_gossip [.ref 625, .int h, .int e] (hp s) (.inl (some (.int (nI c + 1)))) (hp (s.setA 626 (up (up (up (s.A 626) (92 + 2 * c) h) (92 + 2 * c + 1) e) 5 (nI c + 1)))) := by
  have h8 : ¬ s.A 626 5 = 8 := by rw [h4]; intro q; have := nI_t (k := c) (by omega); rw [q] at this; have q8 : (8 : Int32).toInt = 8 := rfl; omega
  have n1 : (5 : Nat) ≠ 92 + 2 * c := by omega
  have n2 : (5 : Nat) ≠ 92 + 2 * c + 1 := by omega
  refine Run.of rfl (Nat.le_of_ble_eq_true rfl) rfl ?_
  refine AW.iload_n dX2_gossip_0 rfl rfl ?_
  refine AW.iconst (v := (-1)) dX2_gossip_1 (by decide) rfl ?_
  refine AW.icmp_ne (tgt := 14) dX2_gossip_2 (by decide) rfl (fun _ => ?_) (fun c_ => by first | exact absurd c_ h0 | exact absurd h0 c_ | exact absurd c_ (not_not_intro h0) | exact Bool.noConfusion (c_.symm.trans h0))
  refine AW.aload_n dX2_gossip_14 rfl rfl ?_
  refine AW.iload_n dX2_gossip_15 rfl rfl ?_
  refine AW.callV (Y := mX2_isHouse) (n := 1) (r_X2_isHouse _) (by decide) (by decide) rfl gM q1653 q1655 qs92 q141 q1656 dX2_gossip_16 (by decide +kernel) rfl rfl (Nat.le_of_ble_eq_true rfl) rfl ?_
  refine AW.if_eqB (tgt := 46) dX2_gossip_19 (by decide) rfl (fun c_ => by first | exact absurd c_ h1 | exact absurd h1 c_ | exact Bool.noConfusion (c_.symm.trans h1)) (fun _ => ?_)
  refine AW.aload_n dX2_gossip_22 rfl rfl ?_
  refine AW.iload_n dX2_gossip_23 rfl rfl ?_
  refine AW.callV (Y := mX2_isHouse) (n := 1) (r_X2_isHouse _) (by decide) (by decide) rfl gM q1653 q1655 qs92 q141 q1656 dX2_gossip_24 (by decide +kernel) rfl rfl (Nat.le_of_ble_eq_true rfl) rfl ?_
  refine AW.if_eqB (tgt := 46) dX2_gossip_27 (by decide) rfl (fun c_ => by first | exact absurd c_ h2 | exact absurd h2 c_ | exact Bool.noConfusion (c_.symm.trans h2)) (fun _ => ?_)
  refine AW.iload_n dX2_gossip_30 rfl rfl ?_
  refine AW.iload_n dX2_gossip_31 rfl rfl ?_
  refine AW.icmp_eq (tgt := 46) dX2_gossip_32 (by decide) rfl (fun c_ => by first | exact absurd c_ h3 | exact absurd h3 c_ | exact Bool.noConfusion (c_.symm.trans h3)) (fun _ => ?_)
  refine AW.aload_n dX2_gossip_35 rfl rfl ?_
  refine AW.get ci2 0 (by decide) q1351 dX2_gossip_36 gM rfl rfl ?_
  refine AW.iconst (v := 5) dX2_gossip_39 (by decide) rfl ?_
  refine AW.iald dX2_gossip_40 g626 (vp_in_iff.mpr (by decide)) (j := 5) (by decide) rfl ?_
  refine AW.bipush (v := 8) dX2_gossip_41 (by decide) rfl ?_
  refine AW.icmp_ne (tgt := 49) dX2_gossip_43 (by decide) rfl (fun _ => ?_) (fun c_ => by first | exact absurd c_ h8 | exact absurd h8 c_ | exact absurd c_ (not_not_intro h8) | exact Bool.noConfusion (c_.symm.trans h8))
  refine AW.aload_n dX2_gossip_49 rfl rfl ?_
  refine AW.get ci2 0 (by decide) q1351 dX2_gossip_50 gM rfl rfl ?_
  refine AW.bipush (v := 92) dX2_gossip_53 (by decide) rfl ?_
  refine AW.iconst (v := 2) dX2_gossip_55 (by decide) rfl ?_
  refine AW.aload_n dX2_gossip_56 rfl rfl ?_
  refine AW.get ci2 0 (by decide) q1351 dX2_gossip_57 gM rfl rfl ?_
  refine AW.iconst (v := 5) dX2_gossip_60 (by decide) rfl ?_
  refine AW.iald dX2_gossip_61 g626 (vp_in_iff.mpr (by decide)) (j := 5) (by decide) rfl ?_
  refine AW.imul dX2_gossip_62 rfl ?_
  refine AW.iadd dX2_gossip_63 rfl ?_
  refine AW.iload_n dX2_gossip_64 rfl rfl ?_
  refine AW.iast dX2_gossip_65 (by decide) g626 (by rw [h4]; exact in2 92 2 c (by omega) (by decide)) (j := 92 + 2 * c) (by rw [h4]; exact at2 92 2 c (by omega)) s626 rfl ?_
  refine AW.aload_n dX2_gossip_66 rfl rfl ?_
  refine AW.get ci2 0 (by decide) q1351 dX2_gossip_67 gM rfl rfl ?_
  refine AW.bipush (v := 92) dX2_gossip_70 (by decide) rfl ?_
  refine AW.iconst (v := 2) dX2_gossip_72 (by decide) rfl ?_
  refine AW.aload_n dX2_gossip_73 rfl rfl ?_
  refine AW.get ci2 0 (by decide) q1351 dX2_gossip_74 gM rfl rfl ?_
  refine AW.iconst (v := 5) dX2_gossip_77 (by decide) rfl ?_
  refine AW.iald dX2_gossip_78 g626 (vp_in_iff.mpr (by decide)) (j := 5) (by decide) rfl ?_
  refine AW.imul dX2_gossip_79 rfl ?_
  refine AW.iadd dX2_gossip_80 rfl ?_
  refine AW.iconst (v := 1) dX2_gossip_81 (by decide) rfl ?_
  refine AW.iadd dX2_gossip_82 rfl ?_
  refine AW.iload_n dX2_gossip_83 rfl rfl ?_
  refine AW.iast dX2_gossip_84 (by decide) g626 (by rw [setA_at, up_ne (by omega), h4]; exact in3 92 2 c 1 (by omega) (by decide)) (j := 92 + 2 * c + 1) (by rw [setA_at, up_ne (by omega), h4]; exact at3 92 2 c 1 (by omega)) s626 rfl ?_
  refine AW.aload_n dX2_gossip_85 rfl rfl ?_
  refine AW.get ci2 0 (by decide) q1351 dX2_gossip_86 gM rfl rfl ?_
  refine AW.iconst (v := 5) dX2_gossip_89 (by decide) rfl ?_
  refine AW.dup2 dX2_gossip_90 rfl rfl rfl ?_
  refine AW.iald dX2_gossip_91 g626 (vp_in_iff.mpr (by decide)) (j := 5) (by decide) rfl ?_
  refine AW.iconst (v := 1) dX2_gossip_92 (by decide) rfl ?_
  refine AW.iadd dX2_gossip_93 rfl ?_
  refine AW.iast dX2_gossip_94 (by decide) g626 (vp_in_iff.mpr (by decide)) (j := 5) (by decide) s626 rfl ?_
  refine AW.aload_n dX2_gossip_95 rfl rfl ?_
  refine AW.get ci2 0 (by decide) q1351 dX2_gossip_96 gM rfl rfl ?_
  refine AW.iconst (v := 5) dX2_gossip_99 (by decide) rfl ?_
  refine AW.iald dX2_gossip_100 g626 (vp_in_iff.mpr (by decide)) (j := 5) (by decide) rfl ?_
  exact AW.iretE dX2_gossip_101 rfl rfl (by simp [setA_at, up_eq, up_ne n1, up_ne n2, h4]) (by simp [setA_setA, setA_at, up_eq, up_ne n1, up_ne n2, h4])
theorem r_X2_alone {s : Sg} (hn : (vwM (s.A 626)).ok) : Run 5 mX2_alone [.ref 625] (hp s) (.inl (some (.int ((vwM (s.A 626)).alone)))) (hp s) := by
  refine Run.of rfl (Nat.le_of_ble_eq_true rfl) rfl ?_
  refine AW.iconst (v := 0) dX2_alone_0 (by decide) rfl ?_
  refine AW.istore_n (i := 1) dX2_alone_1 rfl rfl (Nat.le_of_ble_eq_true rfl) rfl rfl ?_
  refine AW.iconst (v := 0) dX2_alone_2 (by decide) rfl ?_
  refine AW.istore_n (i := 2) dX2_alone_3 rfl rfl (Nat.le_of_ble_eq_true rfl) rfl rfl ?_
  refine loopUp (P := fun k => AW 5 mX2_alone (hp s) 4 [some (.ref 625), some (.int (orUp (fun k => if (vwM (s.A 626)).aloneP k (vwM (s.A 626)).n then bit (nI k) else 0) k)), some (.int (nI k)), none, none] [] (.inl (some (.int ((vwM (s.A 626)).alone)))) (hp s)) (vwM (s.A 626)).n ?_ ?_ 0 (by first | exact Nat.zero_le _ | omega)
  · refine AW.iload_n dX2_alone_4 rfl rfl ?_
    refine AW.aload_n dX2_alone_5 rfl rfl ?_
    refine AW.get ci2 0 (by decide) q1351 dX2_alone_6 gM rfl rfl ?_
    refine AW.iconst (v := 0) dX2_alone_9 (by decide) rfl ?_
    refine AW.iald dX2_alone_10 g626 (vp_in_iff.mpr (by decide)) (j := 0) (by decide) rfl ?_
    refine AW.icmp_ge (tgt := 102) dX2_alone_11 (by decide) rfl (fun _ => ?_) (fun c_ => by first | exact absurd c_ (loop_end (by have := Vw.n7 hn; omega) (Vw.nN hn)) | exact absurd (loop_end (by have := Vw.n7 hn; omega) (Vw.nN hn)) c_ | exact absurd c_ (not_not_intro (loop_end (by have := Vw.n7 hn; omega) (Vw.nN hn))) | exact Bool.noConfusion (c_.symm.trans (loop_end (by have := Vw.n7 hn; omega) (Vw.nN hn))))
    refine AW.iload_n dX2_alone_102 rfl rfl ?_
    exact AW.iretE dX2_alone_103 rfl rfl rfl rfl
  · intro k hk ihk
    have e0 := vwM_sh (Vw.hou_k hn hk)
    refine AW.iload_n dX2_alone_4 rfl rfl ?_
    refine AW.aload_n dX2_alone_5 rfl rfl ?_
    refine AW.get ci2 0 (by decide) q1351 dX2_alone_6 gM rfl rfl ?_
    refine AW.iconst (v := 0) dX2_alone_9 (by decide) rfl ?_
    refine AW.iald dX2_alone_10 g626 (vp_in_iff.mpr (by decide)) (j := 0) (by decide) rfl ?_
    refine AW.icmp_ge (tgt := 102) dX2_alone_11 (by decide) rfl (fun c_ => by first | exact absurd c_ (loop_in hk (by have := Vw.n7 hn; omega) (Vw.nN hn)) | exact absurd (loop_in hk (by have := Vw.n7 hn; omega) (Vw.nN hn)) c_ | exact Bool.noConfusion (c_.symm.trans (loop_in hk (by have := Vw.n7 hn; omega) (Vw.nN hn)))) (fun _ => ?_)
    refine AW.aload_n dX2_alone_14 rfl rfl ?_
    refine AW.iload_n dX2_alone_15 rfl rfl ?_
    refine AW.callV (Y := mX2_isHere) (n := 1) (r_X2_isHere hn _) (by decide) (by decide) rfl gM q1649 q1651 qs91 q141 q1652 dX2_alone_16 (by decide +kernel) rfl rfl (Nat.le_of_ble_eq_true rfl) rfl ?_
    refine AW.istore_n (i := 3) dX2_alone_19 rfl rfl (Nat.le_of_ble_eq_true rfl) rfl rfl ?_
    refine AW.iconst (v := 0) dX2_alone_20 (by decide) rfl ?_
    refine AW.istore dX2_alone_21 rfl (Nat.le_of_ble_eq_true rfl) rfl rfl ?_
    refine AW.ls (ls' := [some (.ref 625), some (.int (orUp (fun k => if (vwM (s.A 626)).aloneP k (vwM (s.A 626)).n then bit (nI k) else 0) k)), some (.int (nI k)), some (.int (b2i ((vwM (s.A 626)).aloneP k 0))), some (.int (nI 0))]) (by show [_, _, _, _, _] = [_, _, _, _, _]; simp [Vw.aloneP, allUp, nI_0]) ?_
    refine loopUp (P := fun e => AW 5 mX2_alone (hp s) 23 [some (.ref 625), some (.int (orUp (fun k => if (vwM (s.A 626)).aloneP k (vwM (s.A 626)).n then bit (nI k) else 0) k)), some (.int (nI k)), some (.int (b2i ((vwM (s.A 626)).aloneP k e))), some (.int (nI e))] [] (.inl (some (.int ((vwM (s.A 626)).alone)))) (hp s)) (vwM (s.A 626)).n ?_ ?_ 0 (by first | exact Nat.zero_le _ | omega)
    · refine AW.iload dX2_alone_23 rfl rfl ?_
      refine AW.aload_n dX2_alone_25 rfl rfl ?_
      refine AW.get ci2 0 (by decide) q1351 dX2_alone_26 gM rfl rfl ?_
      refine AW.iconst (v := 0) dX2_alone_29 (by decide) rfl ?_
      refine AW.iald dX2_alone_30 g626 (vp_in_iff.mpr (by decide)) (j := 0) (by decide) rfl ?_
      refine AW.icmp_ge (tgt := 82) dX2_alone_31 (by decide) rfl (fun _ => ?_) (fun c_ => by first | exact absurd c_ (loop_end (by have := Vw.n7 hn; omega) (Vw.nN hn)) | exact absurd (loop_end (by have := Vw.n7 hn; omega) (Vw.nN hn)) c_ | exact absurd c_ (not_not_intro (loop_end (by have := Vw.n7 hn; omega) (Vw.nN hn))) | exact Bool.noConfusion (c_.symm.trans (loop_end (by have := Vw.n7 hn; omega) (Vw.nN hn))))
      refine AW.iload_n dX2_alone_82 rfl rfl ?_
      refine AW.iload_n dX2_alone_83 rfl rfl ?_
      refine AW.if_eqB (tgt := 93) dX2_alone_84 (by decide) rfl (fun c => ?_) (fun c => ?_)
      · refine AW.iconst (v := 0) dX2_alone_93 (by decide) rfl ?_
        refine AW.ior dX2_alone_94 rfl ?_
        refine AW.istore_n (i := 1) dX2_alone_95 rfl rfl (Nat.le_of_ble_eq_true rfl) rfl rfl ?_
        refine AW.iinc (v := 1) dX2_alone_96 rfl (by decide) rfl rfl rfl ?_
        refine AW.goto (tgt := 4) dX2_alone_99 (by decide) ?_
        exact AW.fg 3 rfl (AW.fg 4 rfl (AW.ls (by simp [orUp, nI_succ, c, bit]) ihk))
      · refine AW.iconst (v := 1) dX2_alone_87 (by decide) rfl ?_
        refine AW.iload_n dX2_alone_88 rfl rfl ?_
        refine AW.ishl dX2_alone_89 rfl ?_
        refine AW.goto (tgt := 94) dX2_alone_90 (by decide) ?_
        refine AW.ior dX2_alone_94 rfl ?_
        refine AW.istore_n (i := 1) dX2_alone_95 rfl rfl (Nat.le_of_ble_eq_true rfl) rfl rfl ?_
        refine AW.iinc (v := 1) dX2_alone_96 rfl (by decide) rfl rfl rfl ?_
        refine AW.goto (tgt := 4) dX2_alone_99 (by decide) ?_
        exact AW.fg 3 rfl (AW.fg 4 rfl (AW.ls (by simp [orUp, nI_succ, c, bit]) ihk))
    · intro e he ihe
      have e1 := vwM_sh (Vw.hou_k hn he)
      refine AW.iload dX2_alone_23 rfl rfl ?_
      refine AW.aload_n dX2_alone_25 rfl rfl ?_
      refine AW.get ci2 0 (by decide) q1351 dX2_alone_26 gM rfl rfl ?_
      refine AW.iconst (v := 0) dX2_alone_29 (by decide) rfl ?_
      refine AW.iald dX2_alone_30 g626 (vp_in_iff.mpr (by decide)) (j := 0) (by decide) rfl ?_
      refine AW.icmp_ge (tgt := 82) dX2_alone_31 (by decide) rfl (fun c_ => by first | exact absurd c_ (loop_in he (by have := Vw.n7 hn; omega) (Vw.nN hn)) | exact absurd (loop_in he (by have := Vw.n7 hn; omega) (Vw.nN hn)) c_ | exact Bool.noConfusion (c_.symm.trans (loop_in he (by have := Vw.n7 hn; omega) (Vw.nN hn)))) (fun _ => ?_)
      refine AW.iload_n dX2_alone_34 rfl rfl ?_
      refine AW.if_eqB (tgt := 74) dX2_alone_35 (by decide) rfl (fun c1 => ?_) (fun c1 => ?_)
      · refine AW.iconst (v := 0) dX2_alone_74 (by decide) rfl ?_
        refine AW.istore_n (i := 3) dX2_alone_75 rfl rfl (Nat.le_of_ble_eq_true rfl) rfl rfl ?_
        refine AW.iinc (v := 1) dX2_alone_76 rfl (by decide) rfl rfl rfl ?_
        refine AW.goto (tgt := 23) dX2_alone_79 (by decide) ?_
        exact AW.ls (by simp [aloneP_s, nI_succ, b2i, *]) ihe
      · refine AW.iload dX2_alone_38 rfl rfl ?_
        refine AW.iload_n dX2_alone_40 rfl rfl ?_
        refine AW.icmp_eq (tgt := 70) dX2_alone_41 (by decide) rfl (fun c2 => ?_) (fun c2 => ?_)
        · refine AW.iconst (v := 1) dX2_alone_70 (by decide) rfl ?_
          refine AW.goto (tgt := 75) dX2_alone_71 (by decide) ?_
          refine AW.istore_n (i := 3) dX2_alone_75 rfl rfl (Nat.le_of_ble_eq_true rfl) rfl rfl ?_
          refine AW.iinc (v := 1) dX2_alone_76 rfl (by decide) rfl rfl rfl ?_
          refine AW.goto (tgt := 23) dX2_alone_79 (by decide) ?_
          exact AW.ls (by simp [aloneP_s, nI_succ, b2i, *]) ihe
        · refine AW.aload_n dX2_alone_44 rfl rfl ?_
          refine AW.iload dX2_alone_45 rfl rfl ?_
          refine AW.callV (Y := mX2_isHere) (n := 1) (r_X2_isHere hn _) (by decide) (by decide) rfl gM q1649 q1651 qs91 q141 q1652 dX2_alone_47 (by decide +kernel) rfl rfl (Nat.le_of_ble_eq_true rfl) rfl ?_
          refine AW.if_eqB (tgt := 70) dX2_alone_50 (by decide) rfl (fun c3 => ?_) (fun c3 => ?_)
          · refine AW.iconst (v := 1) dX2_alone_70 (by decide) rfl ?_
            refine AW.goto (tgt := 75) dX2_alone_71 (by decide) ?_
            refine AW.istore_n (i := 3) dX2_alone_75 rfl rfl (Nat.le_of_ble_eq_true rfl) rfl rfl ?_
            refine AW.iinc (v := 1) dX2_alone_76 rfl (by decide) rfl rfl rfl ?_
            refine AW.goto (tgt := 23) dX2_alone_79 (by decide) ?_
            exact AW.ls (by simp [aloneP_s, nI_succ, b2i, *]) ihe
          · refine AW.aload_n dX2_alone_53 rfl rfl ?_
            refine AW.iload_n dX2_alone_54 rfl rfl ?_
            refine AW.iconst (v := 0) dX2_alone_55 (by decide) rfl ?_
            refine AW.callV (Y := mX2_get) (n := 2) (r_X2_get _ _ (in_get hn (Vw.hou_k hn hk) (by decide) (by decide))) (by decide) (by decide) rfl gM q1477 q1479 qs63 q141 q1480 dX2_alone_56 (by decide +kernel) rfl rfl (Nat.le_of_ble_eq_true rfl) rfl ?_
            refine AW.aload_n dX2_alone_59 rfl rfl ?_
            refine AW.iload dX2_alone_60 rfl rfl ?_
            refine AW.iconst (v := 0) dX2_alone_62 (by decide) rfl ?_
            refine AW.callV (Y := mX2_get) (n := 2) (r_X2_get _ _ (in_get hn (Vw.hou_k hn he) (by decide) (by decide))) (by decide) (by decide) rfl gM q1477 q1479 qs63 q141 q1480 dX2_alone_63 (by decide +kernel) rfl rfl (Nat.le_of_ble_eq_true rfl) rfl ?_
            refine AW.iand dX2_alone_66 rfl ?_
            refine AW.if_ne (tgt := 74) dX2_alone_67 (by decide) rfl (fun c4 => ?_) (fun c4 => ?_)
            · refine AW.iconst (v := 0) dX2_alone_74 (by decide) rfl ?_
              refine AW.istore_n (i := 3) dX2_alone_75 rfl rfl (Nat.le_of_ble_eq_true rfl) rfl rfl ?_
              refine AW.iinc (v := 1) dX2_alone_76 rfl (by decide) rfl rfl rfl ?_
              refine AW.goto (tgt := 23) dX2_alone_79 (by decide) ?_
              exact AW.ls (by simp [aloneP_s, nI_succ, b2i, *]) ihe
            · refine AW.iconst (v := 1) dX2_alone_70 (by decide) rfl ?_
              refine AW.goto (tgt := 75) dX2_alone_71 (by decide) ?_
              refine AW.istore_n (i := 3) dX2_alone_75 rfl rfl (Nat.le_of_ble_eq_true rfl) rfl rfl ?_
              refine AW.iinc (v := 1) dX2_alone_76 rfl (by decide) rfl rfl rfl ?_
              refine AW.goto (tgt := 23) dX2_alone_79 (by decide) ?_
              exact AW.ls (by simp [aloneP_s, nI_succ, b2i, *]) ihe
theorem r_X2_seen_0 {s : Sg} (e z : Int32) : Run 1 mX2_seen [.ref 625, .int (-1), .int e, .int z] (hp s) (.inl (some (.int (0)))) (hp (s.setA 626 (up (s.A 626) 4 0))) := by
  refine Run.of rfl (Nat.le_of_ble_eq_true rfl) rfl ?_
  refine AW.iload_n dX2_seen_0 rfl rfl ?_
  refine AW.iconst (v := (-1)) dX2_seen_1 (by decide) rfl ?_
  refine AW.icmp_ne (tgt := 14) dX2_seen_2 (by decide) rfl (fun c_ => by first | exact absurd c_ (by decide) | exact absurd (by decide) c_ | exact Bool.noConfusion (c_.symm.trans (by decide))) (fun _ => ?_)
  refine AW.aload_n dX2_seen_5 rfl rfl ?_
  refine AW.get ci2 0 (by decide) q1351 dX2_seen_6 gM rfl rfl ?_
  refine AW.iconst (v := 4) dX2_seen_9 (by decide) rfl ?_
  refine AW.iconst (v := 0) dX2_seen_10 (by decide) rfl ?_
  refine AW.iast dX2_seen_11 (by decide) g626 (vp_in_iff.mpr (by decide)) (j := 4) (by decide) s626 rfl ?_
  refine AW.iconst (v := 0) dX2_seen_12 (by decide) rfl ?_
  exact AW.iretE dX2_seen_13 rfl rfl rfl rfl
theorem r_X2_seen_f {s : Sg} (h e z : Int32) (h0 : ¬ h = -1) (hb : ¬ ((vwM (s.A 626)).hou h = true ∧ inI e 0 19 = true ∧ ¬ (s.A 626) 4 = 8)) : Run 3 mX2_seen [.ref 625, .int h, .int e, .int z] (hp s) (.inl (some (.int (-2)))) (hp s) := by
  refine Run.of rfl (Nat.le_of_ble_eq_true rfl) rfl ?_
  refine AW.iload_n dX2_seen_0 rfl rfl ?_
  refine AW.iconst (v := (-1)) dX2_seen_1 (by decide) rfl ?_
  refine AW.icmp_ne (tgt := 14) dX2_seen_2 (by decide) rfl (fun _ => ?_) (fun c_ => by first | exact absurd c_ h0 | exact absurd h0 c_ | exact absurd c_ (not_not_intro h0) | exact Bool.noConfusion (c_.symm.trans h0))
  refine AW.aload_n dX2_seen_14 rfl rfl ?_
  refine AW.iload_n dX2_seen_15 rfl rfl ?_
  refine AW.callV (Y := mX2_isHouse) (n := 1) (r_X2_isHouse _) (by decide) (by decide) rfl gM q1653 q1655 qs92 q141 q1656 dX2_seen_16 (by decide +kernel) rfl rfl (Nat.le_of_ble_eq_true rfl) rfl ?_
  refine AW.if_eqB (tgt := 43) dX2_seen_19 (by decide) rfl (fun c1 => ?_) (fun c1 => ?_)
  · refine AW.bipush (v := (-2)) dX2_seen_43 (by decide) rfl ?_
    exact AW.iretE dX2_seen_45 rfl rfl rfl rfl
  · refine AW.iload_n dX2_seen_22 rfl rfl ?_
    refine AW.iconst (v := 0) dX2_seen_23 (by decide) rfl ?_
    refine AW.bipush (v := 19) dX2_seen_24 (by decide) rfl ?_
    refine AW.callS (Y := mX2_isIn) (n := 3) (r_X2_isIn _ _ _) (by decide) (by decide) q1466 q1467 q141 q1468 dX2_seen_26 (by decide +kernel) rfl rfl (Nat.le_of_ble_eq_true rfl) rfl ?_
    refine AW.if_eqB (tgt := 43) dX2_seen_29 (by decide) rfl (fun c2 => ?_) (fun c2 => ?_)
    · refine AW.bipush (v := (-2)) dX2_seen_43 (by decide) rfl ?_
      exact AW.iretE dX2_seen_45 rfl rfl rfl rfl
    · refine AW.aload_n dX2_seen_32 rfl rfl ?_
      refine AW.get ci2 0 (by decide) q1351 dX2_seen_33 gM rfl rfl ?_
      refine AW.iconst (v := 4) dX2_seen_36 (by decide) rfl ?_
      refine AW.iald dX2_seen_37 g626 (vp_in_iff.mpr (by decide)) (j := 4) (by decide) rfl ?_
      refine AW.bipush (v := 8) dX2_seen_38 (by decide) rfl ?_
      refine AW.icmp_ne (tgt := 46) dX2_seen_40 (by decide) rfl (fun c4 => ?_) (fun c4 => ?_)
      · exact absurd ⟨c1, c2, c4⟩ hb
      · refine AW.bipush (v := (-2)) dX2_seen_43 (by decide) rfl ?_
        exact AW.iretE dX2_seen_45 rfl rfl rfl rfl
theorem r_X2_seen_t {s : Sg} (h e z : Int32) (c : Nat) (h0 : ¬ h = -1) (h1 : (vwM (s.A 626)).hou h = true) (h2 : inI e 0 19 = true) (h4 : (s.A 626) 4 = nI c) (h5 : c < 8) : Run 3 mX2_seen [.ref 625, .int h, .int e, .int z] (hp s) (.inl (some (.int (nI c + 1)))) (hp (s.setA 626 (up (up (up (up (s.A 626) (68 + 3 * c) h) (68 + 3 * c + 1) e) (68 + 3 * c + 2) (if z = 0 then 0 else 1)) 4 (nI c + 1)))) := by
  have h8 : ¬ s.A 626 4 = 8 := by rw [h4]; intro q; have := nI_t (k := c) (by omega); rw [q] at this; have q8 : (8 : Int32).toInt = 8 := rfl; omega
  have n1 : (4 : Nat) ≠ 68 + 3 * c := by omega
  have n2 : (4 : Nat) ≠ 68 + 3 * c + 1 := by omega
  have n3 : (4 : Nat) ≠ 68 + 3 * c + 2 := by omega
  refine Run.of rfl (Nat.le_of_ble_eq_true rfl) rfl ?_
  refine AW.iload_n dX2_seen_0 rfl rfl ?_
  refine AW.iconst (v := (-1)) dX2_seen_1 (by decide) rfl ?_
  refine AW.icmp_ne (tgt := 14) dX2_seen_2 (by decide) rfl (fun _ => ?_) (fun c_ => by first | exact absurd c_ h0 | exact absurd h0 c_ | exact absurd c_ (not_not_intro h0) | exact Bool.noConfusion (c_.symm.trans h0))
  refine AW.aload_n dX2_seen_14 rfl rfl ?_
  refine AW.iload_n dX2_seen_15 rfl rfl ?_
  refine AW.callV (Y := mX2_isHouse) (n := 1) (r_X2_isHouse _) (by decide) (by decide) rfl gM q1653 q1655 qs92 q141 q1656 dX2_seen_16 (by decide +kernel) rfl rfl (Nat.le_of_ble_eq_true rfl) rfl ?_
  refine AW.if_eqB (tgt := 43) dX2_seen_19 (by decide) rfl (fun c_ => by first | exact absurd c_ h1 | exact absurd h1 c_ | exact Bool.noConfusion (c_.symm.trans h1)) (fun _ => ?_)
  refine AW.iload_n dX2_seen_22 rfl rfl ?_
  refine AW.iconst (v := 0) dX2_seen_23 (by decide) rfl ?_
  refine AW.bipush (v := 19) dX2_seen_24 (by decide) rfl ?_
  refine AW.callS (Y := mX2_isIn) (n := 3) (r_X2_isIn _ _ _) (by decide) (by decide) q1466 q1467 q141 q1468 dX2_seen_26 (by decide +kernel) rfl rfl (Nat.le_of_ble_eq_true rfl) rfl ?_
  refine AW.if_eqB (tgt := 43) dX2_seen_29 (by decide) rfl (fun c_ => by first | exact absurd c_ h2 | exact absurd h2 c_ | exact Bool.noConfusion (c_.symm.trans h2)) (fun _ => ?_)
  refine AW.aload_n dX2_seen_32 rfl rfl ?_
  refine AW.get ci2 0 (by decide) q1351 dX2_seen_33 gM rfl rfl ?_
  refine AW.iconst (v := 4) dX2_seen_36 (by decide) rfl ?_
  refine AW.iald dX2_seen_37 g626 (vp_in_iff.mpr (by decide)) (j := 4) (by decide) rfl ?_
  refine AW.bipush (v := 8) dX2_seen_38 (by decide) rfl ?_
  refine AW.icmp_ne (tgt := 46) dX2_seen_40 (by decide) rfl (fun _ => ?_) (fun c_ => by first | exact absurd c_ h8 | exact absurd h8 c_ | exact absurd c_ (not_not_intro h8) | exact Bool.noConfusion (c_.symm.trans h8))
  refine AW.bipush (v := 68) dX2_seen_46 (by decide) rfl ?_
  refine AW.iconst (v := 3) dX2_seen_48 (by decide) rfl ?_
  refine AW.aload_n dX2_seen_49 rfl rfl ?_
  refine AW.get ci2 0 (by decide) q1351 dX2_seen_50 gM rfl rfl ?_
  refine AW.iconst (v := 4) dX2_seen_53 (by decide) rfl ?_
  refine AW.iald dX2_seen_54 g626 (vp_in_iff.mpr (by decide)) (j := 4) (by decide) rfl ?_
  refine AW.imul dX2_seen_55 rfl ?_
  refine AW.iadd dX2_seen_56 rfl ?_
  refine AW.istore dX2_seen_57 rfl (Nat.le_of_ble_eq_true rfl) rfl rfl ?_
  refine AW.aload_n dX2_seen_59 rfl rfl ?_
  refine AW.get ci2 0 (by decide) q1351 dX2_seen_60 gM rfl rfl ?_
  refine AW.iload dX2_seen_63 rfl rfl ?_
  refine AW.iload_n dX2_seen_65 rfl rfl ?_
  refine AW.iast dX2_seen_66 (by decide) g626 (by rw [h4]; exact in2 68 3 c (by omega) (by decide)) (j := 68 + 3 * c) (by rw [h4]; exact at2 68 3 c (by omega)) s626 rfl ?_
  refine AW.aload_n dX2_seen_67 rfl rfl ?_
  refine AW.get ci2 0 (by decide) q1351 dX2_seen_68 gM rfl rfl ?_
  refine AW.iload dX2_seen_71 rfl rfl ?_
  refine AW.iconst (v := 1) dX2_seen_73 (by decide) rfl ?_
  refine AW.iadd dX2_seen_74 rfl ?_
  refine AW.iload_n dX2_seen_75 rfl rfl ?_
  refine AW.iast dX2_seen_76 (by decide) g626 (by rw [h4]; exact in3 68 3 c 1 (by omega) (by decide)) (j := 68 + 3 * c + 1) (by rw [h4]; exact at3 68 3 c 1 (by omega)) s626 rfl ?_
  refine AW.aload_n dX2_seen_77 rfl rfl ?_
  refine AW.get ci2 0 (by decide) q1351 dX2_seen_78 gM rfl rfl ?_
  refine AW.iload dX2_seen_81 rfl rfl ?_
  refine AW.iconst (v := 2) dX2_seen_83 (by decide) rfl ?_
  refine AW.iadd dX2_seen_84 rfl ?_
  refine AW.iload_n dX2_seen_85 rfl rfl ?_
  refine AW.if_eq (tgt := 93) dX2_seen_86 (by decide) rfl (fun c6 => ?_) (fun c6 => ?_)
  · refine AW.iconst (v := 0) dX2_seen_93 (by decide) rfl ?_
    refine AW.iast dX2_seen_94 (by decide) g626 (by rw [h4]; exact in3 68 3 c 2 (by omega) (by decide)) (j := 68 + 3 * c + 2) (by rw [h4]; exact at3 68 3 c 2 (by omega)) s626 rfl ?_
    refine AW.aload_n dX2_seen_95 rfl rfl ?_
    refine AW.get ci2 0 (by decide) q1351 dX2_seen_96 gM rfl rfl ?_
    refine AW.iconst (v := 4) dX2_seen_99 (by decide) rfl ?_
    refine AW.dup2 dX2_seen_100 rfl rfl rfl ?_
    refine AW.iald dX2_seen_101 g626 (vp_in_iff.mpr (by decide)) (j := 4) (by decide) rfl ?_
    refine AW.iconst (v := 1) dX2_seen_102 (by decide) rfl ?_
    refine AW.iadd dX2_seen_103 rfl ?_
    refine AW.iast dX2_seen_104 (by decide) g626 (vp_in_iff.mpr (by decide)) (j := 4) (by decide) s626 rfl ?_
    refine AW.aload_n dX2_seen_105 rfl rfl ?_
    refine AW.get ci2 0 (by decide) q1351 dX2_seen_106 gM rfl rfl ?_
    refine AW.iconst (v := 4) dX2_seen_109 (by decide) rfl ?_
    refine AW.iald dX2_seen_110 g626 (vp_in_iff.mpr (by decide)) (j := 4) (by decide) rfl ?_
    exact AW.iretE dX2_seen_111 rfl rfl (by simp [setA_at, up_eq, up_ne n1, up_ne n2, up_ne n3, h4]) (by simp [setA_setA, setA_at, up_eq, up_ne n1, up_ne n2, up_ne n3, h4, c6])
  · refine AW.iconst (v := 1) dX2_seen_89 (by decide) rfl ?_
    refine AW.goto (tgt := 94) dX2_seen_90 (by decide) ?_
    refine AW.iast dX2_seen_94 (by decide) g626 (by rw [h4]; exact in3 68 3 c 2 (by omega) (by decide)) (j := 68 + 3 * c + 2) (by rw [h4]; exact at3 68 3 c 2 (by omega)) s626 rfl ?_
    refine AW.aload_n dX2_seen_95 rfl rfl ?_
    refine AW.get ci2 0 (by decide) q1351 dX2_seen_96 gM rfl rfl ?_
    refine AW.iconst (v := 4) dX2_seen_99 (by decide) rfl ?_
    refine AW.dup2 dX2_seen_100 rfl rfl rfl ?_
    refine AW.iald dX2_seen_101 g626 (vp_in_iff.mpr (by decide)) (j := 4) (by decide) rfl ?_
    refine AW.iconst (v := 1) dX2_seen_102 (by decide) rfl ?_
    refine AW.iadd dX2_seen_103 rfl ?_
    refine AW.iast dX2_seen_104 (by decide) g626 (vp_in_iff.mpr (by decide)) (j := 4) (by decide) s626 rfl ?_
    refine AW.aload_n dX2_seen_105 rfl rfl ?_
    refine AW.get ci2 0 (by decide) q1351 dX2_seen_106 gM rfl rfl ?_
    refine AW.iconst (v := 4) dX2_seen_109 (by decide) rfl ?_
    refine AW.iald dX2_seen_110 g626 (vp_in_iff.mpr (by decide)) (j := 4) (by decide) rfl ?_
    exact AW.iretE dX2_seen_111 rfl rfl (by simp [setA_at, up_eq, up_ne n1, up_ne n2, up_ne n3, h4]) (by simp [setA_setA, setA_at, up_eq, up_ne n1, up_ne n2, up_ne n3, h4, c6])
theorem r_X2_copy_i {s : Sg} : Run 1 mX2_copy [.ref 626, .ref 627] (hp s) (.inl none) (hp (s.setA 627 (mv (s.A 627) 0 (s.A 626) 2308))) := by
  refine Run.of rfl (Nat.le_of_ble_eq_true rfl) rfl ?_
  refine AW.iconst (v := 0) dX2_copy_0 (by decide) rfl ?_
  refine AW.istore_n (i := 2) dX2_copy_1 rfl rfl (Nat.le_of_ble_eq_true rfl) rfl rfl ?_
  refine AW.hp (h2 := hp (s.setA 627 (mv (s.A 627) 0 (s.A 626) 0))) (by rw [mv_0, setA_id]) ?_
  refine loopUp (P := fun k => AW 1 mX2_copy (hp (s.setA 627 (mv (s.A 627) 0 (s.A 626) k))) 2 [some (.ref 626), some (.ref 627), some (.int (nI k))] [] (.inl none) (hp (s.setA 627 (mv (s.A 627) 0 (s.A 626) 2308)))) 2308 ?_ ?_ 0 (by first | exact Nat.zero_le _ | omega)
  · refine AW.iload_n dX2_copy_2 rfl rfl ?_
    refine AW.sipush (v := 2308) dX2_copy_3 (by decide) rfl ?_
    refine AW.icmp_ge (tgt := 21) dX2_copy_6 (by decide) rfl (fun _ => ?_) (fun c_ => by first | exact absurd c_ (by decide) | exact absurd (by decide) c_ | exact absurd c_ (not_not_intro (by decide)) | exact Bool.noConfusion (c_.symm.trans (by decide)))
    exact AW.vretE dX2_copy_21 rfl rfl rfl
  · intro k hk ihk
    refine AW.iload_n dX2_copy_2 rfl rfl ?_
    refine AW.sipush (v := 2308) dX2_copy_3 (by decide) rfl ?_
    refine AW.icmp_ge (tgt := 21) dX2_copy_6 (by decide) rfl (fun c_ => by first | exact absurd c_ (nle_lit 2308 rfl hk (by decide)) | exact absurd (nle_lit 2308 rfl hk (by decide)) c_ | exact Bool.noConfusion (c_.symm.trans (nle_lit 2308 rfl hk (by decide)))) (fun _ => ?_)
    refine AW.aload_n dX2_copy_9 rfl rfl ?_
    refine AW.iload_n dX2_copy_10 rfl rfl ?_
    refine AW.aload_n dX2_copy_11 rfl rfl ?_
    refine AW.iload_n dX2_copy_12 rfl rfl ?_
    refine AW.iald dX2_copy_13 g626 (in0 k hk (by decide)) (j := k) (cI_nI (by omega)) rfl ?_
    refine AW.iast dX2_copy_14 (by decide) g627 (in0 k hk (by decide)) (j := k) (cI_nI (by omega)) s627 rfl ?_
    refine AW.iinc (v := 1) dX2_copy_15 rfl (by decide) rfl rfl rfl ?_
    refine AW.goto (tgt := 2) dX2_copy_18 (by decide) ?_
    exact AW.hp (by rw [setA_at, setA_setA, setA_ne (by decide), ← mv_s, Nat.zero_add]) (AW.ls (by rw [nI_succ]; rfl) ihk)
theorem r_X2_image {s : Sg} : Run 2 mX2_image [.ref 625] (hp s) (.inl (some (.int (s.A 626 8)))) (hp (s.setA 627 (mv (s.A 627) 0 (s.A 626) 2308))) := by
  refine Run.of rfl (Nat.le_of_ble_eq_true rfl) rfl ?_
  refine AW.aload_n dX2_image_0 rfl rfl ?_
  refine AW.get ci2 0 (by decide) q1351 dX2_image_1 gM rfl rfl ?_
  refine AW.aload_n dX2_image_4 rfl rfl ?_
  refine AW.get ci2 1 (by decide) q1352 dX2_image_5 gM rfl rfl ?_
  refine AW.callS (Y := mX2_copy) (n := 2) (r_X2_copy_i) (by decide) (by decide) q1348 q1349 q141 q1350 dX2_image_8 (by decide +kernel) rfl rfl (Nat.le_of_ble_eq_true rfl) rfl ?_
  refine AW.aload_n dX2_image_11 rfl rfl ?_
  refine AW.get ci2 0 (by decide) q1351 dX2_image_12 gM rfl rfl ?_
  refine AW.bipush (v := 8) dX2_image_15 (by decide) rfl ?_
  refine AW.iald dX2_image_17 g626 (vp_in_iff.mpr (by decide)) (j := 8) (by decide) rfl ?_
  exact AW.iretE dX2_image_18 rfl rfl (by first | rw [setA_ne (by decide)] | (rw [setA_at]; exact mv_in (by decide) (by decide))) rfl
theorem r_X2_copy_b {s : Sg} : Run 1 mX2_copy [.ref 627, .ref 626] (hp s) (.inl none) (hp (s.setA 626 (mv (s.A 626) 0 (s.A 627) 2308))) := by
  refine Run.of rfl (Nat.le_of_ble_eq_true rfl) rfl ?_
  refine AW.iconst (v := 0) dX2_copy_0 (by decide) rfl ?_
  refine AW.istore_n (i := 2) dX2_copy_1 rfl rfl (Nat.le_of_ble_eq_true rfl) rfl rfl ?_
  refine AW.hp (h2 := hp (s.setA 626 (mv (s.A 626) 0 (s.A 627) 0))) (by rw [mv_0, setA_id]) ?_
  refine loopUp (P := fun k => AW 1 mX2_copy (hp (s.setA 626 (mv (s.A 626) 0 (s.A 627) k))) 2 [some (.ref 627), some (.ref 626), some (.int (nI k))] [] (.inl none) (hp (s.setA 626 (mv (s.A 626) 0 (s.A 627) 2308)))) 2308 ?_ ?_ 0 (by first | exact Nat.zero_le _ | omega)
  · refine AW.iload_n dX2_copy_2 rfl rfl ?_
    refine AW.sipush (v := 2308) dX2_copy_3 (by decide) rfl ?_
    refine AW.icmp_ge (tgt := 21) dX2_copy_6 (by decide) rfl (fun _ => ?_) (fun c_ => by first | exact absurd c_ (by decide) | exact absurd (by decide) c_ | exact absurd c_ (not_not_intro (by decide)) | exact Bool.noConfusion (c_.symm.trans (by decide)))
    exact AW.vretE dX2_copy_21 rfl rfl rfl
  · intro k hk ihk
    refine AW.iload_n dX2_copy_2 rfl rfl ?_
    refine AW.sipush (v := 2308) dX2_copy_3 (by decide) rfl ?_
    refine AW.icmp_ge (tgt := 21) dX2_copy_6 (by decide) rfl (fun c_ => by first | exact absurd c_ (nle_lit 2308 rfl hk (by decide)) | exact absurd (nle_lit 2308 rfl hk (by decide)) c_ | exact Bool.noConfusion (c_.symm.trans (nle_lit 2308 rfl hk (by decide)))) (fun _ => ?_)
    refine AW.aload_n dX2_copy_9 rfl rfl ?_
    refine AW.iload_n dX2_copy_10 rfl rfl ?_
    refine AW.aload_n dX2_copy_11 rfl rfl ?_
    refine AW.iload_n dX2_copy_12 rfl rfl ?_
    refine AW.iald dX2_copy_13 g627 (in0 k hk (by decide)) (j := k) (cI_nI (by omega)) rfl ?_
    refine AW.iast dX2_copy_14 (by decide) g626 (in0 k hk (by decide)) (j := k) (cI_nI (by omega)) s626 rfl ?_
    refine AW.iinc (v := 1) dX2_copy_15 rfl (by decide) rfl rfl rfl ?_
    refine AW.goto (tgt := 2) dX2_copy_18 (by decide) ?_
    exact AW.hp (by rw [setA_at, setA_setA, setA_ne (by decide), ← mv_s, Nat.zero_add]) (AW.ls (by rw [nI_succ]; rfl) ihk)
theorem r_X2_back {s : Sg} : Run 2 mX2_back [.ref 625] (hp s) (.inl (some (.int (s.A 627 8)))) (hp (s.setA 626 (mv (s.A 626) 0 (s.A 627) 2308))) := by
  refine Run.of rfl (Nat.le_of_ble_eq_true rfl) rfl ?_
  refine AW.aload_n dX2_back_0 rfl rfl ?_
  refine AW.get ci2 1 (by decide) q1352 dX2_back_1 gM rfl rfl ?_
  refine AW.aload_n dX2_back_4 rfl rfl ?_
  refine AW.get ci2 0 (by decide) q1351 dX2_back_5 gM rfl rfl ?_
  refine AW.callS (Y := mX2_copy) (n := 2) (r_X2_copy_b) (by decide) (by decide) q1348 q1349 q141 q1350 dX2_back_8 (by decide +kernel) rfl rfl (Nat.le_of_ble_eq_true rfl) rfl ?_
  refine AW.aload_n dX2_back_11 rfl rfl ?_
  refine AW.get ci2 0 (by decide) q1351 dX2_back_12 gM rfl rfl ?_
  refine AW.bipush (v := 8) dX2_back_15 (by decide) rfl ?_
  refine AW.iald dX2_back_17 g626 (vp_in_iff.mpr (by decide)) (j := 8) (by decide) rfl ?_
  exact AW.iretE dX2_back_18 rfl rfl (by first | rw [setA_ne (by decide)] | (rw [setA_at]; exact mv_in (by decide) (by decide))) rfl
