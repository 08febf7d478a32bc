/-! MODEL 36: figures of a clause (printed by tools/m36.py) -/
set_option maxRecDepth 100000
/-- what a figure is: 0 it is one within its bounds, else the fault -/
def figF (L : Lq) (lo hi : Int32) : Int32 := if L.2.2.1 = 1 then (if inI L.2.2.2.1 lo hi = true then 0 else 2) else 1
theorem r_X2_figure_f {s : Sg} {L : Lq} {X PA : Nat → Int32} {base : Nat} {C : Cd} {Q : List Int32} {o : Int32} {w : Bool} (x lo hi : Int32) (hf : ¬ figF L lo hi = 0) : Run 4 mX2_figure [.ref 625, .int x, .int lo, .int hi] (hp (ps s L (gq X base C PA Q o w))) (.inl (some (.int (figF L lo hi)))) (hp (ps s L (gq X base C PA Q o w))) := by
  refine Run.of rfl (Nat.le_of_ble_eq_true rfl) rfl ?_
  refine AW.aload_n dX2_figure_0 rfl rfl ?_
  refine AW.get ci2 9 (by decide) q1360 dX2_figure_1 gM rfl rfl ?_
  refine AW.iconst (v := 1) dX2_figure_4 (by decide) rfl ?_
  refine AW.icmp_eq (tgt := 10) dX2_figure_5 (by decide) rfl (fun k5 => ?_) (fun k5 => ?_)
  · refine AW.aload_n dX2_figure_10 rfl rfl ?_
    refine AW.get ci2 10 (by decide) q1361 dX2_figure_11 gM rfl rfl ?_
    refine AW.iload_n dX2_figure_14 rfl rfl ?_
    refine AW.iload_n dX2_figure_15 rfl rfl ?_
    refine AW.callS (Y := mX2_isIn) (n := 3) (r_X2_isIn _ _ _) (by decide) (by decide) q1466 q1467 q141 q1468 dX2_figure_16 (by decide +kernel) rfl rfl (Nat.le_of_ble_eq_true rfl) rfl ?_
    refine AW.if_neB (tgt := 24) dX2_figure_19 (by decide) rfl (fun k19 => ?_) (fun k19 => ?_)
    · exact absurd (show figF L lo hi = 0 from (if_pos k5).trans (if_pos k19)) hf
    · refine AW.iconst (v := 2) dX2_figure_22 (by decide) rfl ?_
      exact AW.iretE dX2_figure_23 rfl rfl ((if_pos k5).trans (if_neg (fun z => Bool.noConfusion (k19.symm.trans z)))).symm rfl
  · refine AW.iconst (v := 1) dX2_figure_8 (by decide) rfl ?_
    exact AW.iretE dX2_figure_9 rfl rfl (if_neg k5).symm rfl
theorem r_X2_figure_t {s : Sg} {L : Lq} {X PA : Nat → Int32} {base : Nat} {C : Cd} {Q : List Int32} {o : Int32} {w : Bool} (n : Nat) (hn : s.S 4 = nI n) (h300 : n ≤ 300) (hby : ∀ k, k < n → 0 ≤ s.A 629 k) (k0 : Nat) (hk0 : k0 ≤ n) (hL : L.1 = nI k0) (x : Nat) (hx : x < base) (hb2 : base + 608 ≤ 2820) (lo hi : Int32) (hf : figF L lo hi = 0) : Run 4 mX2_figure [.ref 625, .int (nI x), .int lo, .int hi] (hp (ps s L (gq X base C PA Q o w))) (.inl (some (.int (0)))) (hp (ps s (lexL (s.A 629) n k0 L) (gq (up X x L.2.2.2.1) base C PA Q o w))) := by
  refine Run.of rfl (Nat.le_of_ble_eq_true rfl) rfl ?_
  refine AW.aload_n dX2_figure_0 rfl rfl ?_
  refine AW.get ci2 9 (by decide) q1360 dX2_figure_1 gM rfl rfl ?_
  refine AW.iconst (v := 1) dX2_figure_4 (by decide) rfl ?_
  refine AW.icmp_eq (tgt := 10) dX2_figure_5 (by decide) rfl (fun k5 => ?_) (fun k5 => ?_)
  · refine AW.aload_n dX2_figure_10 rfl rfl ?_
    refine AW.get ci2 10 (by decide) q1361 dX2_figure_11 gM rfl rfl ?_
    refine AW.iload_n dX2_figure_14 rfl rfl ?_
    refine AW.iload_n dX2_figure_15 rfl rfl ?_
    refine AW.callS (Y := mX2_isIn) (n := 3) (r_X2_isIn _ _ _) (by decide) (by decide) q1466 q1467 q141 q1468 dX2_figure_16 (by decide +kernel) rfl rfl (Nat.le_of_ble_eq_true rfl) rfl ?_
    refine AW.if_neB (tgt := 24) dX2_figure_19 (by decide) rfl (fun k19 => ?_) (fun k19 => ?_)
    · refine AW.aload_n dX2_figure_24 rfl rfl ?_
      refine AW.get ci2 2 (by decide) q1353 dX2_figure_25 gM rfl rfl ?_
      refine AW.iload_n dX2_figure_28 rfl rfl ?_
      refine AW.aload_n dX2_figure_29 rfl rfl ?_
      refine AW.get ci2 10 (by decide) q1361 dX2_figure_30 gM rfl rfl ?_
      refine AW.iast dX2_figure_33 (by decide) ps_g628 (in0 x (by omega) (by decide)) (j := x) (cI_nI (by omega)) ps_s628 rfl ?_
      refine AW.hp (h2 := (hp (ps s L (gq (up X x L.2.2.2.1) base C PA Q o w)))) (by show hp (ps s L (nI C.length, nI Q.length, o, b2i w, up (layC X base C) x L.2.2.2.1, PA)) = _; rw [layC_up hx]; rfl) ?_
      refine AW.aload_n dX2_figure_34 rfl rfl ?_
      refine AW.callV (Y := mX2_nextToken) (n := 0) (r_X2_nextToken n hn h300 hby k0 hk0 hL) (by decide) (by decide) rfl gM q1501 q1503 qs66 q141 q1504 dX2_figure_35 (by decide +kernel) rfl rfl (Nat.le_of_ble_eq_true rfl) rfl ?_
      refine AW.iconst (v := 0) dX2_figure_38 (by decide) rfl ?_
      exact AW.iretE dX2_figure_39 rfl rfl rfl rfl
    · exact absurd (((if_pos k5).trans (if_neg (fun z => Bool.noConfusion (k19.symm.trans z)))).symm.trans hf) (by decide)
  · exact absurd ((if_neg k5).symm.trans hf) (by decide)
theorem r_X2_worded_1 {s : Sg} {L : Lq} {X PA : Nat → Int32} {base : Nat} {C : Cd} {Q : List Int32} {o : Int32} {w : Bool} (q : Int64) (x hi : Int32) (hw : isWd L q = false) : Run 5 mX2_worded [.ref 625, .long q, .int x, .int hi] (hp (ps s L (gq X base C PA Q o w))) (.inl (some (.int (1)))) (hp (ps s L (gq X base C PA Q o w))) := by
  refine Run.of rfl (Nat.le_of_ble_eq_true rfl) rfl ?_
  refine AW.aload_n dX2_worded_0 rfl rfl ?_
  refine AW.lload_n dX2_worded_1 rfl rfl ?_
  refine AW.callV (Y := mX2_isWord) (n := 1) (r_X2_isWord _) (by decide) (by decide) rfl gM q1540 q1542 qs70 q141 q1543 dX2_worded_2 (by decide +kernel) rfl rfl (Nat.le_of_ble_eq_true rfl) rfl ?_
  refine AW.if_neB (tgt := 10) dX2_worded_5 (by decide) rfl (fun c_ => by first | exact absurd c_ hw | exact absurd hw c_ | exact Bool.noConfusion (c_.symm.trans hw)) (fun _ => ?_)
  refine AW.iconst (v := 1) dX2_worded_8 (by decide) rfl ?_
  exact AW.iretE dX2_worded_9 rfl rfl rfl rfl
theorem r_X2_worded_f {s : Sg} {L : Lq} {X PA : Nat → Int32} {base : Nat} {C : Cd} {Q : List Int32} {o : Int32} {w : Bool} (n : Nat) (hn : s.S 4 = nI n) (h300 : n ≤ 300) (hby : ∀ k, k < n → 0 ≤ s.A 629 k) (k0 : Nat) (hk0 : k0 ≤ n) (hL : L.1 = nI k0) (q : Int64) (x hi : Int32) (hw : isWd L q = true) (hf : ¬ figF (lexL (s.A 629) n k0 L) 0 hi = 0) : Run 5 mX2_worded [.ref 625, .long q, .int x, .int hi] (hp (ps s L (gq X base C PA Q o w))) (.inl (some (.int (figF (lexL (s.A 629) n k0 L) 0 hi)))) (hp (ps s (lexL (s.A 629) n k0 L) (gq X base C PA Q o w))) := by
  refine Run.of rfl (Nat.le_of_ble_eq_true rfl) rfl ?_
  refine AW.aload_n dX2_worded_0 rfl rfl ?_
  refine AW.lload_n dX2_worded_1 rfl rfl ?_
  refine AW.callV (Y := mX2_isWord) (n := 1) (r_X2_isWord _) (by decide) (by decide) rfl gM q1540 q1542 qs70 q141 q1543 dX2_worded_2 (by decide +kernel) rfl rfl (Nat.le_of_ble_eq_true rfl) rfl ?_
  refine AW.if_neB (tgt := 10) dX2_worded_5 (by decide) rfl (fun _ => ?_) (fun c_ => by first | exact absurd c_ hw | exact absurd hw c_ | exact absurd c_ (not_not_intro hw) | exact Bool.noConfusion (c_.symm.trans hw))
  refine AW.aload_n dX2_worded_10 rfl rfl ?_
  refine AW.callV (Y := mX2_nextToken) (n := 0) (r_X2_nextToken n hn h300 hby k0 hk0 hL) (by decide) (by decide) rfl gM q1501 q1503 qs66 q141 q1504 dX2_worded_11 (by decide +kernel) rfl rfl (Nat.le_of_ble_eq_true rfl) rfl ?_
  refine AW.aload_n dX2_worded_14 rfl rfl ?_
  refine AW.iload_n dX2_worded_15 rfl rfl ?_
  refine AW.iconst (v := 0) dX2_worded_16 (by decide) rfl ?_
  refine AW.iload dX2_worded_17 rfl rfl ?_
  refine AW.callV (Y := mX2_figure) (n := 3) (r_X2_figure_f _ _ _ hf) (by decide) (by decide) rfl gM q1558 q1560 qs73 q141 q1561 dX2_worded_19 (by decide +kernel) rfl rfl (Nat.le_of_ble_eq_true rfl) rfl ?_
  exact AW.iretE dX2_worded_22 rfl rfl rfl rfl
theorem r_X2_worded_t {s : Sg} {L : Lq} {X PA : Nat → Int32} {base : Nat} {C : Cd} {Q : List Int32} {o : Int32} {w : Bool} (n : Nat) (hn : s.S 4 = nI n) (h300 : n ≤ 300) (hby : ∀ k, k < n → 0 ≤ s.A 629 k) (k0 : Nat) (hk0 : k0 ≤ n) (hL : L.1 = nI k0) (q : Int64) (x : Nat) (hx : x < base) (hb2 : base + 608 ≤ 2820) (hi : Int32) (hw : isWd L q = true) (hf : figF (lexL (s.A 629) n k0 L) 0 hi = 0) (k1 : Nat) (hk1 : k1 ≤ n) (hL1 : (lexL (s.A 629) n k0 L).1 = nI k1) : Run 5 mX2_worded [.ref 625, .long q, .int (nI x), .int hi] (hp (ps s L (gq X base C PA Q o w))) (.inl (some (.int (0)))) (hp (ps s (lexL (s.A 629) n k1 (lexL (s.A 629) n k0 L)) (gq (up X x (lexL (s.A 629) n k0 L).2.2.2.1) base C PA Q o w))) := by
  refine Run.of rfl (Nat.le_of_ble_eq_true rfl) rfl ?_
  refine AW.aload_n dX2_worded_0 rfl rfl ?_
  refine AW.lload_n dX2_worded_1 rfl rfl ?_
  refine AW.callV (Y := mX2_isWord) (n := 1) (r_X2_isWord _) (by decide) (by decide) rfl gM q1540 q1542 qs70 q141 q1543 dX2_worded_2 (by decide +kernel) rfl rfl (Nat.le_of_ble_eq_true rfl) rfl ?_
  refine AW.if_neB (tgt := 10) dX2_worded_5 (by decide) rfl (fun _ => ?_) (fun c_ => by first | exact absurd c_ hw | exact absurd hw c_ | exact absurd c_ (not_not_intro hw) | exact Bool.noConfusion (c_.symm.trans hw))
  refine AW.aload_n dX2_worded_10 rfl rfl ?_
  refine AW.callV (Y := mX2_nextToken) (n := 0) (r_X2_nextToken n hn h300 hby k0 hk0 hL) (by decide) (by decide) rfl gM q1501 q1503 qs66 q141 q1504 dX2_worded_11 (by decide +kernel) rfl rfl (Nat.le_of_ble_eq_true rfl) rfl ?_
  refine AW.aload_n dX2_worded_14 rfl rfl ?_
  refine AW.iload_n dX2_worded_15 rfl rfl ?_
  refine AW.iconst (v := 0) dX2_worded_16 (by decide) rfl ?_
  refine AW.iload dX2_worded_17 rfl rfl ?_
  refine AW.callV (Y := mX2_figure) (n := 3) (r_X2_figure_t n hn h300 hby k1 hk1 hL1 x hx hb2 0 hi hf) (by decide) (by decide) rfl gM q1558 q1560 qs73 q141 q1561 dX2_worded_19 (by decide +kernel) rfl rfl (Nat.le_of_ble_eq_true rfl) rfl ?_
  exact AW.iretE dX2_worded_22 rfl rfl rfl rfl
