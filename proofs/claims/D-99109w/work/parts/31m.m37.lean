/-! MODEL 37: the steps of parsed (printed by tools/m37.py) -/
set_option maxRecDepth 100000
theorem parsed_b0 {s : Sg} {L : Lq} {G : Gq} {e : Bool} {oo : OR} {h2 hh : AH} (hw : G.2.2.2.1 = 0) (hr : Run 7 mX2_beginOne [.ref 625] (hp (ps s L G)) (.inl (some (.int 0))) h2) (k : AW 8 mX2_parsed h2 20 [some (.ref 625), some (.int (b2i e)), none] [] oo hh) : AW 8 mX2_parsed (hp (ps s L G)) 20 [some (.ref 625), some (.int (b2i e)), none] [] oo hh := by
  refine AW.aload_n dX2_parsed_20 rfl rfl ?_
  refine AW.get ci2 18 (by decide) q1369 dX2_parsed_21 gM rfl rfl ?_
  refine AW.if_eq (tgt := 34) dX2_parsed_24 (by decide) rfl (fun _ => ?_) (fun c_ => by first | exact absurd c_ (show G.2.2.2.1 = 0 from hw) | exact absurd (show G.2.2.2.1 = 0 from hw) c_ | exact absurd c_ (not_not_intro (show G.2.2.2.1 = 0 from hw)) | exact Bool.noConfusion (c_.symm.trans (show G.2.2.2.1 = 0 from hw)))
  refine AW.aload_n dX2_parsed_34 rfl rfl ?_
  refine AW.callV (Y := mX2_beginOne) (n := 0) (hr) (by decide) (by decide) rfl gM q1617 q1619 qs87 q141 q1620 dX2_parsed_35 (by decide +kernel) rfl rfl (Nat.le_of_ble_eq_true rfl) rfl ?_
  refine AW.istore_n (i := 2) dX2_parsed_38 rfl rfl (Nat.le_of_ble_eq_true rfl) rfl rfl ?_
  refine AW.iload_n dX2_parsed_39 rfl rfl ?_
  refine AW.if_le (tgt := 45) dX2_parsed_40 (by decide) rfl (fun _ => ?_) (fun c_ => by first | exact absurd c_ (by decide) | exact absurd (by decide) c_ | exact absurd c_ (not_not_intro (by decide)) | exact Bool.noConfusion (c_.symm.trans (by decide)))
  refine AW.iload_n dX2_parsed_45 rfl rfl ?_
  refine AW.if_ne (tgt := 52) dX2_parsed_46 (by decide) rfl (fun c_ => by first | exact absurd c_ (by decide) | exact absurd (by decide) c_ | exact Bool.noConfusion (c_.symm.trans (by decide))) (fun _ => ?_)
  refine AW.goto (tgt := 20) dX2_parsed_49 (by decide) ?_
  exact AW.fg 2 rfl k
theorem parsed_bf {s : Sg} {L : Lq} {G : Gq} {e : Bool} {oo : OR} {h2 hh : AH} {r : Int32} (hw : G.2.2.2.1 = 0) (hr : Run 7 mX2_beginOne [.ref 625] (hp (ps s L G)) (.inl (some (.int r))) h2) (h0 : 0 < r) : AW 8 mX2_parsed (hp (ps s L G)) 20 [some (.ref 625), some (.int (b2i e)), none] [] (.inl (some (.int r))) h2 := by
  refine AW.aload_n dX2_parsed_20 rfl rfl ?_
  refine AW.get ci2 18 (by decide) q1369 dX2_parsed_21 gM rfl rfl ?_
  refine AW.if_eq (tgt := 34) dX2_parsed_24 (by decide) rfl (fun _ => ?_) (fun c_ => by first | exact absurd c_ (show G.2.2.2.1 = 0 from hw) | exact absurd (show G.2.2.2.1 = 0 from hw) c_ | exact absurd c_ (not_not_intro (show G.2.2.2.1 = 0 from hw)) | exact Bool.noConfusion (c_.symm.trans (show G.2.2.2.1 = 0 from hw)))
  refine AW.aload_n dX2_parsed_34 rfl rfl ?_
  refine AW.callV (Y := mX2_beginOne) (n := 0) (hr) (by decide) (by decide) rfl gM q1617 q1619 qs87 q141 q1620 dX2_parsed_35 (by decide +kernel) rfl rfl (Nat.le_of_ble_eq_true rfl) rfl ?_
  refine AW.istore_n (i := 2) dX2_parsed_38 rfl rfl (Nat.le_of_ble_eq_true rfl) rfl rfl ?_
  refine AW.iload_n dX2_parsed_39 rfl rfl ?_
  refine AW.if_le (tgt := 45) dX2_parsed_40 (by decide) rfl (fun c_ => by first | exact absurd c_ (Int32.not_le.mpr h0) | exact absurd (Int32.not_le.mpr h0) c_ | exact Bool.noConfusion (c_.symm.trans (Int32.not_le.mpr h0))) (fun _ => ?_)
  refine AW.iload_n dX2_parsed_43 rfl rfl ?_
  exact AW.iretE dX2_parsed_44 rfl rfl rfl rfl
theorem parsed_w0 {s : Sg} {L : Lq} {G : Gq} {e : Bool} {oo : OR} {h2 hh : AH} (hw : G.2.2.2.1 = 1) (hr : Run 7 mX2_behindOne [.ref 625] (hp (ps s L G)) (.inl (some (.int 0))) h2) (k : AW 8 mX2_parsed h2 20 [some (.ref 625), some (.int (b2i e)), none] [] oo hh) : AW 8 mX2_parsed (hp (ps s L G)) 20 [some (.ref 625), some (.int (b2i e)), none] [] oo hh := by
  refine AW.aload_n dX2_parsed_20 rfl rfl ?_
  refine AW.get ci2 18 (by decide) q1369 dX2_parsed_21 gM rfl rfl ?_
  refine AW.if_eq (tgt := 34) dX2_parsed_24 (by decide) rfl (fun c_ => by first | exact absurd c_ (by show ¬ G.2.2.2.1 = 0; rw [hw]; decide) | exact absurd (by show ¬ G.2.2.2.1 = 0; rw [hw]; decide) c_ | exact Bool.noConfusion (c_.symm.trans (by show ¬ G.2.2.2.1 = 0; rw [hw]; decide))) (fun _ => ?_)
  refine AW.aload_n dX2_parsed_27 rfl rfl ?_
  refine AW.callV (Y := mX2_behindOne) (n := 0) (hr) (by decide) (by decide) rfl gM q1582 q1584 qs79 q141 q1585 dX2_parsed_28 (by decide +kernel) rfl rfl (Nat.le_of_ble_eq_true rfl) rfl ?_
  refine AW.goto (tgt := 38) dX2_parsed_31 (by decide) ?_
  refine AW.istore_n (i := 2) dX2_parsed_38 rfl rfl (Nat.le_of_ble_eq_true rfl) rfl rfl ?_
  refine AW.iload_n dX2_parsed_39 rfl rfl ?_
  refine AW.if_le (tgt := 45) dX2_parsed_40 (by decide) rfl (fun _ => ?_) (fun c_ => by first | exact absurd c_ (by decide) | exact absurd (by decide) c_ | exact absurd c_ (not_not_intro (by decide)) | exact Bool.noConfusion (c_.symm.trans (by decide)))
  refine AW.iload_n dX2_parsed_45 rfl rfl ?_
  refine AW.if_ne (tgt := 52) dX2_parsed_46 (by decide) rfl (fun c_ => by first | exact absurd c_ (by decide) | exact absurd (by decide) c_ | exact Bool.noConfusion (c_.symm.trans (by decide))) (fun _ => ?_)
  refine AW.goto (tgt := 20) dX2_parsed_49 (by decide) ?_
  exact AW.fg 2 rfl k
theorem parsed_wf {s : Sg} {L : Lq} {G : Gq} {e : Bool} {oo : OR} {h2 hh : AH} {r : Int32} (hw : G.2.2.2.1 = 1) (hr : Run 7 mX2_behindOne [.ref 625] (hp (ps s L G)) (.inl (some (.int r))) h2) (h0 : 0 < r) : AW 8 mX2_parsed (hp (ps s L G)) 20 [some (.ref 625), some (.int (b2i e)), none] [] (.inl (some (.int r))) h2 := by
  refine AW.aload_n dX2_parsed_20 rfl rfl ?_
  refine AW.get ci2 18 (by decide) q1369 dX2_parsed_21 gM rfl rfl ?_
  refine AW.if_eq (tgt := 34) dX2_parsed_24 (by decide) rfl (fun c_ => by first | exact absurd c_ (by show ¬ G.2.2.2.1 = 0; rw [hw]; decide) | exact absurd (by show ¬ G.2.2.2.1 = 0; rw [hw]; decide) c_ | exact Bool.noConfusion (c_.symm.trans (by show ¬ G.2.2.2.1 = 0; rw [hw]; decide))) (fun _ => ?_)
  refine AW.aload_n dX2_parsed_27 rfl rfl ?_
  refine AW.callV (Y := mX2_behindOne) (n := 0) (hr) (by decide) (by decide) rfl gM q1582 q1584 qs79 q141 q1585 dX2_parsed_28 (by decide +kernel) rfl rfl (Nat.le_of_ble_eq_true rfl) rfl ?_
  refine AW.goto (tgt := 38) dX2_parsed_31 (by decide) ?_
  refine AW.istore_n (i := 2) dX2_parsed_38 rfl rfl (Nat.le_of_ble_eq_true rfl) rfl rfl ?_
  refine AW.iload_n dX2_parsed_39 rfl rfl ?_
  refine AW.if_le (tgt := 45) dX2_parsed_40 (by decide) rfl (fun c_ => by first | exact absurd c_ (Int32.not_le.mpr h0) | exact absurd (Int32.not_le.mpr h0) c_ | exact Bool.noConfusion (c_.symm.trans (Int32.not_le.mpr h0))) (fun _ => ?_)
  refine AW.iload_n dX2_parsed_43 rfl rfl ?_
  exact AW.iretE dX2_parsed_44 rfl rfl rfl rfl
theorem parsed_e1 {s : Sg} {L : Lq} {X PA : Nat → Int32} {base : Nat} {C : Cd} {Q : List Int32} {o : Int32} {e : Bool} (hq : pileR PA Q) (hql : Q.length ≤ 160) (he : Run 7 mX2_behindOne [.ref 625] (hp (ps s L (gq X base C PA Q o true))) (.inl (some (.int (-1)))) (hp (ps s L (gq X base C PA Q o true)))) (hb : (shutL Q || (e && !comparedL Q)) = true) : AW 8 mX2_parsed (hp (ps s L (gq X base C PA Q o true))) 20 [some (.ref 625), some (.int (b2i e)), none] [] (.inl (some (.int 1))) (hp (ps s L (gq X base C PA Q o true))) := by
  refine AW.aload_n dX2_parsed_20 rfl rfl ?_
  refine AW.get ci2 18 (by decide) q1369 dX2_parsed_21 gM rfl rfl ?_
  refine AW.if_eq (tgt := 34) dX2_parsed_24 (by decide) rfl (fun c_ => by first | exact absurd c_ (by show ¬ (1 : Int32) = 0; decide) | exact absurd (by show ¬ (1 : Int32) = 0; decide) c_ | exact Bool.noConfusion (c_.symm.trans (by show ¬ (1 : Int32) = 0; decide))) (fun _ => ?_)
  refine AW.aload_n dX2_parsed_27 rfl rfl ?_
  refine AW.callV (Y := mX2_behindOne) (n := 0) (he) (by decide) (by decide) rfl gM q1582 q1584 qs79 q141 q1585 dX2_parsed_28 (by decide +kernel) rfl rfl (Nat.le_of_ble_eq_true rfl) rfl ?_
  refine AW.goto (tgt := 38) dX2_parsed_31 (by decide) ?_
  refine AW.istore_n (i := 2) dX2_parsed_38 rfl rfl (Nat.le_of_ble_eq_true rfl) rfl rfl ?_
  refine AW.iload_n dX2_parsed_39 rfl rfl ?_
  refine AW.if_le (tgt := 45) dX2_parsed_40 (by decide) rfl (fun _ => ?_) (fun c_ => by first | exact absurd c_ (by decide) | exact absurd (by decide) c_ | exact absurd c_ (not_not_intro (by decide)) | exact Bool.noConfusion (c_.symm.trans (by decide)))
  refine AW.iload_n dX2_parsed_45 rfl rfl ?_
  refine AW.if_ne (tgt := 52) dX2_parsed_46 (by decide) rfl (fun _ => ?_) (fun c_ => by first | exact absurd c_ (by decide) | exact absurd (by decide) c_ | exact absurd c_ (not_not_intro (by decide)) | exact Bool.noConfusion (c_.symm.trans (by decide)))
  refine AW.aload_n dX2_parsed_52 rfl rfl ?_
  refine AW.callV (Y := mX2_isShut) (n := 0) (r_X2_isShut hq hql) (by decide) (by decide) rfl gM q1590 q1592 qs81 q141 q1593 dX2_parsed_53 (by decide +kernel) rfl rfl (Nat.le_of_ble_eq_true rfl) rfl ?_
  refine AW.if_neB (tgt := 70) dX2_parsed_56 (by decide) rfl (fun k56 => ?_) (fun k56 => ?_)
  · refine AW.iconst (v := 1) dX2_parsed_70 (by decide) rfl ?_
    exact AW.iretE dX2_parsed_71 rfl rfl rfl rfl
  · refine AW.iload_n dX2_parsed_59 rfl rfl ?_
    refine AW.if_eqB (tgt := 72) dX2_parsed_60 (by decide) rfl (fun k60 => ?_) (fun k60 => ?_)
    · exact absurd hb (by rw [k56, show e = false from k60]; simp)
    · refine AW.aload_n dX2_parsed_63 rfl rfl ?_
      refine AW.callV (Y := mX2_isCompared) (n := 0) (r_X2_isCompared hq hql) (by decide) (by decide) rfl gM q1594 q1596 qs82 q141 q1597 dX2_parsed_64 (by decide +kernel) rfl rfl (Nat.le_of_ble_eq_true rfl) rfl ?_
      refine AW.if_neB (tgt := 72) dX2_parsed_67 (by decide) rfl (fun k67 => ?_) (fun k67 => ?_)
      · exact absurd hb (by rw [k56, k67]; cases e <;> decide)
      · refine AW.iconst (v := 1) dX2_parsed_70 (by decide) rfl ?_
        exact AW.iretE dX2_parsed_71 rfl rfl rfl rfl
theorem parsed_e0 {s : Sg} {L : Lq} {X PA : Nat → Int32} {base : Nat} {C : Cd} {Q : List Int32} {o : Int32} {e : Bool} (hb0 : s.S 12 + 97 = nI base) (hb2 : base + 608 ≤ 2820) (hq : pileR PA Q) (hql : Q.length ≤ 160) (hcq : C.length + Q.length ≤ 304) (he : Run 7 mX2_behindOne [.ref 625] (hp (ps s L (gq X base C PA Q o true))) (.inl (some (.int (-1)))) (hp (ps s L (gq X base C PA Q o true)))) (hb : (shutL Q || (e && !comparedL Q)) = false) : AW 8 mX2_parsed (hp (ps s L (gq X base C PA Q o true))) 20 [some (.ref 625), some (.int (b2i e)), none] [] (.inl (some (.int 0))) (hp (ps s L (gq X base (settleL 1 Q C o).2.1 PA (settleL 1 Q C o).1 (settleL 1 Q C o).2.2 true))) := by
  refine AW.aload_n dX2_parsed_20 rfl rfl ?_
  refine AW.get ci2 18 (by decide) q1369 dX2_parsed_21 gM rfl rfl ?_
  refine AW.if_eq (tgt := 34) dX2_parsed_24 (by decide) rfl (fun c_ => by first | exact absurd c_ (by show ¬ (1 : Int32) = 0; decide) | exact absurd (by show ¬ (1 : Int32) = 0; decide) c_ | exact Bool.noConfusion (c_.symm.trans (by show ¬ (1 : Int32) = 0; decide))) (fun _ => ?_)
  refine AW.aload_n dX2_parsed_27 rfl rfl ?_
  refine AW.callV (Y := mX2_behindOne) (n := 0) (he) (by decide) (by decide) rfl gM q1582 q1584 qs79 q141 q1585 dX2_parsed_28 (by decide +kernel) rfl rfl (Nat.le_of_ble_eq_true rfl) rfl ?_
  refine AW.goto (tgt := 38) dX2_parsed_31 (by decide) ?_
  refine AW.istore_n (i := 2) dX2_parsed_38 rfl rfl (Nat.le_of_ble_eq_true rfl) rfl rfl ?_
  refine AW.iload_n dX2_parsed_39 rfl rfl ?_
  refine AW.if_le (tgt := 45) dX2_parsed_40 (by decide) rfl (fun _ => ?_) (fun c_ => by first | exact absurd c_ (by decide) | exact absurd (by decide) c_ | exact absurd c_ (not_not_intro (by decide)) | exact Bool.noConfusion (c_.symm.trans (by decide)))
  refine AW.iload_n dX2_parsed_45 rfl rfl ?_
  refine AW.if_ne (tgt := 52) dX2_parsed_46 (by decide) rfl (fun _ => ?_) (fun c_ => by first | exact absurd c_ (by decide) | exact absurd (by decide) c_ | exact absurd c_ (not_not_intro (by decide)) | exact Bool.noConfusion (c_.symm.trans (by decide)))
  refine AW.aload_n dX2_parsed_52 rfl rfl ?_
  refine AW.callV (Y := mX2_isShut) (n := 0) (r_X2_isShut hq hql) (by decide) (by decide) rfl gM q1590 q1592 qs81 q141 q1593 dX2_parsed_53 (by decide +kernel) rfl rfl (Nat.le_of_ble_eq_true rfl) rfl ?_
  refine AW.if_neB (tgt := 70) dX2_parsed_56 (by decide) rfl (fun k56 => ?_) (fun k56 => ?_)
  · exact absurd hb (by rw [k56]; simp)
  · refine AW.iload_n dX2_parsed_59 rfl rfl ?_
    refine AW.if_eqB (tgt := 72) dX2_parsed_60 (by decide) rfl (fun k60 => ?_) (fun k60 => ?_)
    · refine AW.aload_n dX2_parsed_72 rfl rfl ?_
      refine AW.iconst (v := 1) dX2_parsed_73 (by decide) rfl ?_
      refine AW.callV (Y := mX2_settle) (n := 1) (r_X2_settle hb0 hb2 hq hql hcq 1) (by decide) (by decide) rfl gM q1605 q1607 qs84 q141 q1608 dX2_parsed_74 (by decide +kernel) rfl rfl (Nat.le_of_ble_eq_true rfl) rfl ?_
      refine AW.iconst (v := 0) dX2_parsed_77 (by decide) rfl ?_
      exact AW.iretE dX2_parsed_78 rfl rfl rfl rfl
    · refine AW.aload_n dX2_parsed_63 rfl rfl ?_
      refine AW.callV (Y := mX2_isCompared) (n := 0) (r_X2_isCompared hq hql) (by decide) (by decide) rfl gM q1594 q1596 qs82 q141 q1597 dX2_parsed_64 (by decide +kernel) rfl rfl (Nat.le_of_ble_eq_true rfl) rfl ?_
      refine AW.if_neB (tgt := 72) dX2_parsed_67 (by decide) rfl (fun k67 => ?_) (fun k67 => ?_)
      · refine AW.aload_n dX2_parsed_72 rfl rfl ?_
        refine AW.iconst (v := 1) dX2_parsed_73 (by decide) rfl ?_
        refine AW.callV (Y := mX2_settle) (n := 1) (r_X2_settle hb0 hb2 hq hql hcq 1) (by decide) (by decide) rfl gM q1605 q1607 qs84 q141 q1608 dX2_parsed_74 (by decide +kernel) rfl rfl (Nat.le_of_ble_eq_true rfl) rfl ?_
        refine AW.iconst (v := 0) dX2_parsed_77 (by decide) rfl ?_
        exact AW.iretE dX2_parsed_78 rfl rfl rfl rfl
      · exact absurd hb (by rw [show e = true from k60, k67]; simp)
