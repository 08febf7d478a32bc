/-! MODEL 35: one begins (printed by tools/m35.py) -/
set_option maxRecDepth 100000
theorem nameF_1 {B : Nat → Int32} {L : Lq} {p : Nat} (h : ¬ L.2.2.1 = 2) : nameF B L p = -1 := if_neg h
theorem r_X2_beginOne_2 {s : Sg} {L : Lq} {X PA : Nat → Int32} {base : Nat} {C : Cd} {Q : List Int32} {o : Int32} {w : Bool} (ht : L.2.2.1 = 1) (hu : 9999 < L.2.2.2.1) : Run 7 mX2_beginOne [.ref 625] (hp (ps s L (gq X base C PA Q o w))) (.inl (some (.int (2)))) (hp (ps s L (gq X base C PA Q o w))) := by
  refine Run.of rfl (Nat.le_of_ble_eq_true rfl) rfl ?_
  refine AW.aload_n dX2_beginOne_0 rfl rfl ?_
  refine AW.get ci2 9 (by decide) q1360 dX2_beginOne_1 gM rfl rfl ?_
  refine AW.iconst (v := 1) dX2_beginOne_4 (by decide) rfl ?_
  refine AW.icmp_ne (tgt := 20) dX2_beginOne_5 (by decide) rfl (fun c_ => by first | exact absurd c_ ht | exact absurd ht c_ | exact Bool.noConfusion (c_.symm.trans ht)) (fun _ => ?_)
  refine AW.aload_n dX2_beginOne_8 rfl rfl ?_
  refine AW.get ci2 10 (by decide) q1361 dX2_beginOne_9 gM rfl rfl ?_
  refine AW.sipush (v := 9999) dX2_beginOne_12 (by decide) rfl ?_
  refine AW.icmp_le (tgt := 20) dX2_beginOne_15 (by decide) rfl (fun c_ => by first | exact absurd c_ (Int32.not_le.mpr hu) | exact absurd (Int32.not_le.mpr hu) c_ | exact Bool.noConfusion (c_.symm.trans (Int32.not_le.mpr hu))) (fun _ => ?_)
  refine AW.iconst (v := 2) dX2_beginOne_18 (by decide) rfl ?_
  exact AW.iretE dX2_beginOne_19 rfl rfl rfl rfl
theorem r_X2_beginOne_n {s : Sg} {L : Lq} {X PA : Nat → Int32} {base : Nat} {C : Cd} {Q : List Int32} {o : Int32} {w : Bool} (hb : s.S 12 + 97 = nI base) (hb2 : base + 608 ≤ 2820) (hcq : C.length + Q.length < 304) (n : Nat) (hn : s.S 4 = nI n) (h300 : n ≤ 300) (hby : ∀ k, k < n → 0 ≤ s.A 629 k) (k0 : Nat) (hk0 : k0 ≤ n) (hL : L.1 = nI k0) (p : Nat) (hp1 : L.2.1 = nI p) (hpl : p ≤ n) (ht : L.2.2.1 = 1) (hu : ¬ 9999 < L.2.2.2.1) {r : Int32} {h2 : AH} (hE : Run 4 mX2_endOne [.ref 625] (hp (ps s (lexL (s.A 629) n k0 L) (gq X base (C ++ [(0, L.2.2.2.1)]) PA Q o w))) (.inl (some (.int r))) h2) : Run 7 mX2_beginOne [.ref 625] (hp (ps s L (gq X base C PA Q o w))) (.inl (some (.int (r)))) h2 := by
  have hnm : nameF (byteF (s.A 629) n) L p = -1 := nameF_1 (by rw [ht]; decide)
  refine Run.of rfl (Nat.le_of_ble_eq_true rfl) rfl ?_
  refine AW.aload_n dX2_beginOne_0 rfl rfl ?_
  refine AW.get ci2 9 (by decide) q1360 dX2_beginOne_1 gM rfl rfl ?_
  refine AW.iconst (v := 1) dX2_beginOne_4 (by decide) rfl ?_
  refine AW.icmp_ne (tgt := 20) dX2_beginOne_5 (by decide) rfl (fun c_ => by first | exact absurd c_ ht | exact absurd ht c_ | exact Bool.noConfusion (c_.symm.trans ht)) (fun _ => ?_)
  refine AW.aload_n dX2_beginOne_8 rfl rfl ?_
  refine AW.get ci2 10 (by decide) q1361 dX2_beginOne_9 gM rfl rfl ?_
  refine AW.sipush (v := 9999) dX2_beginOne_12 (by decide) rfl ?_
  refine AW.icmp_le (tgt := 20) dX2_beginOne_15 (by decide) rfl (fun _ => ?_) (fun c_ => by first | exact absurd c_ (Int32.not_lt.mp hu) | exact absurd (Int32.not_lt.mp hu) c_ | exact absurd c_ (not_not_intro (Int32.not_lt.mp hu)) | exact Bool.noConfusion (c_.symm.trans (Int32.not_lt.mp hu)))
  refine AW.aload_n dX2_beginOne_20 rfl rfl ?_
  have hnq := r_X2_nameOf (s := s) (G := gq X base C PA Q o w) n hn h300 p hp1 hpl
  refine AW.callV (Y := mX2_nameOf) (n := 0) (hnq) (by decide) (by decide) rfl gM q1621 q1623 qs88 q141 q1624 dX2_beginOne_21 (by decide +kernel) rfl rfl (Nat.le_of_ble_eq_true rfl) rfl ?_
  refine AW.istore_n (i := 1) dX2_beginOne_24 rfl rfl (Nat.le_of_ble_eq_true rfl) rfl rfl ?_
  refine AW.iload_n dX2_beginOne_25 rfl rfl ?_
  refine AW.bipush (v := 7) dX2_beginOne_26 (by decide) rfl ?_
  refine AW.icmp_ne (tgt := 41) dX2_beginOne_28 (by decide) rfl (fun _ => ?_) (fun c_ => by first | exact absurd c_ (by rw [hnm]; decide) | exact absurd (by rw [hnm]; decide) c_ | exact absurd c_ (not_not_intro (by rw [hnm]; decide)) | exact Bool.noConfusion (c_.symm.trans (by rw [hnm]; decide)))
  refine AW.aload_n dX2_beginOne_41 rfl rfl ?_
  refine AW.get ci2 9 (by decide) q1360 dX2_beginOne_42 gM rfl rfl ?_
  refine AW.iconst (v := 1) dX2_beginOne_45 (by decide) rfl ?_
  refine AW.icmp_eq (tgt := 53) dX2_beginOne_46 (by decide) rfl (fun _ => ?_) (fun c_ => by first | exact absurd c_ ht | exact absurd ht c_ | exact absurd c_ (not_not_intro ht) | exact Bool.noConfusion (c_.symm.trans ht))
  refine AW.aload_n dX2_beginOne_53 rfl rfl ?_
  refine AW.aload_n dX2_beginOne_54 rfl rfl ?_
  refine AW.get ci2 9 (by decide) q1360 dX2_beginOne_55 gM rfl rfl ?_
  refine AW.iconst (v := 1) dX2_beginOne_58 (by decide) rfl ?_
  refine AW.icmp_ne (tgt := 66) dX2_beginOne_59 (by decide) rfl (fun c_ => by first | exact absurd c_ ht | exact absurd ht c_ | exact Bool.noConfusion (c_.symm.trans ht)) (fun _ => ?_)
  refine AW.iconst (v := 0) dX2_beginOne_62 (by decide) rfl ?_
  refine AW.goto (tgt := 67) dX2_beginOne_63 (by decide) ?_
  refine AW.aload_n dX2_beginOne_67 rfl rfl ?_
  refine AW.get ci2 9 (by decide) q1360 dX2_beginOne_68 gM rfl rfl ?_
  refine AW.iconst (v := 1) dX2_beginOne_71 (by decide) rfl ?_
  refine AW.icmp_ne (tgt := 82) dX2_beginOne_72 (by decide) rfl (fun c_ => by first | exact absurd c_ ht | exact absurd ht c_ | exact Bool.noConfusion (c_.symm.trans ht)) (fun _ => ?_)
  refine AW.aload_n dX2_beginOne_75 rfl rfl ?_
  refine AW.get ci2 10 (by decide) q1361 dX2_beginOne_76 gM rfl rfl ?_
  refine AW.goto (tgt := 83) dX2_beginOne_79 (by decide) ?_
  refine AW.callV (Y := mX2_emit) (n := 2) (r_X2_emit hb hb2 (by omega) 0 _) (by decide) (by decide) rfl gM q1609 q1611 qs85 q141 q1612 dX2_beginOne_83 (by decide +kernel) rfl rfl (Nat.le_of_ble_eq_true rfl) rfl ?_
  refine AW.aload_n dX2_beginOne_86 rfl rfl ?_
  refine AW.callV (Y := mX2_nextToken) (n := 0) (r_X2_nextToken n hn h300 hby k0 hk0 hL) (by decide) (by decide) rfl gM q1501 q1503 qs66 q141 q1504 dX2_beginOne_87 (by decide +kernel) rfl rfl (Nat.le_of_ble_eq_true rfl) rfl ?_
  refine AW.aload_n dX2_beginOne_90 rfl rfl ?_
  refine AW.callV (Y := mX2_endOne) (n := 0) (hE) (by decide) (by decide) rfl gM q1613 q1615 qs86 q141 q1616 dX2_beginOne_91 (by decide +kernel) rfl rfl (Nat.le_of_ble_eq_true rfl) rfl ?_
  exact AW.iretE dX2_beginOne_94 rfl rfl rfl rfl
theorem r_X2_beginOne_5 {s : Sg} {L : Lq} {X PA : Nat → Int32} {base : Nat} {C : Cd} {Q : List Int32} {o : Int32} {w : Bool} (n : Nat) (hn : s.S 4 = nI n) (h300 : n ≤ 300) (p : Nat) (hp1 : L.2.1 = nI p) (hpl : p ≤ n) (ht : ¬ L.2.2.1 = 1) (hnm : nameF (byteF (s.A 629) n) L p = 7) (hs : s.S 14 = 2) : Run 7 mX2_beginOne [.ref 625] (hp (ps s L (gq X base C PA Q o w))) (.inl (some (.int (5)))) (hp (ps s L (gq X base C PA Q o w))) := by
  refine Run.of rfl (Nat.le_of_ble_eq_true rfl) rfl ?_
  refine AW.aload_n dX2_beginOne_0 rfl rfl ?_
  refine AW.get ci2 9 (by decide) q1360 dX2_beginOne_1 gM rfl rfl ?_
  refine AW.iconst (v := 1) dX2_beginOne_4 (by decide) rfl ?_
  refine AW.icmp_ne (tgt := 20) dX2_beginOne_5 (by decide) rfl (fun _ => ?_) (fun c_ => by first | exact absurd c_ ht | exact absurd ht c_ | exact absurd c_ (not_not_intro ht) | exact Bool.noConfusion (c_.symm.trans ht))
  refine AW.aload_n dX2_beginOne_20 rfl rfl ?_
  have hnq := r_X2_nameOf (s := s) (G := gq X base C PA Q o w) n hn h300 p hp1 hpl
  refine AW.callV (Y := mX2_nameOf) (n := 0) (hnq) (by decide) (by decide) rfl gM q1621 q1623 qs88 q141 q1624 dX2_beginOne_21 (by decide +kernel) rfl rfl (Nat.le_of_ble_eq_true rfl) rfl ?_
  refine AW.istore_n (i := 1) dX2_beginOne_24 rfl rfl (Nat.le_of_ble_eq_true rfl) rfl rfl ?_
  refine AW.iload_n dX2_beginOne_25 rfl rfl ?_
  refine AW.bipush (v := 7) dX2_beginOne_26 (by decide) rfl ?_
  refine AW.icmp_ne (tgt := 41) dX2_beginOne_28 (by decide) rfl (fun c_ => by first | exact absurd c_ hnm | exact absurd hnm c_ | exact Bool.noConfusion (c_.symm.trans hnm)) (fun _ => ?_)
  refine AW.aload_n dX2_beginOne_31 rfl rfl ?_
  refine AW.get ci2 14 (by decide) q1365 dX2_beginOne_32 gM rfl rfl ?_
  refine AW.iconst (v := 2) dX2_beginOne_35 (by decide) rfl ?_
  refine AW.icmp_ne (tgt := 41) dX2_beginOne_36 (by decide) rfl (fun c_ => by first | exact absurd c_ hs | exact absurd hs c_ | exact Bool.noConfusion (c_.symm.trans hs)) (fun _ => ?_)
  refine AW.iconst (v := 5) dX2_beginOne_39 (by decide) rfl ?_
  exact AW.iretE dX2_beginOne_40 rfl rfl rfl rfl
theorem r_X2_beginOne_m {s : Sg} {L : Lq} {X PA : Nat → Int32} {base : Nat} {C : Cd} {Q : List Int32} {o : Int32} {w : Bool} (hb : s.S 12 + 97 = nI base) (hb2 : base + 608 ≤ 2820) (hcq : C.length + Q.length < 304) (n : Nat) (hn : s.S 4 = nI n) (h300 : n ≤ 300) (hby : ∀ k, k < n → 0 ≤ s.A 629 k) (k0 : Nat) (hk0 : k0 ≤ n) (hL : L.1 = nI k0) (p : Nat) (hp1 : L.2.1 = nI p) (hpl : p ≤ n) (ht : ¬ L.2.2.1 = 1) (hnm : 0 ≤ nameF (byteF (s.A 629) n) L p) (hs : ¬ (nameF (byteF (s.A 629) n) L p = 7 ∧ s.S 14 = 2)) {r : Int32} {h2 : AH} (hE : Run 4 mX2_endOne [.ref 625] (hp (ps s (lexL (s.A 629) n k0 L) (gq X base (C ++ [(1, nameF (byteF (s.A 629) n) L p)]) PA Q o w))) (.inl (some (.int r))) h2) : Run 7 mX2_beginOne [.ref 625] (hp (ps s L (gq X base C PA Q o w))) (.inl (some (.int (r)))) h2 := by
  refine Run.of rfl (Nat.le_of_ble_eq_true rfl) rfl ?_
  refine AW.aload_n dX2_beginOne_0 rfl rfl ?_
  refine AW.get ci2 9 (by decide) q1360 dX2_beginOne_1 gM rfl rfl ?_
  refine AW.iconst (v := 1) dX2_beginOne_4 (by decide) rfl ?_
  refine AW.icmp_ne (tgt := 20) dX2_beginOne_5 (by decide) rfl (fun _ => ?_) (fun c_ => by first | exact absurd c_ ht | exact absurd ht c_ | exact absurd c_ (not_not_intro ht) | exact Bool.noConfusion (c_.symm.trans ht))
  refine AW.aload_n dX2_beginOne_20 rfl rfl ?_
  have hnq := r_X2_nameOf (s := s) (G := gq X base C PA Q o w) n hn h300 p hp1 hpl
  refine AW.callV (Y := mX2_nameOf) (n := 0) (hnq) (by decide) (by decide) rfl gM q1621 q1623 qs88 q141 q1624 dX2_beginOne_21 (by decide +kernel) rfl rfl (Nat.le_of_ble_eq_true rfl) rfl ?_
  refine AW.istore_n (i := 1) dX2_beginOne_24 rfl rfl (Nat.le_of_ble_eq_true rfl) rfl rfl ?_
  refine AW.iload_n dX2_beginOne_25 rfl rfl ?_
  refine AW.bipush (v := 7) dX2_beginOne_26 (by decide) rfl ?_
  refine AW.icmp_ne (tgt := 41) dX2_beginOne_28 (by decide) rfl (fun k28 => ?_) (fun k28 => ?_)
  · refine AW.aload_n dX2_beginOne_41 rfl rfl ?_
    refine AW.get ci2 9 (by decide) q1360 dX2_beginOne_42 gM rfl rfl ?_
    refine AW.iconst (v := 1) dX2_beginOne_45 (by decide) rfl ?_
    refine AW.icmp_eq (tgt := 53) dX2_beginOne_46 (by decide) rfl (fun c_ => by first | exact absurd c_ ht | exact absurd ht c_ | exact Bool.noConfusion (c_.symm.trans ht)) (fun _ => ?_)
    refine AW.iload_n dX2_beginOne_49 rfl rfl ?_
    refine AW.if_lt (tgt := 95) dX2_beginOne_50 (by decide) rfl (fun c_ => by first | exact absurd c_ (Int32.not_lt.mpr hnm) | exact absurd (Int32.not_lt.mpr hnm) c_ | exact Bool.noConfusion (c_.symm.trans (Int32.not_lt.mpr hnm))) (fun _ => ?_)
    refine AW.aload_n dX2_beginOne_53 rfl rfl ?_
    refine AW.aload_n dX2_beginOne_54 rfl rfl ?_
    refine AW.get ci2 9 (by decide) q1360 dX2_beginOne_55 gM rfl rfl ?_
    refine AW.iconst (v := 1) dX2_beginOne_58 (by decide) rfl ?_
    refine AW.icmp_ne (tgt := 66) dX2_beginOne_59 (by decide) rfl (fun _ => ?_) (fun c_ => by first | exact absurd c_ ht | exact absurd ht c_ | exact absurd c_ (not_not_intro ht) | exact Bool.noConfusion (c_.symm.trans ht))
    refine AW.iconst (v := 1) dX2_beginOne_66 (by decide) rfl ?_
    refine AW.aload_n dX2_beginOne_67 rfl rfl ?_
    refine AW.get ci2 9 (by decide) q1360 dX2_beginOne_68 gM rfl rfl ?_
    refine AW.iconst (v := 1) dX2_beginOne_71 (by decide) rfl ?_
    refine AW.icmp_ne (tgt := 82) dX2_beginOne_72 (by decide) rfl (fun _ => ?_) (fun c_ => by first | exact absurd c_ ht | exact absurd ht c_ | exact absurd c_ (not_not_intro ht) | exact Bool.noConfusion (c_.symm.trans ht))
    refine AW.iload_n dX2_beginOne_82 rfl rfl ?_
    refine AW.callV (Y := mX2_emit) (n := 2) (r_X2_emit hb hb2 (by omega) 1 _) (by decide) (by decide) rfl gM q1609 q1611 qs85 q141 q1612 dX2_beginOne_83 (by decide +kernel) rfl rfl (Nat.le_of_ble_eq_true rfl) rfl ?_
    refine AW.aload_n dX2_beginOne_86 rfl rfl ?_
    refine AW.callV (Y := mX2_nextToken) (n := 0) (r_X2_nextToken n hn h300 hby k0 hk0 hL) (by decide) (by decide) rfl gM q1501 q1503 qs66 q141 q1504 dX2_beginOne_87 (by decide +kernel) rfl rfl (Nat.le_of_ble_eq_true rfl) rfl ?_
    refine AW.aload_n dX2_beginOne_90 rfl rfl ?_
    refine AW.callV (Y := mX2_endOne) (n := 0) (hE) (by decide) (by decide) rfl gM q1613 q1615 qs86 q141 q1616 dX2_beginOne_91 (by decide +kernel) rfl rfl (Nat.le_of_ble_eq_true rfl) rfl ?_
    exact AW.iretE dX2_beginOne_94 rfl rfl rfl rfl
  · refine AW.aload_n dX2_beginOne_31 rfl rfl ?_
    refine AW.get ci2 14 (by decide) q1365 dX2_beginOne_32 gM rfl rfl ?_
    refine AW.iconst (v := 2) dX2_beginOne_35 (by decide) rfl ?_
    refine AW.icmp_ne (tgt := 41) dX2_beginOne_36 (by decide) rfl (fun k36 => ?_) (fun k36 => ?_)
    · refine AW.aload_n dX2_beginOne_41 rfl rfl ?_
      refine AW.get ci2 9 (by decide) q1360 dX2_beginOne_42 gM rfl rfl ?_
      refine AW.iconst (v := 1) dX2_beginOne_45 (by decide) rfl ?_
      refine AW.icmp_eq (tgt := 53) dX2_beginOne_46 (by decide) rfl (fun c_ => by first | exact absurd c_ ht | exact absurd ht c_ | exact Bool.noConfusion (c_.symm.trans ht)) (fun _ => ?_)
      refine AW.iload_n dX2_beginOne_49 rfl rfl ?_
      refine AW.if_lt (tgt := 95) dX2_beginOne_50 (by decide) rfl (fun c_ => by first | exact absurd c_ (Int32.not_lt.mpr hnm) | exact absurd (Int32.not_lt.mpr hnm) c_ | exact Bool.noConfusion (c_.symm.trans (Int32.not_lt.mpr hnm))) (fun _ => ?_)
      refine AW.aload_n dX2_beginOne_53 rfl rfl ?_
      refine AW.aload_n dX2_beginOne_54 rfl rfl ?_
      refine AW.get ci2 9 (by decide) q1360 dX2_beginOne_55 gM rfl rfl ?_
      refine AW.iconst (v := 1) dX2_beginOne_58 (by decide) rfl ?_
      refine AW.icmp_ne (tgt := 66) dX2_beginOne_59 (by decide) rfl (fun _ => ?_) (fun c_ => by first | exact absurd c_ ht | exact absurd ht c_ | exact absurd c_ (not_not_intro ht) | exact Bool.noConfusion (c_.symm.trans ht))
      refine AW.iconst (v := 1) dX2_beginOne_66 (by decide) rfl ?_
      refine AW.aload_n dX2_beginOne_67 rfl rfl ?_
      refine AW.get ci2 9 (by decide) q1360 dX2_beginOne_68 gM rfl rfl ?_
      refine AW.iconst (v := 1) dX2_beginOne_71 (by decide) rfl ?_
      refine AW.icmp_ne (tgt := 82) dX2_beginOne_72 (by decide) rfl (fun _ => ?_) (fun c_ => by first | exact absurd c_ ht | exact absurd ht c_ | exact absurd c_ (not_not_intro ht) | exact Bool.noConfusion (c_.symm.trans ht))
      refine AW.iload_n dX2_beginOne_82 rfl rfl ?_
      refine AW.callV (Y := mX2_emit) (n := 2) (r_X2_emit hb hb2 (by omega) 1 _) (by decide) (by decide) rfl gM q1609 q1611 qs85 q141 q1612 dX2_beginOne_83 (by decide +kernel) rfl rfl (Nat.le_of_ble_eq_true rfl) rfl ?_
      refine AW.aload_n dX2_beginOne_86 rfl rfl ?_
      refine AW.callV (Y := mX2_nextToken) (n := 0) (r_X2_nextToken n hn h300 hby k0 hk0 hL) (by decide) (by decide) rfl gM q1501 q1503 qs66 q141 q1504 dX2_beginOne_87 (by decide +kernel) rfl rfl (Nat.le_of_ble_eq_true rfl) rfl ?_
      refine AW.aload_n dX2_beginOne_90 rfl rfl ?_
      refine AW.callV (Y := mX2_endOne) (n := 0) (hE) (by decide) (by decide) rfl gM q1613 q1615 qs86 q141 q1616 dX2_beginOne_91 (by decide +kernel) rfl rfl (Nat.le_of_ble_eq_true rfl) rfl ?_
      exact AW.iretE dX2_beginOne_94 rfl rfl rfl rfl
    · exact absurd ⟨k28, k36⟩ hs
theorem r_X2_beginOne_pt {s : Sg} {L : Lq} {X PA : Nat → Int32} {base : Nat} {C : Cd} {Q : List Int32} {o : Int32} {w : Bool} (hq : pileR PA Q) (hql : Q.length ≤ 160) (hq2 : Q.length < 160) (n : Nat) (hn : s.S 4 = nI n) (h300 : n ≤ 300) (hby : ∀ k, k < n → 0 ≤ s.A 629 k) (k0 : Nat) (hk0 : k0 ≤ n) (hL : L.1 = nI k0) (p : Nat) (hp1 : L.2.1 = nI p) (hpl : p ≤ n) (ht : ¬ L.2.2.1 = 1) (hnm : nameF (byteF (s.A 629) n) L p = -1) (h40 : L.2.2.1 = 40) (ho : ¬ o = 8) : Run 7 mX2_beginOne [.ref 625] (hp (ps s L (gq X base C PA Q o w))) (.inl (some (.int (0)))) (hp (ps s (lexL (s.A 629) n k0 L) (gq X base C (up PA Q.length 40) (40 :: Q) (o + 1) w))) := by
  refine Run.of rfl (Nat.le_of_ble_eq_true rfl) rfl ?_
  refine AW.aload_n dX2_beginOne_0 rfl rfl ?_
  refine AW.get ci2 9 (by decide) q1360 dX2_beginOne_1 gM rfl rfl ?_
  refine AW.iconst (v := 1) dX2_beginOne_4 (by decide) rfl ?_
  refine AW.icmp_ne (tgt := 20) dX2_beginOne_5 (by decide) rfl (fun _ => ?_) (fun c_ => by first | exact absurd c_ ht | exact absurd ht c_ | exact absurd c_ (not_not_intro ht) | exact Bool.noConfusion (c_.symm.trans ht))
  refine AW.aload_n dX2_beginOne_20 rfl rfl ?_
  have hnq := r_X2_nameOf (s := s) (G := gq X base C PA Q o w) n hn h300 p hp1 hpl
  refine AW.callV (Y := mX2_nameOf) (n := 0) (hnq) (by decide) (by decide) rfl gM q1621 q1623 qs88 q141 q1624 dX2_beginOne_21 (by decide +kernel) rfl rfl (Nat.le_of_ble_eq_true rfl) rfl ?_
  refine AW.istore_n (i := 1) dX2_beginOne_24 rfl rfl (Nat.le_of_ble_eq_true rfl) rfl rfl ?_
  refine AW.iload_n dX2_beginOne_25 rfl rfl ?_
  refine AW.bipush (v := 7) dX2_beginOne_26 (by decide) rfl ?_
  refine AW.icmp_ne (tgt := 41) dX2_beginOne_28 (by decide) rfl (fun _ => ?_) (fun c_ => by first | exact absurd c_ (by rw [hnm]; decide) | exact absurd (by rw [hnm]; decide) c_ | exact absurd c_ (not_not_intro (by rw [hnm]; decide)) | exact Bool.noConfusion (c_.symm.trans (by rw [hnm]; decide)))
  refine AW.aload_n dX2_beginOne_41 rfl rfl ?_
  refine AW.get ci2 9 (by decide) q1360 dX2_beginOne_42 gM rfl rfl ?_
  refine AW.iconst (v := 1) dX2_beginOne_45 (by decide) rfl ?_
  refine AW.icmp_eq (tgt := 53) dX2_beginOne_46 (by decide) rfl (fun c_ => by first | exact absurd c_ ht | exact absurd ht c_ | exact Bool.noConfusion (c_.symm.trans ht)) (fun _ => ?_)
  refine AW.iload_n dX2_beginOne_49 rfl rfl ?_
  refine AW.if_lt (tgt := 95) dX2_beginOne_50 (by decide) rfl (fun _ => ?_) (fun c_ => by first | exact absurd c_ (by rw [hnm]; decide) | exact absurd (by rw [hnm]; decide) c_ | exact absurd c_ (not_not_intro (by rw [hnm]; decide)) | exact Bool.noConfusion (c_.symm.trans (by rw [hnm]; decide)))
  refine AW.aload_n dX2_beginOne_95 rfl rfl ?_
  refine AW.get ci2 9 (by decide) q1360 dX2_beginOne_96 gM rfl rfl ?_
  refine AW.bipush (v := 40) dX2_beginOne_99 (by decide) rfl ?_
  refine AW.icmp_ne (tgt := 111) dX2_beginOne_101 (by decide) rfl (fun c_ => by first | exact absurd c_ h40 | exact absurd h40 c_ | exact Bool.noConfusion (c_.symm.trans h40)) (fun _ => ?_)
  refine AW.aload_n dX2_beginOne_104 rfl rfl ?_
  refine AW.bipush (v := 40) dX2_beginOne_105 (by decide) rfl ?_
  refine AW.callV (Y := mX2_opened) (n := 1) (r_X2_opened_t hq hql hq2 n hn h300 hby k0 hk0 hL 40 ho) (by decide) (by decide) rfl gM q1625 q1627 qs89 q141 q1628 dX2_beginOne_107 (by decide +kernel) rfl rfl (Nat.le_of_ble_eq_true rfl) rfl ?_
  exact AW.iretE dX2_beginOne_110 rfl rfl rfl rfl
theorem r_X2_beginOne_st {s : Sg} {L : Lq} {X PA : Nat → Int32} {base : Nat} {C : Cd} {Q : List Int32} {o : Int32} {w : Bool} (hq : pileR PA Q) (hql : Q.length ≤ 160) (hq2 : Q.length < 160) (n : Nat) (hn : s.S 4 = nI n) (h300 : n ≤ 300) (hby : ∀ k, k < n → 0 ≤ s.A 629 k) (k0 : Nat) (hk0 : k0 ≤ n) (hL : L.1 = nI k0) (p : Nat) (hp1 : L.2.1 = nI p) (hpl : p ≤ n) (ht : ¬ L.2.2.1 = 1) (hnm : nameF (byteF (s.A 629) n) L p = -1) (h45 : L.2.2.1 = 45) (ho : ¬ o = 8) : Run 7 mX2_beginOne [.ref 625] (hp (ps s L (gq X base C PA Q o w))) (.inl (some (.int (0)))) (hp (ps s (lexL (s.A 629) n k0 L) (gq X base C (up PA Q.length 2) (2 :: Q) (o + 1) w))) := by
  refine Run.of rfl (Nat.le_of_ble_eq_true rfl) rfl ?_
  refine AW.aload_n dX2_beginOne_0 rfl rfl ?_
  refine AW.get ci2 9 (by decide) q1360 dX2_beginOne_1 gM rfl rfl ?_
  refine AW.iconst (v := 1) dX2_beginOne_4 (by decide) rfl ?_
  refine AW.icmp_ne (tgt := 20) dX2_beginOne_5 (by decide) rfl (fun _ => ?_) (fun c_ => by first | exact absurd c_ ht | exact absurd ht c_ | exact absurd c_ (not_not_intro ht) | exact Bool.noConfusion (c_.symm.trans ht))
  refine AW.aload_n dX2_beginOne_20 rfl rfl ?_
  have hnq := r_X2_nameOf (s := s) (G := gq X base C PA Q o w) n hn h300 p hp1 hpl
  refine AW.callV (Y := mX2_nameOf) (n := 0) (hnq) (by decide) (by decide) rfl gM q1621 q1623 qs88 q141 q1624 dX2_beginOne_21 (by decide +kernel) rfl rfl (Nat.le_of_ble_eq_true rfl) rfl ?_
  refine AW.istore_n (i := 1) dX2_beginOne_24 rfl rfl (Nat.le_of_ble_eq_true rfl) rfl rfl ?_
  refine AW.iload_n dX2_beginOne_25 rfl rfl ?_
  refine AW.bipush (v := 7) dX2_beginOne_26 (by decide) rfl ?_
  refine AW.icmp_ne (tgt := 41) dX2_beginOne_28 (by decide) rfl (fun _ => ?_) (fun c_ => by first | exact absurd c_ (by rw [hnm]; decide) | exact absurd (by rw [hnm]; decide) c_ | exact absurd c_ (not_not_intro (by rw [hnm]; decide)) | exact Bool.noConfusion (c_.symm.trans (by rw [hnm]; decide)))
  refine AW.aload_n dX2_beginOne_41 rfl rfl ?_
  refine AW.get ci2 9 (by decide) q1360 dX2_beginOne_42 gM rfl rfl ?_
  refine AW.iconst (v := 1) dX2_beginOne_45 (by decide) rfl ?_
  refine AW.icmp_eq (tgt := 53) dX2_beginOne_46 (by decide) rfl (fun c_ => by first | exact absurd c_ ht | exact absurd ht c_ | exact Bool.noConfusion (c_.symm.trans ht)) (fun _ => ?_)
  refine AW.iload_n dX2_beginOne_49 rfl rfl ?_
  refine AW.if_lt (tgt := 95) dX2_beginOne_50 (by decide) rfl (fun _ => ?_) (fun c_ => by first | exact absurd c_ (by rw [hnm]; decide) | exact absurd (by rw [hnm]; decide) c_ | exact absurd c_ (not_not_intro (by rw [hnm]; decide)) | exact Bool.noConfusion (c_.symm.trans (by rw [hnm]; decide)))
  refine AW.aload_n dX2_beginOne_95 rfl rfl ?_
  refine AW.get ci2 9 (by decide) q1360 dX2_beginOne_96 gM rfl rfl ?_
  refine AW.bipush (v := 40) dX2_beginOne_99 (by decide) rfl ?_
  refine AW.icmp_ne (tgt := 111) dX2_beginOne_101 (by decide) rfl (fun _ => ?_) (fun c_ => by first | exact absurd c_ (by show ¬ L.2.2.1 = 40; rw [h45]; decide) | exact absurd (by show ¬ L.2.2.1 = 40; rw [h45]; decide) c_ | exact absurd c_ (not_not_intro (by show ¬ L.2.2.1 = 40; rw [h45]; decide)) | exact Bool.noConfusion (c_.symm.trans (by show ¬ L.2.2.1 = 40; rw [h45]; decide)))
  refine AW.aload_n dX2_beginOne_111 rfl rfl ?_
  refine AW.get ci2 9 (by decide) q1360 dX2_beginOne_112 gM rfl rfl ?_
  refine AW.bipush (v := 45) dX2_beginOne_115 (by decide) rfl ?_
  refine AW.icmp_ne (tgt := 126) dX2_beginOne_117 (by decide) rfl (fun c_ => by first | exact absurd c_ h45 | exact absurd h45 c_ | exact Bool.noConfusion (c_.symm.trans h45)) (fun _ => ?_)
  refine AW.aload_n dX2_beginOne_120 rfl rfl ?_
  refine AW.iconst (v := 2) dX2_beginOne_121 (by decide) rfl ?_
  refine AW.callV (Y := mX2_opened) (n := 1) (r_X2_opened_t hq hql hq2 n hn h300 hby k0 hk0 hL 2 ho) (by decide) (by decide) rfl gM q1625 q1627 qs89 q141 q1628 dX2_beginOne_122 (by decide +kernel) rfl rfl (Nat.le_of_ble_eq_true rfl) rfl ?_
  exact AW.iretE dX2_beginOne_125 rfl rfl rfl rfl
theorem r_X2_beginOne_dt {s : Sg} {L : Lq} {X PA : Nat → Int32} {base : Nat} {C : Cd} {Q : List Int32} {o : Int32} {w : Bool} (hq : pileR PA Q) (hql : Q.length ≤ 160) (hq2 : Q.length < 160) (n : Nat) (hn : s.S 4 = nI n) (h300 : n ≤ 300) (hby : ∀ k, k < n → 0 ≤ s.A 629 k) (k0 : Nat) (hk0 : k0 ≤ n) (hL : L.1 = nI k0) (p : Nat) (hp1 : L.2.1 = nI p) (hpl : p ≤ n) (ht : ¬ L.2.2.1 = 1) (hnm : nameF (byteF (s.A 629) n) L p = -1) (h4 : ¬ L.2.2.1 = 40) (h45 : ¬ L.2.2.1 = 45) (hd : isWd L (w5F 100 105 103 105 116) = true) (ho : ¬ o = 8) : Run 7 mX2_beginOne [.ref 625] (hp (ps s L (gq X base C PA Q o w))) (.inl (some (.int (0)))) (hp (ps s (lexL (s.A 629) n k0 L) (gq X base C (up PA Q.length 41) (41 :: Q) (o + 1) w))) := by
  refine Run.of rfl (Nat.le_of_ble_eq_true rfl) rfl ?_
  refine AW.aload_n dX2_beginOne_0 rfl rfl ?_
  refine AW.get ci2 9 (by decide) q1360 dX2_beginOne_1 gM rfl rfl ?_
  refine AW.iconst (v := 1) dX2_beginOne_4 (by decide) rfl ?_
  refine AW.icmp_ne (tgt := 20) dX2_beginOne_5 (by decide) rfl (fun _ => ?_) (fun c_ => by first | exact absurd c_ ht | exact absurd ht c_ | exact absurd c_ (not_not_intro ht) | exact Bool.noConfusion (c_.symm.trans ht))
  refine AW.aload_n dX2_beginOne_20 rfl rfl ?_
  have hnq := r_X2_nameOf (s := s) (G := gq X base C PA Q o w) n hn h300 p hp1 hpl
  refine AW.callV (Y := mX2_nameOf) (n := 0) (hnq) (by decide) (by decide) rfl gM q1621 q1623 qs88 q141 q1624 dX2_beginOne_21 (by decide +kernel) rfl rfl (Nat.le_of_ble_eq_true rfl) rfl ?_
  refine AW.istore_n (i := 1) dX2_beginOne_24 rfl rfl (Nat.le_of_ble_eq_true rfl) rfl rfl ?_
  refine AW.iload_n dX2_beginOne_25 rfl rfl ?_
  refine AW.bipush (v := 7) dX2_beginOne_26 (by decide) rfl ?_
  refine AW.icmp_ne (tgt := 41) dX2_beginOne_28 (by decide) rfl (fun _ => ?_) (fun c_ => by first | exact absurd c_ (by rw [hnm]; decide) | exact absurd (by rw [hnm]; decide) c_ | exact absurd c_ (not_not_intro (by rw [hnm]; decide)) | exact Bool.noConfusion (c_.symm.trans (by rw [hnm]; decide)))
  refine AW.aload_n dX2_beginOne_41 rfl rfl ?_
  refine AW.get ci2 9 (by decide) q1360 dX2_beginOne_42 gM rfl rfl ?_
  refine AW.iconst (v := 1) dX2_beginOne_45 (by decide) rfl ?_
  refine AW.icmp_eq (tgt := 53) dX2_beginOne_46 (by decide) rfl (fun c_ => by first | exact absurd c_ ht | exact absurd ht c_ | exact Bool.noConfusion (c_.symm.trans ht)) (fun _ => ?_)
  refine AW.iload_n dX2_beginOne_49 rfl rfl ?_
  refine AW.if_lt (tgt := 95) dX2_beginOne_50 (by decide) rfl (fun _ => ?_) (fun c_ => by first | exact absurd c_ (by rw [hnm]; decide) | exact absurd (by rw [hnm]; decide) c_ | exact absurd c_ (not_not_intro (by rw [hnm]; decide)) | exact Bool.noConfusion (c_.symm.trans (by rw [hnm]; decide)))
  refine AW.aload_n dX2_beginOne_95 rfl rfl ?_
  refine AW.get ci2 9 (by decide) q1360 dX2_beginOne_96 gM rfl rfl ?_
  refine AW.bipush (v := 40) dX2_beginOne_99 (by decide) rfl ?_
  refine AW.icmp_ne (tgt := 111) dX2_beginOne_101 (by decide) rfl (fun _ => ?_) (fun c_ => by first | exact absurd c_ h4 | exact absurd h4 c_ | exact absurd c_ (not_not_intro h4) | exact Bool.noConfusion (c_.symm.trans h4))
  refine AW.aload_n dX2_beginOne_111 rfl rfl ?_
  refine AW.get ci2 9 (by decide) q1360 dX2_beginOne_112 gM rfl rfl ?_
  refine AW.bipush (v := 45) dX2_beginOne_115 (by decide) rfl ?_
  refine AW.icmp_ne (tgt := 126) dX2_beginOne_117 (by decide) rfl (fun _ => ?_) (fun c_ => by first | exact absurd c_ h45 | exact absurd h45 c_ | exact absurd c_ (not_not_intro h45) | exact Bool.noConfusion (c_.symm.trans h45))
  refine AW.aload_n dX2_beginOne_126 rfl rfl ?_
  refine AW.bipush (v := 100) dX2_beginOne_127 (by decide) rfl ?_
  refine AW.bipush (v := 105) dX2_beginOne_129 (by decide) rfl ?_
  refine AW.bipush (v := 103) dX2_beginOne_131 (by decide) rfl ?_
  refine AW.bipush (v := 105) dX2_beginOne_133 (by decide) rfl ?_
  refine AW.bipush (v := 116) dX2_beginOne_135 (by decide) rfl ?_
  refine AW.callS (Y := mX2_w5) (n := 5) (r_X2_w5 _ _ _ _ _) (by decide) (by decide) q1528 q1529 q141 q1530 dX2_beginOne_137 (by decide +kernel) rfl rfl (Nat.le_of_ble_eq_true rfl) rfl ?_
  refine AW.callV (Y := mX2_isWord) (n := 1) (r_X2_isWord _) (by decide) (by decide) rfl gM q1540 q1542 qs70 q141 q1543 dX2_beginOne_140 (by decide +kernel) rfl rfl (Nat.le_of_ble_eq_true rfl) rfl ?_
  refine AW.if_eqB (tgt := 153) dX2_beginOne_143 (by decide) rfl (fun c_ => by first | exact absurd c_ hd | exact absurd hd c_ | exact Bool.noConfusion (c_.symm.trans hd)) (fun _ => ?_)
  refine AW.aload_n dX2_beginOne_146 rfl rfl ?_
  refine AW.bipush (v := 41) dX2_beginOne_147 (by decide) rfl ?_
  refine AW.callV (Y := mX2_opened) (n := 1) (r_X2_opened_t hq hql hq2 n hn h300 hby k0 hk0 hL 41 ho) (by decide) (by decide) rfl gM q1625 q1627 qs89 q141 q1628 dX2_beginOne_149 (by decide +kernel) rfl rfl (Nat.le_of_ble_eq_true rfl) rfl ?_
  exact AW.iretE dX2_beginOne_152 rfl rfl rfl rfl
theorem r_X2_beginOne_qt {s : Sg} {L : Lq} {X PA : Nat → Int32} {base : Nat} {C : Cd} {Q : List Int32} {o : Int32} {w : Bool} (hq : pileR PA Q) (hql : Q.length ≤ 160) (hq2 : Q.length < 160) (n : Nat) (hn : s.S 4 = nI n) (h300 : n ≤ 300) (hby : ∀ k, k < n → 0 ≤ s.A 629 k) (k0 : Nat) (hk0 : k0 ≤ n) (hL : L.1 = nI k0) (p : Nat) (hp1 : L.2.1 = nI p) (hpl : p ≤ n) (ht : ¬ L.2.2.1 = 1) (hnm : nameF (byteF (s.A 629) n) L p = -1) (h4 : ¬ L.2.2.1 = 40) (h45 : ¬ L.2.2.1 = 45) (hd : isWd L (w5F 100 105 103 105 116) = false) (hq9 : isWd L (w3F 110 111 116) = true) (e : Bool) (he : s.S 19 = b2i e) (ha : askL e Q = true) (ho : ¬ o = 8) : Run 7 mX2_beginOne [.ref 625] (hp (ps s L (gq X base C PA Q o w))) (.inl (some (.int (0)))) (hp (ps s (lexL (s.A 629) n k0 L) (gq X base C (up PA Q.length 20) (20 :: Q) (o + 1) w))) := by
  refine Run.of rfl (Nat.le_of_ble_eq_true rfl) rfl ?_
  refine AW.aload_n dX2_beginOne_0 rfl rfl ?_
  refine AW.get ci2 9 (by decide) q1360 dX2_beginOne_1 gM rfl rfl ?_
  refine AW.iconst (v := 1) dX2_beginOne_4 (by decide) rfl ?_
  refine AW.icmp_ne (tgt := 20) dX2_beginOne_5 (by decide) rfl (fun _ => ?_) (fun c_ => by first | exact absurd c_ ht | exact absurd ht c_ | exact absurd c_ (not_not_intro ht) | exact Bool.noConfusion (c_.symm.trans ht))
  refine AW.aload_n dX2_beginOne_20 rfl rfl ?_
  have hnq := r_X2_nameOf (s := s) (G := gq X base C PA Q o w) n hn h300 p hp1 hpl
  refine AW.callV (Y := mX2_nameOf) (n := 0) (hnq) (by decide) (by decide) rfl gM q1621 q1623 qs88 q141 q1624 dX2_beginOne_21 (by decide +kernel) rfl rfl (Nat.le_of_ble_eq_true rfl) rfl ?_
  refine AW.istore_n (i := 1) dX2_beginOne_24 rfl rfl (Nat.le_of_ble_eq_true rfl) rfl rfl ?_
  refine AW.iload_n dX2_beginOne_25 rfl rfl ?_
  refine AW.bipush (v := 7) dX2_beginOne_26 (by decide) rfl ?_
  refine AW.icmp_ne (tgt := 41) dX2_beginOne_28 (by decide) rfl (fun _ => ?_) (fun c_ => by first | exact absurd c_ (by rw [hnm]; decide) | exact absurd (by rw [hnm]; decide) c_ | exact absurd c_ (not_not_intro (by rw [hnm]; decide)) | exact Bool.noConfusion (c_.symm.trans (by rw [hnm]; decide)))
  refine AW.aload_n dX2_beginOne_41 rfl rfl ?_
  refine AW.get ci2 9 (by decide) q1360 dX2_beginOne_42 gM rfl rfl ?_
  refine AW.iconst (v := 1) dX2_beginOne_45 (by decide) rfl ?_
  refine AW.icmp_eq (tgt := 53) dX2_beginOne_46 (by decide) rfl (fun c_ => by first | exact absurd c_ ht | exact absurd ht c_ | exact Bool.noConfusion (c_.symm.trans ht)) (fun _ => ?_)
  refine AW.iload_n dX2_beginOne_49 rfl rfl ?_
  refine AW.if_lt (tgt := 95) dX2_beginOne_50 (by decide) rfl (fun _ => ?_) (fun c_ => by first | exact absurd c_ (by rw [hnm]; decide) | exact absurd (by rw [hnm]; decide) c_ | exact absurd c_ (not_not_intro (by rw [hnm]; decide)) | exact Bool.noConfusion (c_.symm.trans (by rw [hnm]; decide)))
  refine AW.aload_n dX2_beginOne_95 rfl rfl ?_
  refine AW.get ci2 9 (by decide) q1360 dX2_beginOne_96 gM rfl rfl ?_
  refine AW.bipush (v := 40) dX2_beginOne_99 (by decide) rfl ?_
  refine AW.icmp_ne (tgt := 111) dX2_beginOne_101 (by decide) rfl (fun _ => ?_) (fun c_ => by first | exact absurd c_ h4 | exact absurd h4 c_ | exact absurd c_ (not_not_intro h4) | exact Bool.noConfusion (c_.symm.trans h4))
  refine AW.aload_n dX2_beginOne_111 rfl rfl ?_
  refine AW.get ci2 9 (by decide) q1360 dX2_beginOne_112 gM rfl rfl ?_
  refine AW.bipush (v := 45) dX2_beginOne_115 (by decide) rfl ?_
  refine AW.icmp_ne (tgt := 126) dX2_beginOne_117 (by decide) rfl (fun _ => ?_) (fun c_ => by first | exact absurd c_ h45 | exact absurd h45 c_ | exact absurd c_ (not_not_intro h45) | exact Bool.noConfusion (c_.symm.trans h45))
  refine AW.aload_n dX2_beginOne_126 rfl rfl ?_
  refine AW.bipush (v := 100) dX2_beginOne_127 (by decide) rfl ?_
  refine AW.bipush (v := 105) dX2_beginOne_129 (by decide) rfl ?_
  refine AW.bipush (v := 103) dX2_beginOne_131 (by decide) rfl ?_
  refine AW.bipush (v := 105) dX2_beginOne_133 (by decide) rfl ?_
  refine AW.bipush (v := 116) dX2_beginOne_135 (by decide) rfl ?_
  refine AW.callS (Y := mX2_w5) (n := 5) (r_X2_w5 _ _ _ _ _) (by decide) (by decide) q1528 q1529 q141 q1530 dX2_beginOne_137 (by decide +kernel) rfl rfl (Nat.le_of_ble_eq_true rfl) rfl ?_
  refine AW.callV (Y := mX2_isWord) (n := 1) (r_X2_isWord _) (by decide) (by decide) rfl gM q1540 q1542 qs70 q141 q1543 dX2_beginOne_140 (by decide +kernel) rfl rfl (Nat.le_of_ble_eq_true rfl) rfl ?_
  refine AW.if_eqB (tgt := 153) dX2_beginOne_143 (by decide) rfl (fun _ => ?_) (fun c_ => by first | exact absurd c_ hd | exact absurd hd c_ | exact absurd c_ (not_not_intro hd) | exact Bool.noConfusion (c_.symm.trans hd))
  refine AW.aload_n dX2_beginOne_153 rfl rfl ?_
  refine AW.bipush (v := 110) dX2_beginOne_154 (by decide) rfl ?_
  refine AW.bipush (v := 111) dX2_beginOne_156 (by decide) rfl ?_
  refine AW.bipush (v := 116) dX2_beginOne_158 (by decide) rfl ?_
  refine AW.callS (Y := mX2_w3) (n := 3) (r_X2_w3 _ _ _) (by decide) (by decide) q1534 q1535 q141 q1536 dX2_beginOne_160 (by decide +kernel) rfl rfl (Nat.le_of_ble_eq_true rfl) rfl ?_
  refine AW.callV (Y := mX2_isWord) (n := 1) (r_X2_isWord _) (by decide) (by decide) rfl gM q1540 q1542 qs70 q141 q1543 dX2_beginOne_163 (by decide +kernel) rfl rfl (Nat.le_of_ble_eq_true rfl) rfl ?_
  refine AW.if_eqB (tgt := 185) dX2_beginOne_166 (by decide) rfl (fun c_ => by first | exact absurd c_ hq9 | exact absurd hq9 c_ | exact Bool.noConfusion (c_.symm.trans hq9)) (fun _ => ?_)
  refine AW.aload_n dX2_beginOne_169 rfl rfl ?_
  refine AW.callV (Y := mX2_isAskAhead) (n := 0) (r_X2_isAskAhead hq hql e he) (by decide) (by decide) rfl gM q1629 q1631 qs90 q141 q1632 dX2_beginOne_170 (by decide +kernel) rfl rfl (Nat.le_of_ble_eq_true rfl) rfl ?_
  refine AW.if_eqB (tgt := 185) dX2_beginOne_173 (by decide) rfl (fun c_ => by first | exact absurd c_ ha | exact absurd ha c_ | exact Bool.noConfusion (c_.symm.trans ha)) (fun _ => ?_)
  refine AW.aload_n dX2_beginOne_176 rfl rfl ?_
  refine AW.bipush (v := 20) dX2_beginOne_177 (by decide) rfl ?_
  refine AW.callV (Y := mX2_opened) (n := 1) (r_X2_opened_t hq hql hq2 n hn h300 hby k0 hk0 hL 20 ho) (by decide) (by decide) rfl gM q1625 q1627 qs89 q141 q1628 dX2_beginOne_179 (by decide +kernel) rfl rfl (Nat.le_of_ble_eq_true rfl) rfl ?_
  refine AW.goto (tgt := 186) dX2_beginOne_182 (by decide) ?_
  exact AW.iretE dX2_beginOne_186 rfl rfl rfl rfl
theorem r_X2_beginOne_pf {s : Sg} {L : Lq} {X PA : Nat → Int32} {base : Nat} {C : Cd} {Q : List Int32} {o : Int32} {w : Bool} (hq : pileR PA Q) (hql : Q.length ≤ 160) (n : Nat) (hn : s.S 4 = nI n) (h300 : n ≤ 300) (p : Nat) (hp1 : L.2.1 = nI p) (hpl : p ≤ n) (ht : ¬ L.2.2.1 = 1) (hnm : nameF (byteF (s.A 629) n) L p = -1) (h40 : L.2.2.1 = 40) (ho : o = 8) : Run 7 mX2_beginOne [.ref 625] (hp (ps s L (gq X base C PA Q o w))) (.inl (some (.int (3)))) (hp (ps s L (gq X base C PA Q o w))) := by
  refine Run.of rfl (Nat.le_of_ble_eq_true rfl) rfl ?_
  refine AW.aload_n dX2_beginOne_0 rfl rfl ?_
  refine AW.get ci2 9 (by decide) q1360 dX2_beginOne_1 gM rfl rfl ?_
  refine AW.iconst (v := 1) dX2_beginOne_4 (by decide) rfl ?_
  refine AW.icmp_ne (tgt := 20) dX2_beginOne_5 (by decide) rfl (fun _ => ?_) (fun c_ => by first | exact absurd c_ ht | exact absurd ht c_ | exact absurd c_ (not_not_intro ht) | exact Bool.noConfusion (c_.symm.trans ht))
  refine AW.aload_n dX2_beginOne_20 rfl rfl ?_
  have hnq := r_X2_nameOf (s := s) (G := gq X base C PA Q o w) n hn h300 p hp1 hpl
  refine AW.callV (Y := mX2_nameOf) (n := 0) (hnq) (by decide) (by decide) rfl gM q1621 q1623 qs88 q141 q1624 dX2_beginOne_21 (by decide +kernel) rfl rfl (Nat.le_of_ble_eq_true rfl) rfl ?_
  refine AW.istore_n (i := 1) dX2_beginOne_24 rfl rfl (Nat.le_of_ble_eq_true rfl) rfl rfl ?_
  refine AW.iload_n dX2_beginOne_25 rfl rfl ?_
  refine AW.bipush (v := 7) dX2_beginOne_26 (by decide) rfl ?_
  refine AW.icmp_ne (tgt := 41) dX2_beginOne_28 (by decide) rfl (fun _ => ?_) (fun c_ => by first | exact absurd c_ (by rw [hnm]; decide) | exact absurd (by rw [hnm]; decide) c_ | exact absurd c_ (not_not_intro (by rw [hnm]; decide)) | exact Bool.noConfusion (c_.symm.trans (by rw [hnm]; decide)))
  refine AW.aload_n dX2_beginOne_41 rfl rfl ?_
  refine AW.get ci2 9 (by decide) q1360 dX2_beginOne_42 gM rfl rfl ?_
  refine AW.iconst (v := 1) dX2_beginOne_45 (by decide) rfl ?_
  refine AW.icmp_eq (tgt := 53) dX2_beginOne_46 (by decide) rfl (fun c_ => by first | exact absurd c_ ht | exact absurd ht c_ | exact Bool.noConfusion (c_.symm.trans ht)) (fun _ => ?_)
  refine AW.iload_n dX2_beginOne_49 rfl rfl ?_
  refine AW.if_lt (tgt := 95) dX2_beginOne_50 (by decide) rfl (fun _ => ?_) (fun c_ => by first | exact absurd c_ (by rw [hnm]; decide) | exact absurd (by rw [hnm]; decide) c_ | exact absurd c_ (not_not_intro (by rw [hnm]; decide)) | exact Bool.noConfusion (c_.symm.trans (by rw [hnm]; decide)))
  refine AW.aload_n dX2_beginOne_95 rfl rfl ?_
  refine AW.get ci2 9 (by decide) q1360 dX2_beginOne_96 gM rfl rfl ?_
  refine AW.bipush (v := 40) dX2_beginOne_99 (by decide) rfl ?_
  refine AW.icmp_ne (tgt := 111) dX2_beginOne_101 (by decide) rfl (fun c_ => by first | exact absurd c_ h40 | exact absurd h40 c_ | exact Bool.noConfusion (c_.symm.trans h40)) (fun _ => ?_)
  refine AW.aload_n dX2_beginOne_104 rfl rfl ?_
  refine AW.bipush (v := 40) dX2_beginOne_105 (by decide) rfl ?_
  refine AW.callV (Y := mX2_opened) (n := 1) (r_X2_opened_f 40 ho) (by decide) (by decide) rfl gM q1625 q1627 qs89 q141 q1628 dX2_beginOne_107 (by decide +kernel) rfl rfl (Nat.le_of_ble_eq_true rfl) rfl ?_
  exact AW.iretE dX2_beginOne_110 rfl rfl rfl rfl
theorem r_X2_beginOne_sf {s : Sg} {L : Lq} {X PA : Nat → Int32} {base : Nat} {C : Cd} {Q : List Int32} {o : Int32} {w : Bool} (hq : pileR PA Q) (hql : Q.length ≤ 160) (n : Nat) (hn : s.S 4 = nI n) (h300 : n ≤ 300) (p : Nat) (hp1 : L.2.1 = nI p) (hpl : p ≤ n) (ht : ¬ L.2.2.1 = 1) (hnm : nameF (byteF (s.A 629) n) L p = -1) (h45 : L.2.2.1 = 45) (ho : o = 8) : Run 7 mX2_beginOne [.ref 625] (hp (ps s L (gq X base C PA Q o w))) (.inl (some (.int (3)))) (hp (ps s L (gq X base C PA Q o w))) := by
  refine Run.of rfl (Nat.le_of_ble_eq_true rfl) rfl ?_
  refine AW.aload_n dX2_beginOne_0 rfl rfl ?_
  refine AW.get ci2 9 (by decide) q1360 dX2_beginOne_1 gM rfl rfl ?_
  refine AW.iconst (v := 1) dX2_beginOne_4 (by decide) rfl ?_
  refine AW.icmp_ne (tgt := 20) dX2_beginOne_5 (by decide) rfl (fun _ => ?_) (fun c_ => by first | exact absurd c_ ht | exact absurd ht c_ | exact absurd c_ (not_not_intro ht) | exact Bool.noConfusion (c_.symm.trans ht))
  refine AW.aload_n dX2_beginOne_20 rfl rfl ?_
  have hnq := r_X2_nameOf (s := s) (G := gq X base C PA Q o w) n hn h300 p hp1 hpl
  refine AW.callV (Y := mX2_nameOf) (n := 0) (hnq) (by decide) (by decide) rfl gM q1621 q1623 qs88 q141 q1624 dX2_beginOne_21 (by decide +kernel) rfl rfl (Nat.le_of_ble_eq_true rfl) rfl ?_
  refine AW.istore_n (i := 1) dX2_beginOne_24 rfl rfl (Nat.le_of_ble_eq_true rfl) rfl rfl ?_
  refine AW.iload_n dX2_beginOne_25 rfl rfl ?_
  refine AW.bipush (v := 7) dX2_beginOne_26 (by decide) rfl ?_
  refine AW.icmp_ne (tgt := 41) dX2_beginOne_28 (by decide) rfl (fun _ => ?_) (fun c_ => by first | exact absurd c_ (by rw [hnm]; decide) | exact absurd (by rw [hnm]; decide) c_ | exact absurd c_ (not_not_intro (by rw [hnm]; decide)) | exact Bool.noConfusion (c_.symm.trans (by rw [hnm]; decide)))
  refine AW.aload_n dX2_beginOne_41 rfl rfl ?_
  refine AW.get ci2 9 (by decide) q1360 dX2_beginOne_42 gM rfl rfl ?_
  refine AW.iconst (v := 1) dX2_beginOne_45 (by decide) rfl ?_
  refine AW.icmp_eq (tgt := 53) dX2_beginOne_46 (by decide) rfl (fun c_ => by first | exact absurd c_ ht | exact absurd ht c_ | exact Bool.noConfusion (c_.symm.trans ht)) (fun _ => ?_)
  refine AW.iload_n dX2_beginOne_49 rfl rfl ?_
  refine AW.if_lt (tgt := 95) dX2_beginOne_50 (by decide) rfl (fun _ => ?_) (fun c_ => by first | exact absurd c_ (by rw [hnm]; decide) | exact absurd (by rw [hnm]; decide) c_ | exact absurd c_ (not_not_intro (by rw [hnm]; decide)) | exact Bool.noConfusion (c_.symm.trans (by rw [hnm]; decide)))
  refine AW.aload_n dX2_beginOne_95 rfl rfl ?_
  refine AW.get ci2 9 (by decide) q1360 dX2_beginOne_96 gM rfl rfl ?_
  refine AW.bipush (v := 40) dX2_beginOne_99 (by decide) rfl ?_
  refine AW.icmp_ne (tgt := 111) dX2_beginOne_101 (by decide) rfl (fun _ => ?_) (fun c_ => by first | exact absurd c_ (by show ¬ L.2.2.1 = 40; rw [h45]; decide) | exact absurd (by show ¬ L.2.2.1 = 40; rw [h45]; decide) c_ | exact absurd c_ (not_not_intro (by show ¬ L.2.2.1 = 40; rw [h45]; decide)) | exact Bool.noConfusion (c_.symm.trans (by show ¬ L.2.2.1 = 40; rw [h45]; decide)))
  refine AW.aload_n dX2_beginOne_111 rfl rfl ?_
  refine AW.get ci2 9 (by decide) q1360 dX2_beginOne_112 gM rfl rfl ?_
  refine AW.bipush (v := 45) dX2_beginOne_115 (by decide) rfl ?_
  refine AW.icmp_ne (tgt := 126) dX2_beginOne_117 (by decide) rfl (fun c_ => by first | exact absurd c_ h45 | exact absurd h45 c_ | exact Bool.noConfusion (c_.symm.trans h45)) (fun _ => ?_)
  refine AW.aload_n dX2_beginOne_120 rfl rfl ?_
  refine AW.iconst (v := 2) dX2_beginOne_121 (by decide) rfl ?_
  refine AW.callV (Y := mX2_opened) (n := 1) (r_X2_opened_f 2 ho) (by decide) (by decide) rfl gM q1625 q1627 qs89 q141 q1628 dX2_beginOne_122 (by decide +kernel) rfl rfl (Nat.le_of_ble_eq_true rfl) rfl ?_
  exact AW.iretE dX2_beginOne_125 rfl rfl rfl rfl
theorem r_X2_beginOne_df {s : Sg} {L : Lq} {X PA : Nat → Int32} {base : Nat} {C : Cd} {Q : List Int32} {o : Int32} {w : Bool} (hq : pileR PA Q) (hql : Q.length ≤ 160) (n : Nat) (hn : s.S 4 = nI n) (h300 : n ≤ 300) (p : Nat) (hp1 : L.2.1 = nI p) (hpl : p ≤ n) (ht : ¬ L.2.2.1 = 1) (hnm : nameF (byteF (s.A 629) n) L p = -1) (h4 : ¬ L.2.2.1 = 40) (h45 : ¬ L.2.2.1 = 45) (hd : isWd L (w5F 100 105 103 105 116) = true) (ho : o = 8) : Run 7 mX2_beginOne [.ref 625] (hp (ps s L (gq X base C PA Q o w))) (.inl (some (.int (3)))) (hp (ps s L (gq X base C PA Q o w))) := by
  refine Run.of rfl (Nat.le_of_ble_eq_true rfl) rfl ?_
  refine AW.aload_n dX2_beginOne_0 rfl rfl ?_
  refine AW.get ci2 9 (by decide) q1360 dX2_beginOne_1 gM rfl rfl ?_
  refine AW.iconst (v := 1) dX2_beginOne_4 (by decide) rfl ?_
  refine AW.icmp_ne (tgt := 20) dX2_beginOne_5 (by decide) rfl (fun _ => ?_) (fun c_ => by first | exact absurd c_ ht | exact absurd ht c_ | exact absurd c_ (not_not_intro ht) | exact Bool.noConfusion (c_.symm.trans ht))
  refine AW.aload_n dX2_beginOne_20 rfl rfl ?_
  have hnq := r_X2_nameOf (s := s) (G := gq X base C PA Q o w) n hn h300 p hp1 hpl
  refine AW.callV (Y := mX2_nameOf) (n := 0) (hnq) (by decide) (by decide) rfl gM q1621 q1623 qs88 q141 q1624 dX2_beginOne_21 (by decide +kernel) rfl rfl (Nat.le_of_ble_eq_true rfl) rfl ?_
  refine AW.istore_n (i := 1) dX2_beginOne_24 rfl rfl (Nat.le_of_ble_eq_true rfl) rfl rfl ?_
  refine AW.iload_n dX2_beginOne_25 rfl rfl ?_
  refine AW.bipush (v := 7) dX2_beginOne_26 (by decide) rfl ?_
  refine AW.icmp_ne (tgt := 41) dX2_beginOne_28 (by decide) rfl (fun _ => ?_) (fun c_ => by first | exact absurd c_ (by rw [hnm]; decide) | exact absurd (by rw [hnm]; decide) c_ | exact absurd c_ (not_not_intro (by rw [hnm]; decide)) | exact Bool.noConfusion (c_.symm.trans (by rw [hnm]; decide)))
  refine AW.aload_n dX2_beginOne_41 rfl rfl ?_
  refine AW.get ci2 9 (by decide) q1360 dX2_beginOne_42 gM rfl rfl ?_
  refine AW.iconst (v := 1) dX2_beginOne_45 (by decide) rfl ?_
  refine AW.icmp_eq (tgt := 53) dX2_beginOne_46 (by decide) rfl (fun c_ => by first | exact absurd c_ ht | exact absurd ht c_ | exact Bool.noConfusion (c_.symm.trans ht)) (fun _ => ?_)
  refine AW.iload_n dX2_beginOne_49 rfl rfl ?_
  refine AW.if_lt (tgt := 95) dX2_beginOne_50 (by decide) rfl (fun _ => ?_) (fun c_ => by first | exact absurd c_ (by rw [hnm]; decide) | exact absurd (by rw [hnm]; decide) c_ | exact absurd c_ (not_not_intro (by rw [hnm]; decide)) | exact Bool.noConfusion (c_.symm.trans (by rw [hnm]; decide)))
  refine AW.aload_n dX2_beginOne_95 rfl rfl ?_
  refine AW.get ci2 9 (by decide) q1360 dX2_beginOne_96 gM rfl rfl ?_
  refine AW.bipush (v := 40) dX2_beginOne_99 (by decide) rfl ?_
  refine AW.icmp_ne (tgt := 111) dX2_beginOne_101 (by decide) rfl (fun _ => ?_) (fun c_ => by first | exact absurd c_ h4 | exact absurd h4 c_ | exact absurd c_ (not_not_intro h4) | exact Bool.noConfusion (c_.symm.trans h4))
  refine AW.aload_n dX2_beginOne_111 rfl rfl ?_
  refine AW.get ci2 9 (by decide) q1360 dX2_beginOne_112 gM rfl rfl ?_
  refine AW.bipush (v := 45) dX2_beginOne_115 (by decide) rfl ?_
  refine AW.icmp_ne (tgt := 126) dX2_beginOne_117 (by decide) rfl (fun _ => ?_) (fun c_ => by first | exact absurd c_ h45 | exact absurd h45 c_ | exact absurd c_ (not_not_intro h45) | exact Bool.noConfusion (c_.symm.trans h45))
  refine AW.aload_n dX2_beginOne_126 rfl rfl ?_
  refine AW.bipush (v := 100) dX2_beginOne_127 (by decide) rfl ?_
  refine AW.bipush (v := 105) dX2_beginOne_129 (by decide) rfl ?_
  refine AW.bipush (v := 103) dX2_beginOne_131 (by decide) rfl ?_
  refine AW.bipush (v := 105) dX2_beginOne_133 (by decide) rfl ?_
  refine AW.bipush (v := 116) dX2_beginOne_135 (by decide) rfl ?_
  refine AW.callS (Y := mX2_w5) (n := 5) (r_X2_w5 _ _ _ _ _) (by decide) (by decide) q1528 q1529 q141 q1530 dX2_beginOne_137 (by decide +kernel) rfl rfl (Nat.le_of_ble_eq_true rfl) rfl ?_
  refine AW.callV (Y := mX2_isWord) (n := 1) (r_X2_isWord _) (by decide) (by decide) rfl gM q1540 q1542 qs70 q141 q1543 dX2_beginOne_140 (by decide +kernel) rfl rfl (Nat.le_of_ble_eq_true rfl) rfl ?_
  refine AW.if_eqB (tgt := 153) dX2_beginOne_143 (by decide) rfl (fun c_ => by first | exact absurd c_ hd | exact absurd hd c_ | exact Bool.noConfusion (c_.symm.trans hd)) (fun _ => ?_)
  refine AW.aload_n dX2_beginOne_146 rfl rfl ?_
  refine AW.bipush (v := 41) dX2_beginOne_147 (by decide) rfl ?_
  refine AW.callV (Y := mX2_opened) (n := 1) (r_X2_opened_f 41 ho) (by decide) (by decide) rfl gM q1625 q1627 qs89 q141 q1628 dX2_beginOne_149 (by decide +kernel) rfl rfl (Nat.le_of_ble_eq_true rfl) rfl ?_
  exact AW.iretE dX2_beginOne_152 rfl rfl rfl rfl
theorem r_X2_beginOne_qf {s : Sg} {L : Lq} {X PA : Nat → Int32} {base : Nat} {C : Cd} {Q : List Int32} {o : Int32} {w : Bool} (hq : pileR PA Q) (hql : Q.length ≤ 160) (n : Nat) (hn : s.S 4 = nI n) (h300 : n ≤ 300) (p : Nat) (hp1 : L.2.1 = nI p) (hpl : p ≤ n) (ht : ¬ L.2.2.1 = 1) (hnm : nameF (byteF (s.A 629) n) L p = -1) (h4 : ¬ L.2.2.1 = 40) (h45 : ¬ L.2.2.1 = 45) (hd : isWd L (w5F 100 105 103 105 116) = false) (hq9 : isWd L (w3F 110 111 116) = true) (e : Bool) (he : s.S 19 = b2i e) (ha : askL e Q = true) (ho : o = 8) : Run 7 mX2_beginOne [.ref 625] (hp (ps s L (gq X base C PA Q o w))) (.inl (some (.int (3)))) (hp (ps s L (gq X base C PA Q o w))) := by
  refine Run.of rfl (Nat.le_of_ble_eq_true rfl) rfl ?_
  refine AW.aload_n dX2_beginOne_0 rfl rfl ?_
  refine AW.get ci2 9 (by decide) q1360 dX2_beginOne_1 gM rfl rfl ?_
  refine AW.iconst (v := 1) dX2_beginOne_4 (by decide) rfl ?_
  refine AW.icmp_ne (tgt := 20) dX2_beginOne_5 (by decide) rfl (fun _ => ?_) (fun c_ => by first | exact absurd c_ ht | exact absurd ht c_ | exact absurd c_ (not_not_intro ht) | exact Bool.noConfusion (c_.symm.trans ht))
  refine AW.aload_n dX2_beginOne_20 rfl rfl ?_
  have hnq := r_X2_nameOf (s := s) (G := gq X base C PA Q o w) n hn h300 p hp1 hpl
  refine AW.callV (Y := mX2_nameOf) (n := 0) (hnq) (by decide) (by decide) rfl gM q1621 q1623 qs88 q141 q1624 dX2_beginOne_21 (by decide +kernel) rfl rfl (Nat.le_of_ble_eq_true rfl) rfl ?_
  refine AW.istore_n (i := 1) dX2_beginOne_24 rfl rfl (Nat.le_of_ble_eq_true rfl) rfl rfl ?_
  refine AW.iload_n dX2_beginOne_25 rfl rfl ?_
  refine AW.bipush (v := 7) dX2_beginOne_26 (by decide) rfl ?_
  refine AW.icmp_ne (tgt := 41) dX2_beginOne_28 (by decide) rfl (fun _ => ?_) (fun c_ => by first | exact absurd c_ (by rw [hnm]; decide) | exact absurd (by rw [hnm]; decide) c_ | exact absurd c_ (not_not_intro (by rw [hnm]; decide)) | exact Bool.noConfusion (c_.symm.trans (by rw [hnm]; decide)))
  refine AW.aload_n dX2_beginOne_41 rfl rfl ?_
  refine AW.get ci2 9 (by decide) q1360 dX2_beginOne_42 gM rfl rfl ?_
  refine AW.iconst (v := 1) dX2_beginOne_45 (by decide) rfl ?_
  refine AW.icmp_eq (tgt := 53) dX2_beginOne_46 (by decide) rfl (fun c_ => by first | exact absurd c_ ht | exact absurd ht c_ | exact Bool.noConfusion (c_.symm.trans ht)) (fun _ => ?_)
  refine AW.iload_n dX2_beginOne_49 rfl rfl ?_
  refine AW.if_lt (tgt := 95) dX2_beginOne_50 (by decide) rfl (fun _ => ?_) (fun c_ => by first | exact absurd c_ (by rw [hnm]; decide) | exact absurd (by rw [hnm]; decide) c_ | exact absurd c_ (not_not_intro (by rw [hnm]; decide)) | exact Bool.noConfusion (c_.symm.trans (by rw [hnm]; decide)))
  refine AW.aload_n dX2_beginOne_95 rfl rfl ?_
  refine AW.get ci2 9 (by decide) q1360 dX2_beginOne_96 gM rfl rfl ?_
  refine AW.bipush (v := 40) dX2_beginOne_99 (by decide) rfl ?_
  refine AW.icmp_ne (tgt := 111) dX2_beginOne_101 (by decide) rfl (fun _ => ?_) (fun c_ => by first | exact absurd c_ h4 | exact absurd h4 c_ | exact absurd c_ (not_not_intro h4) | exact Bool.noConfusion (c_.symm.trans h4))
  refine AW.aload_n dX2_beginOne_111 rfl rfl ?_
  refine AW.get ci2 9 (by decide) q1360 dX2_beginOne_112 gM rfl rfl ?_
  refine AW.bipush (v := 45) dX2_beginOne_115 (by decide) rfl ?_
  refine AW.icmp_ne (tgt := 126) dX2_beginOne_117 (by decide) rfl (fun _ => ?_) (fun c_ => by first | exact absurd c_ h45 | exact absurd h45 c_ | exact absurd c_ (not_not_intro h45) | exact Bool.noConfusion (c_.symm.trans h45))
  refine AW.aload_n dX2_beginOne_126 rfl rfl ?_
  refine AW.bipush (v := 100) dX2_beginOne_127 (by decide) rfl ?_
  refine AW.bipush (v := 105) dX2_beginOne_129 (by decide) rfl ?_
  refine AW.bipush (v := 103) dX2_beginOne_131 (by decide) rfl ?_
  refine AW.bipush (v := 105) dX2_beginOne_133 (by decide) rfl ?_
  refine AW.bipush (v := 116) dX2_beginOne_135 (by decide) rfl ?_
  refine AW.callS (Y := mX2_w5) (n := 5) (r_X2_w5 _ _ _ _ _) (by decide) (by decide) q1528 q1529 q141 q1530 dX2_beginOne_137 (by decide +kernel) rfl rfl (Nat.le_of_ble_eq_true rfl) rfl ?_
  refine AW.callV (Y := mX2_isWord) (n := 1) (r_X2_isWord _) (by decide) (by decide) rfl gM q1540 q1542 qs70 q141 q1543 dX2_beginOne_140 (by decide +kernel) rfl rfl (Nat.le_of_ble_eq_true rfl) rfl ?_
  refine AW.if_eqB (tgt := 153) dX2_beginOne_143 (by decide) rfl (fun _ => ?_) (fun c_ => by first | exact absurd c_ hd | exact absurd hd c_ | exact absurd c_ (not_not_intro hd) | exact Bool.noConfusion (c_.symm.trans hd))
  refine AW.aload_n dX2_beginOne_153 rfl rfl ?_
  refine AW.bipush (v := 110) dX2_beginOne_154 (by decide) rfl ?_
  refine AW.bipush (v := 111) dX2_beginOne_156 (by decide) rfl ?_
  refine AW.bipush (v := 116) dX2_beginOne_158 (by decide) rfl ?_
  refine AW.callS (Y := mX2_w3) (n := 3) (r_X2_w3 _ _ _) (by decide) (by decide) q1534 q1535 q141 q1536 dX2_beginOne_160 (by decide +kernel) rfl rfl (Nat.le_of_ble_eq_true rfl) rfl ?_
  refine AW.callV (Y := mX2_isWord) (n := 1) (r_X2_isWord _) (by decide) (by decide) rfl gM q1540 q1542 qs70 q141 q1543 dX2_beginOne_163 (by decide +kernel) rfl rfl (Nat.le_of_ble_eq_true rfl) rfl ?_
  refine AW.if_eqB (tgt := 185) dX2_beginOne_166 (by decide) rfl (fun c_ => by first | exact absurd c_ hq9 | exact absurd hq9 c_ | exact Bool.noConfusion (c_.symm.trans hq9)) (fun _ => ?_)
  refine AW.aload_n dX2_beginOne_169 rfl rfl ?_
  refine AW.callV (Y := mX2_isAskAhead) (n := 0) (r_X2_isAskAhead hq hql e he) (by decide) (by decide) rfl gM q1629 q1631 qs90 q141 q1632 dX2_beginOne_170 (by decide +kernel) rfl rfl (Nat.le_of_ble_eq_true rfl) rfl ?_
  refine AW.if_eqB (tgt := 185) dX2_beginOne_173 (by decide) rfl (fun c_ => by first | exact absurd c_ ha | exact absurd ha c_ | exact Bool.noConfusion (c_.symm.trans ha)) (fun _ => ?_)
  refine AW.aload_n dX2_beginOne_176 rfl rfl ?_
  refine AW.bipush (v := 20) dX2_beginOne_177 (by decide) rfl ?_
  refine AW.callV (Y := mX2_opened) (n := 1) (r_X2_opened_f 20 ho) (by decide) (by decide) rfl gM q1625 q1627 qs89 q141 q1628 dX2_beginOne_179 (by decide +kernel) rfl rfl (Nat.le_of_ble_eq_true rfl) rfl ?_
  refine AW.goto (tgt := 186) dX2_beginOne_182 (by decide) ?_
  exact AW.iretE dX2_beginOne_186 rfl rfl rfl rfl
theorem r_X2_beginOne_1 {s : Sg} {L : Lq} {X PA : Nat → Int32} {base : Nat} {C : Cd} {Q : List Int32} {o : Int32} {w : Bool} (hq : pileR PA Q) (hql : Q.length ≤ 160) (n : Nat) (hn : s.S 4 = nI n) (h300 : n ≤ 300) (p : Nat) (hp1 : L.2.1 = nI p) (hpl : p ≤ n) (ht : ¬ L.2.2.1 = 1) (hnm : nameF (byteF (s.A 629) n) L p = -1) (h4 : ¬ L.2.2.1 = 40) (h45 : ¬ L.2.2.1 = 45) (hd : isWd L (w5F 100 105 103 105 116) = false) (e : Bool) (he : s.S 19 = b2i e) (ha : (isWd L (w3F 110 111 116) && askL e Q) = false) : Run 7 mX2_beginOne [.ref 625] (hp (ps s L (gq X base C PA Q o w))) (.inl (some (.int (1)))) (hp (ps s L (gq X base C PA Q o w))) := by
  refine Run.of rfl (Nat.le_of_ble_eq_true rfl) rfl ?_
  refine AW.aload_n dX2_beginOne_0 rfl rfl ?_
  refine AW.get ci2 9 (by decide) q1360 dX2_beginOne_1 gM rfl rfl ?_
  refine AW.iconst (v := 1) dX2_beginOne_4 (by decide) rfl ?_
  refine AW.icmp_ne (tgt := 20) dX2_beginOne_5 (by decide) rfl (fun _ => ?_) (fun c_ => by first | exact absurd c_ ht | exact absurd ht c_ | exact absurd c_ (not_not_intro ht) | exact Bool.noConfusion (c_.symm.trans ht))
  refine AW.aload_n dX2_beginOne_20 rfl rfl ?_
  have hnq := r_X2_nameOf (s := s) (G := gq X base C PA Q o w) n hn h300 p hp1 hpl
  refine AW.callV (Y := mX2_nameOf) (n := 0) (hnq) (by decide) (by decide) rfl gM q1621 q1623 qs88 q141 q1624 dX2_beginOne_21 (by decide +kernel) rfl rfl (Nat.le_of_ble_eq_true rfl) rfl ?_
  refine AW.istore_n (i := 1) dX2_beginOne_24 rfl rfl (Nat.le_of_ble_eq_true rfl) rfl rfl ?_
  refine AW.iload_n dX2_beginOne_25 rfl rfl ?_
  refine AW.bipush (v := 7) dX2_beginOne_26 (by decide) rfl ?_
  refine AW.icmp_ne (tgt := 41) dX2_beginOne_28 (by decide) rfl (fun _ => ?_) (fun c_ => by first | exact absurd c_ (by rw [hnm]; decide) | exact absurd (by rw [hnm]; decide) c_ | exact absurd c_ (not_not_intro (by rw [hnm]; decide)) | exact Bool.noConfusion (c_.symm.trans (by rw [hnm]; decide)))
  refine AW.aload_n dX2_beginOne_41 rfl rfl ?_
  refine AW.get ci2 9 (by decide) q1360 dX2_beginOne_42 gM rfl rfl ?_
  refine AW.iconst (v := 1) dX2_beginOne_45 (by decide) rfl ?_
  refine AW.icmp_eq (tgt := 53) dX2_beginOne_46 (by decide) rfl (fun c_ => by first | exact absurd c_ ht | exact absurd ht c_ | exact Bool.noConfusion (c_.symm.trans ht)) (fun _ => ?_)
  refine AW.iload_n dX2_beginOne_49 rfl rfl ?_
  refine AW.if_lt (tgt := 95) dX2_beginOne_50 (by decide) rfl (fun _ => ?_) (fun c_ => by first | exact absurd c_ (by rw [hnm]; decide) | exact absurd (by rw [hnm]; decide) c_ | exact absurd c_ (not_not_intro (by rw [hnm]; decide)) | exact Bool.noConfusion (c_.symm.trans (by rw [hnm]; decide)))
  refine AW.aload_n dX2_beginOne_95 rfl rfl ?_
  refine AW.get ci2 9 (by decide) q1360 dX2_beginOne_96 gM rfl rfl ?_
  refine AW.bipush (v := 40) dX2_beginOne_99 (by decide) rfl ?_
  refine AW.icmp_ne (tgt := 111) dX2_beginOne_101 (by decide) rfl (fun _ => ?_) (fun c_ => by first | exact absurd c_ h4 | exact absurd h4 c_ | exact absurd c_ (not_not_intro h4) | exact Bool.noConfusion (c_.symm.trans h4))
  refine AW.aload_n dX2_beginOne_111 rfl rfl ?_
  refine AW.get ci2 9 (by decide) q1360 dX2_beginOne_112 gM rfl rfl ?_
  refine AW.bipush (v := 45) dX2_beginOne_115 (by decide) rfl ?_
  refine AW.icmp_ne (tgt := 126) dX2_beginOne_117 (by decide) rfl (fun _ => ?_) (fun c_ => by first | exact absurd c_ h45 | exact absurd h45 c_ | exact absurd c_ (not_not_intro h45) | exact Bool.noConfusion (c_.symm.trans h45))
  refine AW.aload_n dX2_beginOne_126 rfl rfl ?_
  refine AW.bipush (v := 100) dX2_beginOne_127 (by decide) rfl ?_
  refine AW.bipush (v := 105) dX2_beginOne_129 (by decide) rfl ?_
  refine AW.bipush (v := 103) dX2_beginOne_131 (by decide) rfl ?_
  refine AW.bipush (v := 105) dX2_beginOne_133 (by decide) rfl ?_
  refine AW.bipush (v := 116) dX2_beginOne_135 (by decide) rfl ?_
  refine AW.callS (Y := mX2_w5) (n := 5) (r_X2_w5 _ _ _ _ _) (by decide) (by decide) q1528 q1529 q141 q1530 dX2_beginOne_137 (by decide +kernel) rfl rfl (Nat.le_of_ble_eq_true rfl) rfl ?_
  refine AW.callV (Y := mX2_isWord) (n := 1) (r_X2_isWord _) (by decide) (by decide) rfl gM q1540 q1542 qs70 q141 q1543 dX2_beginOne_140 (by decide +kernel) rfl rfl (Nat.le_of_ble_eq_true rfl) rfl ?_
  refine AW.if_eqB (tgt := 153) dX2_beginOne_143 (by decide) rfl (fun _ => ?_) (fun c_ => by first | exact absurd c_ hd | exact absurd hd c_ | exact absurd c_ (not_not_intro hd) | exact Bool.noConfusion (c_.symm.trans hd))
  refine AW.aload_n dX2_beginOne_153 rfl rfl ?_
  refine AW.bipush (v := 110) dX2_beginOne_154 (by decide) rfl ?_
  refine AW.bipush (v := 111) dX2_beginOne_156 (by decide) rfl ?_
  refine AW.bipush (v := 116) dX2_beginOne_158 (by decide) rfl ?_
  refine AW.callS (Y := mX2_w3) (n := 3) (r_X2_w3 _ _ _) (by decide) (by decide) q1534 q1535 q141 q1536 dX2_beginOne_160 (by decide +kernel) rfl rfl (Nat.le_of_ble_eq_true rfl) rfl ?_
  refine AW.callV (Y := mX2_isWord) (n := 1) (r_X2_isWord _) (by decide) (by decide) rfl gM q1540 q1542 qs70 q141 q1543 dX2_beginOne_163 (by decide +kernel) rfl rfl (Nat.le_of_ble_eq_true rfl) rfl ?_
  refine AW.if_eqB (tgt := 185) dX2_beginOne_166 (by decide) rfl (fun k166 => ?_) (fun k166 => ?_)
  · refine AW.iconst (v := 1) dX2_beginOne_185 (by decide) rfl ?_
    exact AW.iretE dX2_beginOne_186 rfl rfl rfl rfl
  · refine AW.aload_n dX2_beginOne_169 rfl rfl ?_
    refine AW.callV (Y := mX2_isAskAhead) (n := 0) (r_X2_isAskAhead hq hql e he) (by decide) (by decide) rfl gM q1629 q1631 qs90 q141 q1632 dX2_beginOne_170 (by decide +kernel) rfl rfl (Nat.le_of_ble_eq_true rfl) rfl ?_
    refine AW.if_eqB (tgt := 185) dX2_beginOne_173 (by decide) rfl (fun k173 => ?_) (fun k173 => ?_)
    · refine AW.iconst (v := 1) dX2_beginOne_185 (by decide) rfl ?_
      exact AW.iretE dX2_beginOne_186 rfl rfl rfl rfl
    · exact absurd ha (by rw [k166, k173]; decide)
