/-! MODEL 40: a clause (printed by tools/m40.py) -/
set_option maxRecDepth 100000
theorem clause_1 {s : Sg} {a b c : Int32} {X PA : Nat → Int32} {base : Nat} {C : Cd} {Q : List Int32} {o : Int32} {w : Bool} {n : Nat} {L0 : Lq} {i : Nat} (hn : s.S 4 = nI n) (h300 : n ≤ 300) (hby : ∀ k, k < n → 0 ≤ s.A 629 k) (h0 : ¬ 0 ≤ (sortF (tkL (s.A 629) n L0 i))) : Run 11 mX2_clause [.ref 625] (hp (ps (rs s a b c) (tkL (s.A 629) n L0 i) (gq X base C PA Q o w))) (.inl (some (.int (1)))) (hp (ps (rs s a b c) (tkL (s.A 629) n L0 i) (gq X base C PA Q o w))) := by
  refine Run.of rfl (Nat.le_of_ble_eq_true rfl) rfl ?_
  refine AW.aload_n dX2_clause_0 rfl rfl ?_
  refine AW.callV (Y := mX2_sortOf) (n := 0) (r_X2_sortOf) (by decide) (by decide) rfl gM q1524 q1526 qs69 q141 q1527 dX2_clause_1 (by decide +kernel) rfl rfl (Nat.le_of_ble_eq_true rfl) rfl ?_
  refine AW.istore_n (i := 1) dX2_clause_4 rfl rfl (Nat.le_of_ble_eq_true rfl) rfl rfl ?_
  refine AW.iload_n dX2_clause_5 rfl rfl ?_
  refine AW.if_ge (tgt := 11) dX2_clause_6 (by decide) rfl (fun c_ => by first | exact absurd c_ h0 | exact absurd h0 c_ | exact Bool.noConfusion (c_.symm.trans h0)) (fun _ => ?_)
  refine AW.iconst (v := 1) dX2_clause_9 (by decide) rfl ?_
  exact AW.iretE dX2_clause_10 rfl rfl rfl rfl
theorem clause_4 {s : Sg} {a b c : Int32} {X PA : Nat → Int32} {base : Nat} {C : Cd} {Q : List Int32} {o : Int32} {w : Bool} {n : Nat} {L0 : Lq} {i : Nat} (hn : s.S 4 = nI n) (h300 : n ≤ 300) (hby : ∀ k, k < n → 0 ≤ s.A 629 k) (h0 : 0 ≤ (sortF (tkL (s.A 629) n L0 i))) (hle : ¬ 2 < (sortF (tkL (s.A 629) n L0 i))) (hon : hasI c (sortF (tkL (s.A 629) n L0 i)) = true) : Run 11 mX2_clause [.ref 625] (hp (ps (rs s a b c) (tkL (s.A 629) n L0 i) (gq X base C PA Q o w))) (.inl (some (.int (4)))) (hp (ps (rs s a b c) (tkL (s.A 629) n L0 i) (gq X base C PA Q o w))) := by
  refine Run.of rfl (Nat.le_of_ble_eq_true rfl) rfl ?_
  refine AW.aload_n dX2_clause_0 rfl rfl ?_
  refine AW.callV (Y := mX2_sortOf) (n := 0) (r_X2_sortOf) (by decide) (by decide) rfl gM q1524 q1526 qs69 q141 q1527 dX2_clause_1 (by decide +kernel) rfl rfl (Nat.le_of_ble_eq_true rfl) rfl ?_
  refine AW.istore_n (i := 1) dX2_clause_4 rfl rfl (Nat.le_of_ble_eq_true rfl) rfl rfl ?_
  refine AW.iload_n dX2_clause_5 rfl rfl ?_
  refine AW.if_ge (tgt := 11) dX2_clause_6 (by decide) rfl (fun _ => ?_) (fun c_ => by first | exact absurd c_ h0 | exact absurd h0 c_ | exact absurd c_ (not_not_intro h0) | exact Bool.noConfusion (c_.symm.trans h0))
  refine AW.iload_n dX2_clause_11 rfl rfl ?_
  refine AW.iconst (v := 2) dX2_clause_12 (by decide) rfl ?_
  refine AW.icmp_gt (tgt := 29) dX2_clause_13 (by decide) rfl (fun c_ => by first | exact absurd c_ hle | exact absurd hle c_ | exact Bool.noConfusion (c_.symm.trans hle)) (fun _ => ?_)
  refine AW.aload_n dX2_clause_16 rfl rfl ?_
  refine AW.get ci2 20 (by decide) q1371 dX2_clause_17 gM rfl rfl ?_
  refine AW.iload_n dX2_clause_20 rfl rfl ?_
  refine AW.callS (Y := mX2_has) (n := 2) (r_X2_has _ _) (by decide) (by decide) q1547 q1548 q141 q1549 dX2_clause_21 (by decide +kernel) rfl rfl (Nat.le_of_ble_eq_true rfl) rfl ?_
  refine AW.if_eqB (tgt := 29) dX2_clause_24 (by decide) rfl (fun c_ => by first | exact absurd c_ hon | exact absurd hon c_ | exact Bool.noConfusion (c_.symm.trans hon)) (fun _ => ?_)
  refine AW.iconst (v := 4) dX2_clause_27 (by decide) rfl ?_
  exact AW.iretE dX2_clause_28 rfl rfl rfl rfl
theorem clause_6l {s : Sg} {a b c : Int32} {X PA : Nat → Int32} {base : Nat} {C : Cd} {Q : List Int32} {o : Int32} {w : Bool} {n : Nat} {L0 : Lq} {i : Nat} (hn : s.S 4 = nI n) (h300 : n ≤ 300) (hby : ∀ k, k < n → 0 ≤ s.A 629 k) {t m : Nat} (ht4 : t < 4) (h12 : s.S 12 = nI (705 * t)) (hb2 : base = 705 * t + 97) (hX : X (705 * t) = nI m) (h0 : 0 ≤ (sortF (tkL (s.A 629) n L0 i))) (hle : ¬ 2 < (sortF (tkL (s.A 629) n L0 i))) (hon : hasI c (sortF (tkL (s.A 629) n L0 i)) = false) (m24 : m = 24) : Run 11 mX2_clause [.ref 625] (hp (ps (rs s a b c) (tkL (s.A 629) n L0 i) (gq X base C PA Q o w))) (.inl (some (.int (6)))) (hp (ps (rs s a b c) (tkL (s.A 629) n L0 i) (gq X base C PA Q o w))) := by
  refine Run.of rfl (Nat.le_of_ble_eq_true rfl) rfl ?_
  refine AW.aload_n dX2_clause_0 rfl rfl ?_
  refine AW.callV (Y := mX2_sortOf) (n := 0) (r_X2_sortOf) (by decide) (by decide) rfl gM q1524 q1526 qs69 q141 q1527 dX2_clause_1 (by decide +kernel) rfl rfl (Nat.le_of_ble_eq_true rfl) rfl ?_
  refine AW.istore_n (i := 1) dX2_clause_4 rfl rfl (Nat.le_of_ble_eq_true rfl) rfl rfl ?_
  refine AW.iload_n dX2_clause_5 rfl rfl ?_
  refine AW.if_ge (tgt := 11) dX2_clause_6 (by decide) rfl (fun _ => ?_) (fun c_ => by first | exact absurd c_ h0 | exact absurd h0 c_ | exact absurd c_ (not_not_intro h0) | exact Bool.noConfusion (c_.symm.trans h0))
  refine AW.iload_n dX2_clause_11 rfl rfl ?_
  refine AW.iconst (v := 2) dX2_clause_12 (by decide) rfl ?_
  refine AW.icmp_gt (tgt := 29) dX2_clause_13 (by decide) rfl (fun c_ => by first | exact absurd c_ hle | exact absurd hle c_ | exact Bool.noConfusion (c_.symm.trans hle)) (fun _ => ?_)
  refine AW.aload_n dX2_clause_16 rfl rfl ?_
  refine AW.get ci2 20 (by decide) q1371 dX2_clause_17 gM rfl rfl ?_
  refine AW.iload_n dX2_clause_20 rfl rfl ?_
  refine AW.callS (Y := mX2_has) (n := 2) (r_X2_has _ _) (by decide) (by decide) q1547 q1548 q141 q1549 dX2_clause_21 (by decide +kernel) rfl rfl (Nat.le_of_ble_eq_true rfl) rfl ?_
  refine AW.if_eqB (tgt := 29) dX2_clause_24 (by decide) rfl (fun _ => ?_) (fun c_ => by first | exact absurd c_ hon | exact absurd hon c_ | exact absurd c_ (not_not_intro hon) | exact Bool.noConfusion (c_.symm.trans hon))
  refine AW.aload_n dX2_clause_29 rfl rfl ?_
  refine AW.get ci2 2 (by decide) q1353 dX2_clause_30 gM rfl rfl ?_
  refine AW.aload_n dX2_clause_33 rfl rfl ?_
  refine AW.get ci2 12 (by decide) q1363 dX2_clause_34 gM rfl rfl ?_
  refine AW.stT (x := .int (nI (705 * t))) (by show Value.int (s.S 12) = _; rw [h12]) ?_
  refine AW.iald dX2_clause_37 ps_g628 (in0 (705 * t) (by omega) (by decide)) (j := 705 * t) (cI_nI (by omega)) rfl ?_
  refine AW.stT (x := .int (nI m)) (by show Value.int (layC X base C (705 * t)) = _; rw [layC_out (Or.inl (by omega)), hX]) ?_
  refine AW.istore_n (i := 2) dX2_clause_38 rfl rfl (Nat.le_of_ble_eq_true rfl) rfl rfl ?_
  refine AW.iload_n dX2_clause_39 rfl rfl ?_
  refine AW.bipush (v := 24) dX2_clause_40 (by decide) rfl ?_
  refine AW.icmp_ne (tgt := 48) dX2_clause_42 (by decide) rfl (fun c_ => by first | exact absurd c_ (show nI m = 24 by rw [m24]; rfl) | exact absurd (show nI m = 24 by rw [m24]; rfl) c_ | exact Bool.noConfusion (c_.symm.trans (show nI m = 24 by rw [m24]; rfl))) (fun _ => ?_)
  refine AW.bipush (v := 6) dX2_clause_45 (by decide) rfl ?_
  exact AW.iretE dX2_clause_47 rfl rfl rfl rfl
theorem clause_bl {s : Sg} {a b c : Int32} {X PA : Nat → Int32} {base : Nat} {C : Cd} {Q : List Int32} {o : Int32} {w : Bool} {n : Nat} {L0 : Lq} {i : Nat} (hn : s.S 4 = nI n) (h300 : n ≤ 300) (hby : ∀ k, k < n → 0 ≤ s.A 629 k) {t m : Nat} (ht4 : t < 4) (hm : m < 24) (h12 : s.S 12 = nI (705 * t)) (hb2 : base = 705 * t + 97) (hX : X (705 * t) = nI m) (h0 : 0 ≤ (sortF (tkL (s.A 629) n L0 i))) (hle : ¬ 2 < (sortF (tkL (s.A 629) n L0 i))) (hon : hasI c (sortF (tkL (s.A 629) n L0 i)) = false) {r a2 b2 c2 : Int32} {j : Nat} {X2 PA2 : Nat → Int32} {C2 : Cd} {Q2 : List Int32} {o2 : Int32} {w2 : Bool} (hr0 : ¬ r = 0) (hr : Run 10 mX2_body [.ref 625, .int (sortF (tkL (s.A 629) n L0 i)), .int (nI (705 * t + 1 + 4 * m))] (hp (ps (rs s (sortF (tkL (s.A 629) n L0 i)) b (c ||| 1 <<< ((sortF (tkL (s.A 629) n L0 i)) &&& 31))) (tkL (s.A 629) n L0 (i + 1)) (gq (up X (705 * t + 1 + 4 * m) (sortF (tkL (s.A 629) n L0 i))) base C PA Q o w))) (.inl (some (.int r))) (hp (ps (rs s a2 b2 c2) (tkL (s.A 629) n L0 j) (gq X2 base C2 PA2 Q2 o2 w2)))) : Run 11 mX2_clause [.ref 625] (hp (ps (rs s a b c) (tkL (s.A 629) n L0 i) (gq X base C PA Q o w))) (.inl (some (.int (r)))) (hp (ps (rs s a2 b2 c2) (tkL (s.A 629) n L0 j) (gq X2 base C2 PA2 Q2 o2 w2))) := by
  refine Run.of rfl (Nat.le_of_ble_eq_true rfl) rfl ?_
  refine AW.aload_n dX2_clause_0 rfl rfl ?_
  refine AW.callV (Y := mX2_sortOf) (n := 0) (r_X2_sortOf) (by decide) (by decide) rfl gM q1524 q1526 qs69 q141 q1527 dX2_clause_1 (by decide +kernel) rfl rfl (Nat.le_of_ble_eq_true rfl) rfl ?_
  refine AW.istore_n (i := 1) dX2_clause_4 rfl rfl (Nat.le_of_ble_eq_true rfl) rfl rfl ?_
  refine AW.iload_n dX2_clause_5 rfl rfl ?_
  refine AW.if_ge (tgt := 11) dX2_clause_6 (by decide) rfl (fun _ => ?_) (fun c_ => by first | exact absurd c_ h0 | exact absurd h0 c_ | exact absurd c_ (not_not_intro h0) | exact Bool.noConfusion (c_.symm.trans h0))
  refine AW.iload_n dX2_clause_11 rfl rfl ?_
  refine AW.iconst (v := 2) dX2_clause_12 (by decide) rfl ?_
  refine AW.icmp_gt (tgt := 29) dX2_clause_13 (by decide) rfl (fun c_ => by first | exact absurd c_ hle | exact absurd hle c_ | exact Bool.noConfusion (c_.symm.trans hle)) (fun _ => ?_)
  refine AW.aload_n dX2_clause_16 rfl rfl ?_
  refine AW.get ci2 20 (by decide) q1371 dX2_clause_17 gM rfl rfl ?_
  refine AW.iload_n dX2_clause_20 rfl rfl ?_
  refine AW.callS (Y := mX2_has) (n := 2) (r_X2_has _ _) (by decide) (by decide) q1547 q1548 q141 q1549 dX2_clause_21 (by decide +kernel) rfl rfl (Nat.le_of_ble_eq_true rfl) rfl ?_
  refine AW.if_eqB (tgt := 29) dX2_clause_24 (by decide) rfl (fun _ => ?_) (fun c_ => by first | exact absurd c_ hon | exact absurd hon c_ | exact absurd c_ (not_not_intro hon) | exact Bool.noConfusion (c_.symm.trans hon))
  refine AW.aload_n dX2_clause_29 rfl rfl ?_
  refine AW.get ci2 2 (by decide) q1353 dX2_clause_30 gM rfl rfl ?_
  refine AW.aload_n dX2_clause_33 rfl rfl ?_
  refine AW.get ci2 12 (by decide) q1363 dX2_clause_34 gM rfl rfl ?_
  refine AW.stT (x := .int (nI (705 * t))) (by show Value.int (s.S 12) = _; rw [h12]) ?_
  refine AW.iald dX2_clause_37 ps_g628 (in0 (705 * t) (by omega) (by decide)) (j := 705 * t) (cI_nI (by omega)) rfl ?_
  refine AW.stT (x := .int (nI m)) (by show Value.int (layC X base C (705 * t)) = _; rw [layC_out (Or.inl (by omega)), hX]) ?_
  refine AW.istore_n (i := 2) dX2_clause_38 rfl rfl (Nat.le_of_ble_eq_true rfl) rfl rfl ?_
  refine AW.iload_n dX2_clause_39 rfl rfl ?_
  refine AW.bipush (v := 24) dX2_clause_40 (by decide) rfl ?_
  refine AW.icmp_ne (tgt := 48) dX2_clause_42 (by decide) rfl (fun _ => ?_) (fun c_ => by first | exact absurd c_ (show ¬ nI m = 24 from fun z => by have h9 := nI_t (k := m) (by omega); rw [z] at h9; have h8 : (24 : Int32).toInt = 24 := rfl; omega) | exact absurd (show ¬ nI m = 24 from fun z => by have h9 := nI_t (k := m) (by omega); rw [z] at h9; have h8 : (24 : Int32).toInt = 24 := rfl; omega) c_ | exact absurd c_ (not_not_intro (show ¬ nI m = 24 from fun z => by have h9 := nI_t (k := m) (by omega); rw [z] at h9; have h8 : (24 : Int32).toInt = 24 := rfl; omega)) | exact Bool.noConfusion (c_.symm.trans (show ¬ nI m = 24 from fun z => by have h9 := nI_t (k := m) (by omega); rw [z] at h9; have h8 : (24 : Int32).toInt = 24 := rfl; omega)))
  refine AW.iload_n dX2_clause_48 rfl rfl ?_
  refine AW.iconst (v := 2) dX2_clause_49 (by decide) rfl ?_
  refine AW.icmp_gt (tgt := 65) dX2_clause_50 (by decide) rfl (fun c_ => by first | exact absurd c_ hle | exact absurd hle c_ | exact Bool.noConfusion (c_.symm.trans hle)) (fun _ => ?_)
  refine AW.aload_n dX2_clause_53 rfl rfl ?_
  refine AW.dup dX2_clause_54 rfl rfl ?_
  refine AW.get ci2 20 (by decide) q1371 dX2_clause_55 gM rfl rfl ?_
  refine AW.iconst (v := 1) dX2_clause_58 (by decide) rfl ?_
  refine AW.iload_n dX2_clause_59 rfl rfl ?_
  refine AW.ishl dX2_clause_60 rfl ?_
  refine AW.ior dX2_clause_61 rfl ?_
  refine AW.put ci2 20 (by decide) q1371 dX2_clause_62 (by decide) gM rfl (fun _ => rfl) (fun _ => rfl) (Nat.le_of_ble_eq_true rfl) ps_s20 rfl ?_
  refine AW.aload_n dX2_clause_65 rfl rfl ?_
  refine AW.iload_n dX2_clause_66 rfl rfl ?_
  refine AW.put ci2 14 (by decide) q1365 dX2_clause_67 (by decide) gM rfl (fun _ => rfl) (fun _ => rfl) (Nat.le_of_ble_eq_true rfl) ps_s14 rfl ?_
  refine AW.aload_n dX2_clause_70 rfl rfl ?_
  refine AW.callV (Y := mX2_nextToken) (n := 0) (w_next hn h300 hby (i + 1) rfl) (by decide) (by decide) rfl gM q1501 q1503 qs66 q141 q1504 dX2_clause_71 (by decide +kernel) rfl rfl (Nat.le_of_ble_eq_true rfl) rfl ?_
  refine AW.aload_n dX2_clause_74 rfl rfl ?_
  refine AW.get ci2 12 (by decide) q1363 dX2_clause_75 gM rfl rfl ?_
  refine AW.iconst (v := 1) dX2_clause_78 (by decide) rfl ?_
  refine AW.iadd dX2_clause_79 rfl ?_
  refine AW.iconst (v := 4) dX2_clause_80 (by decide) rfl ?_
  refine AW.iload_n dX2_clause_81 rfl rfl ?_
  refine AW.imul dX2_clause_82 rfl ?_
  refine AW.iadd dX2_clause_83 rfl ?_
  refine AW.stT (x := .int (nI (705 * t + 1 + 4 * m))) (by show Value.int (s.S 12 + 1 + 4 * nI m) = _; rw [h12, show (1 : Int32) = nI 1 from rfl, show (4 : Int32) = nI 4 from rfl, nI_mul, nI_add, nI_add]) ?_
  refine AW.istore_n (i := 3) dX2_clause_84 rfl rfl (Nat.le_of_ble_eq_true rfl) rfl rfl ?_
  refine AW.aload_n dX2_clause_85 rfl rfl ?_
  refine AW.get ci2 2 (by decide) q1353 dX2_clause_86 gM rfl rfl ?_
  refine AW.iload_n dX2_clause_89 rfl rfl ?_
  refine AW.iload_n dX2_clause_90 rfl rfl ?_
  refine AW.iast dX2_clause_91 (by decide) ps_g628 (in0 (705 * t + 1 + 4 * m) (by omega) (by decide)) (j := (705 * t + 1 + 4 * m)) (cI_nI (by omega)) ps_s628 rfl ?_
  refine AW.hp (h2 := (hp (ps (rs s (sortF (tkL (s.A 629) n L0 i)) b (c ||| 1 <<< ((sortF (tkL (s.A 629) n L0 i)) &&& 31))) (tkL (s.A 629) n L0 (i + 1)) (gq (up X (705 * t + 1 + 4 * m) (sortF (tkL (s.A 629) n L0 i))) base C PA Q o w)))) (by show hp (ps (rs s (sortF (tkL (s.A 629) n L0 i)) b (c ||| 1 <<< ((sortF (tkL (s.A 629) n L0 i)) &&& 31))) (tkL (s.A 629) n L0 (i + 1)) (nI C.length, nI Q.length, o, b2i w, up (layC X base C) (705 * t + 1 + 4 * m) (sortF (tkL (s.A 629) n L0 i)), PA)) = _; rw [layC_up (by omega)]; rfl) ?_
  refine AW.aload_n dX2_clause_92 rfl rfl ?_
  refine AW.iload_n dX2_clause_93 rfl rfl ?_
  refine AW.iload_n dX2_clause_94 rfl rfl ?_
  refine AW.callV (Y := mX2_body) (n := 2) (hr) (by decide) (by decide) rfl gM q1550 q1552 qs71 q141 q1553 dX2_clause_95 (by decide +kernel) rfl rfl (Nat.le_of_ble_eq_true rfl) rfl ?_
  refine AW.istore dX2_clause_98 rfl (Nat.le_of_ble_eq_true rfl) rfl rfl ?_
  refine AW.iload dX2_clause_100 rfl rfl ?_
  refine AW.if_eq (tgt := 108) dX2_clause_102 (by decide) rfl (fun c_ => by first | exact absurd c_ hr0 | exact absurd hr0 c_ | exact Bool.noConfusion (c_.symm.trans hr0)) (fun _ => ?_)
  refine AW.iload dX2_clause_105 rfl rfl ?_
  exact AW.iretE dX2_clause_107 rfl rfl rfl rfl
theorem clause_sl {s : Sg} {a b c : Int32} {X PA : Nat → Int32} {base : Nat} {C : Cd} {Q : List Int32} {o : Int32} {w : Bool} {n : Nat} {L0 : Lq} {i : Nat} (hn : s.S 4 = nI n) (h300 : n ≤ 300) (hby : ∀ k, k < n → 0 ≤ s.A 629 k) {t m : Nat} (ht4 : t < 4) (hm : m < 24) (h12 : s.S 12 = nI (705 * t)) (hb2 : base = 705 * t + 97) (hX : X (705 * t) = nI m) (h0 : 0 ≤ (sortF (tkL (s.A 629) n L0 i))) (hle : ¬ 2 < (sortF (tkL (s.A 629) n L0 i))) (hon : hasI c (sortF (tkL (s.A 629) n L0 i)) = false) {r a2 b2 c2 : Int32} {j : Nat} {X2 PA2 : Nat → Int32} {C2 : Cd} {Q2 : List Int32} {o2 : Int32} {w2 : Bool} (hX2 : X2 (705 * t) = nI m) (hr : Run 10 mX2_body [.ref 625, .int (sortF (tkL (s.A 629) n L0 i)), .int (nI (705 * t + 1 + 4 * m))] (hp (ps (rs s (sortF (tkL (s.A 629) n L0 i)) b (c ||| 1 <<< ((sortF (tkL (s.A 629) n L0 i)) &&& 31))) (tkL (s.A 629) n L0 (i + 1)) (gq (up X (705 * t + 1 + 4 * m) (sortF (tkL (s.A 629) n L0 i))) base C PA Q o w))) (.inl (some (.int 0))) (hp (ps (rs s a2 b2 c2) (tkL (s.A 629) n L0 j) (gq X2 base C2 PA2 Q2 o2 w2)))) (hs : ¬ (tkL (s.A 629) n L0 j).2.2.1 = 59) : Run 11 mX2_clause [.ref 625] (hp (ps (rs s a b c) (tkL (s.A 629) n L0 i) (gq X base C PA Q o w))) (.inl (some (.int (1)))) (hp (ps (rs s a2 b2 c2) (tkL (s.A 629) n L0 j) (gq (up X2 (705 * t) (nI (m + 1))) base C2 PA2 Q2 o2 w2))) := by
  refine Run.of rfl (Nat.le_of_ble_eq_true rfl) rfl ?_
  refine AW.aload_n dX2_clause_0 rfl rfl ?_
  refine AW.callV (Y := mX2_sortOf) (n := 0) (r_X2_sortOf) (by decide) (by decide) rfl gM q1524 q1526 qs69 q141 q1527 dX2_clause_1 (by decide +kernel) rfl rfl (Nat.le_of_ble_eq_true rfl) rfl ?_
  refine AW.istore_n (i := 1) dX2_clause_4 rfl rfl (Nat.le_of_ble_eq_true rfl) rfl rfl ?_
  refine AW.iload_n dX2_clause_5 rfl rfl ?_
  refine AW.if_ge (tgt := 11) dX2_clause_6 (by decide) rfl (fun _ => ?_) (fun c_ => by first | exact absurd c_ h0 | exact absurd h0 c_ | exact absurd c_ (not_not_intro h0) | exact Bool.noConfusion (c_.symm.trans h0))
  refine AW.iload_n dX2_clause_11 rfl rfl ?_
  refine AW.iconst (v := 2) dX2_clause_12 (by decide) rfl ?_
  refine AW.icmp_gt (tgt := 29) dX2_clause_13 (by decide) rfl (fun c_ => by first | exact absurd c_ hle | exact absurd hle c_ | exact Bool.noConfusion (c_.symm.trans hle)) (fun _ => ?_)
  refine AW.aload_n dX2_clause_16 rfl rfl ?_
  refine AW.get ci2 20 (by decide) q1371 dX2_clause_17 gM rfl rfl ?_
  refine AW.iload_n dX2_clause_20 rfl rfl ?_
  refine AW.callS (Y := mX2_has) (n := 2) (r_X2_has _ _) (by decide) (by decide) q1547 q1548 q141 q1549 dX2_clause_21 (by decide +kernel) rfl rfl (Nat.le_of_ble_eq_true rfl) rfl ?_
  refine AW.if_eqB (tgt := 29) dX2_clause_24 (by decide) rfl (fun _ => ?_) (fun c_ => by first | exact absurd c_ hon | exact absurd hon c_ | exact absurd c_ (not_not_intro hon) | exact Bool.noConfusion (c_.symm.trans hon))
  refine AW.aload_n dX2_clause_29 rfl rfl ?_
  refine AW.get ci2 2 (by decide) q1353 dX2_clause_30 gM rfl rfl ?_
  refine AW.aload_n dX2_clause_33 rfl rfl ?_
  refine AW.get ci2 12 (by decide) q1363 dX2_clause_34 gM rfl rfl ?_
  refine AW.stT (x := .int (nI (705 * t))) (by show Value.int (s.S 12) = _; rw [h12]) ?_
  refine AW.iald dX2_clause_37 ps_g628 (in0 (705 * t) (by omega) (by decide)) (j := 705 * t) (cI_nI (by omega)) rfl ?_
  refine AW.stT (x := .int (nI m)) (by show Value.int (layC X base C (705 * t)) = _; rw [layC_out (Or.inl (by omega)), hX]) ?_
  refine AW.istore_n (i := 2) dX2_clause_38 rfl rfl (Nat.le_of_ble_eq_true rfl) rfl rfl ?_
  refine AW.iload_n dX2_clause_39 rfl rfl ?_
  refine AW.bipush (v := 24) dX2_clause_40 (by decide) rfl ?_
  refine AW.icmp_ne (tgt := 48) dX2_clause_42 (by decide) rfl (fun _ => ?_) (fun c_ => by first | exact absurd c_ (show ¬ nI m = 24 from fun z => by have h9 := nI_t (k := m) (by omega); rw [z] at h9; have h8 : (24 : Int32).toInt = 24 := rfl; omega) | exact absurd (show ¬ nI m = 24 from fun z => by have h9 := nI_t (k := m) (by omega); rw [z] at h9; have h8 : (24 : Int32).toInt = 24 := rfl; omega) c_ | exact absurd c_ (not_not_intro (show ¬ nI m = 24 from fun z => by have h9 := nI_t (k := m) (by omega); rw [z] at h9; have h8 : (24 : Int32).toInt = 24 := rfl; omega)) | exact Bool.noConfusion (c_.symm.trans (show ¬ nI m = 24 from fun z => by have h9 := nI_t (k := m) (by omega); rw [z] at h9; have h8 : (24 : Int32).toInt = 24 := rfl; omega)))
  refine AW.iload_n dX2_clause_48 rfl rfl ?_
  refine AW.iconst (v := 2) dX2_clause_49 (by decide) rfl ?_
  refine AW.icmp_gt (tgt := 65) dX2_clause_50 (by decide) rfl (fun c_ => by first | exact absurd c_ hle | exact absurd hle c_ | exact Bool.noConfusion (c_.symm.trans hle)) (fun _ => ?_)
  refine AW.aload_n dX2_clause_53 rfl rfl ?_
  refine AW.dup dX2_clause_54 rfl rfl ?_
  refine AW.get ci2 20 (by decide) q1371 dX2_clause_55 gM rfl rfl ?_
  refine AW.iconst (v := 1) dX2_clause_58 (by decide) rfl ?_
  refine AW.iload_n dX2_clause_59 rfl rfl ?_
  refine AW.ishl dX2_clause_60 rfl ?_
  refine AW.ior dX2_clause_61 rfl ?_
  refine AW.put ci2 20 (by decide) q1371 dX2_clause_62 (by decide) gM rfl (fun _ => rfl) (fun _ => rfl) (Nat.le_of_ble_eq_true rfl) ps_s20 rfl ?_
  refine AW.aload_n dX2_clause_65 rfl rfl ?_
  refine AW.iload_n dX2_clause_66 rfl rfl ?_
  refine AW.put ci2 14 (by decide) q1365 dX2_clause_67 (by decide) gM rfl (fun _ => rfl) (fun _ => rfl) (Nat.le_of_ble_eq_true rfl) ps_s14 rfl ?_
  refine AW.aload_n dX2_clause_70 rfl rfl ?_
  refine AW.callV (Y := mX2_nextToken) (n := 0) (w_next hn h300 hby (i + 1) rfl) (by decide) (by decide) rfl gM q1501 q1503 qs66 q141 q1504 dX2_clause_71 (by decide +kernel) rfl rfl (Nat.le_of_ble_eq_true rfl) rfl ?_
  refine AW.aload_n dX2_clause_74 rfl rfl ?_
  refine AW.get ci2 12 (by decide) q1363 dX2_clause_75 gM rfl rfl ?_
  refine AW.iconst (v := 1) dX2_clause_78 (by decide) rfl ?_
  refine AW.iadd dX2_clause_79 rfl ?_
  refine AW.iconst (v := 4) dX2_clause_80 (by decide) rfl ?_
  refine AW.iload_n dX2_clause_81 rfl rfl ?_
  refine AW.imul dX2_clause_82 rfl ?_
  refine AW.iadd dX2_clause_83 rfl ?_
  refine AW.stT (x := .int (nI (705 * t + 1 + 4 * m))) (by show Value.int (s.S 12 + 1 + 4 * nI m) = _; rw [h12, show (1 : Int32) = nI 1 from rfl, show (4 : Int32) = nI 4 from rfl, nI_mul, nI_add, nI_add]) ?_
  refine AW.istore_n (i := 3) dX2_clause_84 rfl rfl (Nat.le_of_ble_eq_true rfl) rfl rfl ?_
  refine AW.aload_n dX2_clause_85 rfl rfl ?_
  refine AW.get ci2 2 (by decide) q1353 dX2_clause_86 gM rfl rfl ?_
  refine AW.iload_n dX2_clause_89 rfl rfl ?_
  refine AW.iload_n dX2_clause_90 rfl rfl ?_
  refine AW.iast dX2_clause_91 (by decide) ps_g628 (in0 (705 * t + 1 + 4 * m) (by omega) (by decide)) (j := (705 * t + 1 + 4 * m)) (cI_nI (by omega)) ps_s628 rfl ?_
  refine AW.hp (h2 := (hp (ps (rs s (sortF (tkL (s.A 629) n L0 i)) b (c ||| 1 <<< ((sortF (tkL (s.A 629) n L0 i)) &&& 31))) (tkL (s.A 629) n L0 (i + 1)) (gq (up X (705 * t + 1 + 4 * m) (sortF (tkL (s.A 629) n L0 i))) base C PA Q o w)))) (by show hp (ps (rs s (sortF (tkL (s.A 629) n L0 i)) b (c ||| 1 <<< ((sortF (tkL (s.A 629) n L0 i)) &&& 31))) (tkL (s.A 629) n L0 (i + 1)) (nI C.length, nI Q.length, o, b2i w, up (layC X base C) (705 * t + 1 + 4 * m) (sortF (tkL (s.A 629) n L0 i)), PA)) = _; rw [layC_up (by omega)]; rfl) ?_
  refine AW.aload_n dX2_clause_92 rfl rfl ?_
  refine AW.iload_n dX2_clause_93 rfl rfl ?_
  refine AW.iload_n dX2_clause_94 rfl rfl ?_
  refine AW.callV (Y := mX2_body) (n := 2) (hr) (by decide) (by decide) rfl gM q1550 q1552 qs71 q141 q1553 dX2_clause_95 (by decide +kernel) rfl rfl (Nat.le_of_ble_eq_true rfl) rfl ?_
  refine AW.istore dX2_clause_98 rfl (Nat.le_of_ble_eq_true rfl) rfl rfl ?_
  refine AW.iload dX2_clause_100 rfl rfl ?_
  refine AW.if_eq (tgt := 108) dX2_clause_102 (by decide) rfl (fun _ => ?_) (fun c_ => by first | exact absurd c_ rfl | exact absurd rfl c_ | exact absurd c_ (not_not_intro rfl) | exact Bool.noConfusion (c_.symm.trans rfl))
  refine AW.aload_n dX2_clause_108 rfl rfl ?_
  refine AW.get ci2 2 (by decide) q1353 dX2_clause_109 gM rfl rfl ?_
  refine AW.aload_n dX2_clause_112 rfl rfl ?_
  refine AW.get ci2 12 (by decide) q1363 dX2_clause_113 gM rfl rfl ?_
  refine AW.stT (x := .int (nI (705 * t))) (by show Value.int (s.S 12) = _; rw [h12]) ?_
  refine AW.dup2 dX2_clause_116 rfl rfl rfl ?_
  refine AW.iald dX2_clause_117 ps_g628 (in0 (705 * t) (by omega) (by decide)) (j := 705 * t) (cI_nI (by omega)) rfl ?_
  refine AW.stT (x := .int (nI m)) (by show Value.int (layC X2 base C2 (705 * t)) = _; rw [layC_out (Or.inl (by omega)), hX2]) ?_
  refine AW.iconst (v := 1) dX2_clause_118 (by decide) rfl ?_
  refine AW.iadd dX2_clause_119 rfl ?_
  refine AW.stT (x := .int (nI (m + 1))) (by show Value.int (nI m + 1) = _; rw [nI_succ]) ?_
  refine AW.iast dX2_clause_120 (by decide) ps_g628 (in0 (705 * t) (by omega) (by decide)) (j := 705 * t) (cI_nI (by omega)) ps_s628 rfl ?_
  refine AW.hp (h2 := (hp (ps (rs s a2 b2 c2) (tkL (s.A 629) n L0 j) (gq (up X2 (705 * t) (nI (m + 1))) base C2 PA2 Q2 o2 w2)))) (by show hp (ps (rs s a2 b2 c2) (tkL (s.A 629) n L0 j) (nI C2.length, nI Q2.length, o2, b2i w2, up (layC X2 base C2) (705 * t) (nI (m + 1)), PA2)) = _; rw [layC_up (by omega)]; rfl) ?_
  refine AW.aload_n dX2_clause_121 rfl rfl ?_
  refine AW.get ci2 9 (by decide) q1360 dX2_clause_122 gM rfl rfl ?_
  refine AW.bipush (v := 59) dX2_clause_125 (by decide) rfl ?_
  refine AW.icmp_eq (tgt := 132) dX2_clause_127 (by decide) rfl (fun c_ => by first | exact absurd c_ hs | exact absurd hs c_ | exact Bool.noConfusion (c_.symm.trans hs)) (fun _ => ?_)
  refine AW.iconst (v := 1) dX2_clause_130 (by decide) rfl ?_
  exact AW.iretE dX2_clause_131 rfl rfl rfl rfl
theorem clause_tl {s : Sg} {a b c : Int32} {X PA : Nat → Int32} {base : Nat} {C : Cd} {Q : List Int32} {o : Int32} {w : Bool} {n : Nat} {L0 : Lq} {i : Nat} (hn : s.S 4 = nI n) (h300 : n ≤ 300) (hby : ∀ k, k < n → 0 ≤ s.A 629 k) {t m : Nat} (ht4 : t < 4) (hm : m < 24) (h12 : s.S 12 = nI (705 * t)) (hb2 : base = 705 * t + 97) (hX : X (705 * t) = nI m) (h0 : 0 ≤ (sortF (tkL (s.A 629) n L0 i))) (hle : ¬ 2 < (sortF (tkL (s.A 629) n L0 i))) (hon : hasI c (sortF (tkL (s.A 629) n L0 i)) = false) {r a2 b2 c2 : Int32} {j : Nat} {X2 PA2 : Nat → Int32} {C2 : Cd} {Q2 : List Int32} {o2 : Int32} {w2 : Bool} (hX2 : X2 (705 * t) = nI m) (hr : Run 10 mX2_body [.ref 625, .int (sortF (tkL (s.A 629) n L0 i)), .int (nI (705 * t + 1 + 4 * m))] (hp (ps (rs s (sortF (tkL (s.A 629) n L0 i)) b (c ||| 1 <<< ((sortF (tkL (s.A 629) n L0 i)) &&& 31))) (tkL (s.A 629) n L0 (i + 1)) (gq (up X (705 * t + 1 + 4 * m) (sortF (tkL (s.A 629) n L0 i))) base C PA Q o w))) (.inl (some (.int 0))) (hp (ps (rs s a2 b2 c2) (tkL (s.A 629) n L0 j) (gq X2 base C2 PA2 Q2 o2 w2)))) (hs : (tkL (s.A 629) n L0 j).2.2.1 = 59) : Run 11 mX2_clause [.ref 625] (hp (ps (rs s a b c) (tkL (s.A 629) n L0 i) (gq X base C PA Q o w))) (.inl (some (.int (0)))) (hp (ps (rs s a2 b2 c2) (tkL (s.A 629) n L0 (j + 1)) (gq (up X2 (705 * t) (nI (m + 1))) base C2 PA2 Q2 o2 w2))) := by
  refine Run.of rfl (Nat.le_of_ble_eq_true rfl) rfl ?_
  refine AW.aload_n dX2_clause_0 rfl rfl ?_
  refine AW.callV (Y := mX2_sortOf) (n := 0) (r_X2_sortOf) (by decide) (by decide) rfl gM q1524 q1526 qs69 q141 q1527 dX2_clause_1 (by decide +kernel) rfl rfl (Nat.le_of_ble_eq_true rfl) rfl ?_
  refine AW.istore_n (i := 1) dX2_clause_4 rfl rfl (Nat.le_of_ble_eq_true rfl) rfl rfl ?_
  refine AW.iload_n dX2_clause_5 rfl rfl ?_
  refine AW.if_ge (tgt := 11) dX2_clause_6 (by decide) rfl (fun _ => ?_) (fun c_ => by first | exact absurd c_ h0 | exact absurd h0 c_ | exact absurd c_ (not_not_intro h0) | exact Bool.noConfusion (c_.symm.trans h0))
  refine AW.iload_n dX2_clause_11 rfl rfl ?_
  refine AW.iconst (v := 2) dX2_clause_12 (by decide) rfl ?_
  refine AW.icmp_gt (tgt := 29) dX2_clause_13 (by decide) rfl (fun c_ => by first | exact absurd c_ hle | exact absurd hle c_ | exact Bool.noConfusion (c_.symm.trans hle)) (fun _ => ?_)
  refine AW.aload_n dX2_clause_16 rfl rfl ?_
  refine AW.get ci2 20 (by decide) q1371 dX2_clause_17 gM rfl rfl ?_
  refine AW.iload_n dX2_clause_20 rfl rfl ?_
  refine AW.callS (Y := mX2_has) (n := 2) (r_X2_has _ _) (by decide) (by decide) q1547 q1548 q141 q1549 dX2_clause_21 (by decide +kernel) rfl rfl (Nat.le_of_ble_eq_true rfl) rfl ?_
  refine AW.if_eqB (tgt := 29) dX2_clause_24 (by decide) rfl (fun _ => ?_) (fun c_ => by first | exact absurd c_ hon | exact absurd hon c_ | exact absurd c_ (not_not_intro hon) | exact Bool.noConfusion (c_.symm.trans hon))
  refine AW.aload_n dX2_clause_29 rfl rfl ?_
  refine AW.get ci2 2 (by decide) q1353 dX2_clause_30 gM rfl rfl ?_
  refine AW.aload_n dX2_clause_33 rfl rfl ?_
  refine AW.get ci2 12 (by decide) q1363 dX2_clause_34 gM rfl rfl ?_
  refine AW.stT (x := .int (nI (705 * t))) (by show Value.int (s.S 12) = _; rw [h12]) ?_
  refine AW.iald dX2_clause_37 ps_g628 (in0 (705 * t) (by omega) (by decide)) (j := 705 * t) (cI_nI (by omega)) rfl ?_
  refine AW.stT (x := .int (nI m)) (by show Value.int (layC X base C (705 * t)) = _; rw [layC_out (Or.inl (by omega)), hX]) ?_
  refine AW.istore_n (i := 2) dX2_clause_38 rfl rfl (Nat.le_of_ble_eq_true rfl) rfl rfl ?_
  refine AW.iload_n dX2_clause_39 rfl rfl ?_
  refine AW.bipush (v := 24) dX2_clause_40 (by decide) rfl ?_
  refine AW.icmp_ne (tgt := 48) dX2_clause_42 (by decide) rfl (fun _ => ?_) (fun c_ => by first | exact absurd c_ (show ¬ nI m = 24 from fun z => by have h9 := nI_t (k := m) (by omega); rw [z] at h9; have h8 : (24 : Int32).toInt = 24 := rfl; omega) | exact absurd (show ¬ nI m = 24 from fun z => by have h9 := nI_t (k := m) (by omega); rw [z] at h9; have h8 : (24 : Int32).toInt = 24 := rfl; omega) c_ | exact absurd c_ (not_not_intro (show ¬ nI m = 24 from fun z => by have h9 := nI_t (k := m) (by omega); rw [z] at h9; have h8 : (24 : Int32).toInt = 24 := rfl; omega)) | exact Bool.noConfusion (c_.symm.trans (show ¬ nI m = 24 from fun z => by have h9 := nI_t (k := m) (by omega); rw [z] at h9; have h8 : (24 : Int32).toInt = 24 := rfl; omega)))
  refine AW.iload_n dX2_clause_48 rfl rfl ?_
  refine AW.iconst (v := 2) dX2_clause_49 (by decide) rfl ?_
  refine AW.icmp_gt (tgt := 65) dX2_clause_50 (by decide) rfl (fun c_ => by first | exact absurd c_ hle | exact absurd hle c_ | exact Bool.noConfusion (c_.symm.trans hle)) (fun _ => ?_)
  refine AW.aload_n dX2_clause_53 rfl rfl ?_
  refine AW.dup dX2_clause_54 rfl rfl ?_
  refine AW.get ci2 20 (by decide) q1371 dX2_clause_55 gM rfl rfl ?_
  refine AW.iconst (v := 1) dX2_clause_58 (by decide) rfl ?_
  refine AW.iload_n dX2_clause_59 rfl rfl ?_
  refine AW.ishl dX2_clause_60 rfl ?_
  refine AW.ior dX2_clause_61 rfl ?_
  refine AW.put ci2 20 (by decide) q1371 dX2_clause_62 (by decide) gM rfl (fun _ => rfl) (fun _ => rfl) (Nat.le_of_ble_eq_true rfl) ps_s20 rfl ?_
  refine AW.aload_n dX2_clause_65 rfl rfl ?_
  refine AW.iload_n dX2_clause_66 rfl rfl ?_
  refine AW.put ci2 14 (by decide) q1365 dX2_clause_67 (by decide) gM rfl (fun _ => rfl) (fun _ => rfl) (Nat.le_of_ble_eq_true rfl) ps_s14 rfl ?_
  refine AW.aload_n dX2_clause_70 rfl rfl ?_
  refine AW.callV (Y := mX2_nextToken) (n := 0) (w_next hn h300 hby (i + 1) rfl) (by decide) (by decide) rfl gM q1501 q1503 qs66 q141 q1504 dX2_clause_71 (by decide +kernel) rfl rfl (Nat.le_of_ble_eq_true rfl) rfl ?_
  refine AW.aload_n dX2_clause_74 rfl rfl ?_
  refine AW.get ci2 12 (by decide) q1363 dX2_clause_75 gM rfl rfl ?_
  refine AW.iconst (v := 1) dX2_clause_78 (by decide) rfl ?_
  refine AW.iadd dX2_clause_79 rfl ?_
  refine AW.iconst (v := 4) dX2_clause_80 (by decide) rfl ?_
  refine AW.iload_n dX2_clause_81 rfl rfl ?_
  refine AW.imul dX2_clause_82 rfl ?_
  refine AW.iadd dX2_clause_83 rfl ?_
  refine AW.stT (x := .int (nI (705 * t + 1 + 4 * m))) (by show Value.int (s.S 12 + 1 + 4 * nI m) = _; rw [h12, show (1 : Int32) = nI 1 from rfl, show (4 : Int32) = nI 4 from rfl, nI_mul, nI_add, nI_add]) ?_
  refine AW.istore_n (i := 3) dX2_clause_84 rfl rfl (Nat.le_of_ble_eq_true rfl) rfl rfl ?_
  refine AW.aload_n dX2_clause_85 rfl rfl ?_
  refine AW.get ci2 2 (by decide) q1353 dX2_clause_86 gM rfl rfl ?_
  refine AW.iload_n dX2_clause_89 rfl rfl ?_
  refine AW.iload_n dX2_clause_90 rfl rfl ?_
  refine AW.iast dX2_clause_91 (by decide) ps_g628 (in0 (705 * t + 1 + 4 * m) (by omega) (by decide)) (j := (705 * t + 1 + 4 * m)) (cI_nI (by omega)) ps_s628 rfl ?_
  refine AW.hp (h2 := (hp (ps (rs s (sortF (tkL (s.A 629) n L0 i)) b (c ||| 1 <<< ((sortF (tkL (s.A 629) n L0 i)) &&& 31))) (tkL (s.A 629) n L0 (i + 1)) (gq (up X (705 * t + 1 + 4 * m) (sortF (tkL (s.A 629) n L0 i))) base C PA Q o w)))) (by show hp (ps (rs s (sortF (tkL (s.A 629) n L0 i)) b (c ||| 1 <<< ((sortF (tkL (s.A 629) n L0 i)) &&& 31))) (tkL (s.A 629) n L0 (i + 1)) (nI C.length, nI Q.length, o, b2i w, up (layC X base C) (705 * t + 1 + 4 * m) (sortF (tkL (s.A 629) n L0 i)), PA)) = _; rw [layC_up (by omega)]; rfl) ?_
  refine AW.aload_n dX2_clause_92 rfl rfl ?_
  refine AW.iload_n dX2_clause_93 rfl rfl ?_
  refine AW.iload_n dX2_clause_94 rfl rfl ?_
  refine AW.callV (Y := mX2_body) (n := 2) (hr) (by decide) (by decide) rfl gM q1550 q1552 qs71 q141 q1553 dX2_clause_95 (by decide +kernel) rfl rfl (Nat.le_of_ble_eq_true rfl) rfl ?_
  refine AW.istore dX2_clause_98 rfl (Nat.le_of_ble_eq_true rfl) rfl rfl ?_
  refine AW.iload dX2_clause_100 rfl rfl ?_
  refine AW.if_eq (tgt := 108) dX2_clause_102 (by decide) rfl (fun _ => ?_) (fun c_ => by first | exact absurd c_ rfl | exact absurd rfl c_ | exact absurd c_ (not_not_intro rfl) | exact Bool.noConfusion (c_.symm.trans rfl))
  refine AW.aload_n dX2_clause_108 rfl rfl ?_
  refine AW.get ci2 2 (by decide) q1353 dX2_clause_109 gM rfl rfl ?_
  refine AW.aload_n dX2_clause_112 rfl rfl ?_
  refine AW.get ci2 12 (by decide) q1363 dX2_clause_113 gM rfl rfl ?_
  refine AW.stT (x := .int (nI (705 * t))) (by show Value.int (s.S 12) = _; rw [h12]) ?_
  refine AW.dup2 dX2_clause_116 rfl rfl rfl ?_
  refine AW.iald dX2_clause_117 ps_g628 (in0 (705 * t) (by omega) (by decide)) (j := 705 * t) (cI_nI (by omega)) rfl ?_
  refine AW.stT (x := .int (nI m)) (by show Value.int (layC X2 base C2 (705 * t)) = _; rw [layC_out (Or.inl (by omega)), hX2]) ?_
  refine AW.iconst (v := 1) dX2_clause_118 (by decide) rfl ?_
  refine AW.iadd dX2_clause_119 rfl ?_
  refine AW.stT (x := .int (nI (m + 1))) (by show Value.int (nI m + 1) = _; rw [nI_succ]) ?_
  refine AW.iast dX2_clause_120 (by decide) ps_g628 (in0 (705 * t) (by omega) (by decide)) (j := 705 * t) (cI_nI (by omega)) ps_s628 rfl ?_
  refine AW.hp (h2 := (hp (ps (rs s a2 b2 c2) (tkL (s.A 629) n L0 j) (gq (up X2 (705 * t) (nI (m + 1))) base C2 PA2 Q2 o2 w2)))) (by show hp (ps (rs s a2 b2 c2) (tkL (s.A 629) n L0 j) (nI C2.length, nI Q2.length, o2, b2i w2, up (layC X2 base C2) (705 * t) (nI (m + 1)), PA2)) = _; rw [layC_up (by omega)]; rfl) ?_
  refine AW.aload_n dX2_clause_121 rfl rfl ?_
  refine AW.get ci2 9 (by decide) q1360 dX2_clause_122 gM rfl rfl ?_
  refine AW.bipush (v := 59) dX2_clause_125 (by decide) rfl ?_
  refine AW.icmp_eq (tgt := 132) dX2_clause_127 (by decide) rfl (fun _ => ?_) (fun c_ => by first | exact absurd c_ hs | exact absurd hs c_ | exact absurd c_ (not_not_intro hs) | exact Bool.noConfusion (c_.symm.trans hs))
  refine AW.aload_n dX2_clause_132 rfl rfl ?_
  refine AW.callV (Y := mX2_nextToken) (n := 0) (w_next hn h300 hby (j + 1) rfl) (by decide) (by decide) rfl gM q1501 q1503 qs66 q141 q1504 dX2_clause_133 (by decide +kernel) rfl rfl (Nat.le_of_ble_eq_true rfl) rfl ?_
  refine AW.iconst (v := 0) dX2_clause_136 (by decide) rfl ?_
  exact AW.iretE dX2_clause_137 rfl rfl rfl rfl
theorem clause_6h {s : Sg} {a b c : Int32} {X PA : Nat → Int32} {base : Nat} {C : Cd} {Q : List Int32} {o : Int32} {w : Bool} {n : Nat} {L0 : Lq} {i : Nat} (hn : s.S 4 = nI n) (h300 : n ≤ 300) (hby : ∀ k, k < n → 0 ≤ s.A 629 k) {t m : Nat} (ht4 : t < 4) (h12 : s.S 12 = nI (705 * t)) (hb2 : base = 705 * t + 97) (hX : X (705 * t) = nI m) (h0 : 0 ≤ (sortF (tkL (s.A 629) n L0 i))) (hgt : 2 < (sortF (tkL (s.A 629) n L0 i))) (m24 : m = 24) : Run 11 mX2_clause [.ref 625] (hp (ps (rs s a b c) (tkL (s.A 629) n L0 i) (gq X base C PA Q o w))) (.inl (some (.int (6)))) (hp (ps (rs s a b c) (tkL (s.A 629) n L0 i) (gq X base C PA Q o w))) := by
  refine Run.of rfl (Nat.le_of_ble_eq_true rfl) rfl ?_
  refine AW.aload_n dX2_clause_0 rfl rfl ?_
  refine AW.callV (Y := mX2_sortOf) (n := 0) (r_X2_sortOf) (by decide) (by decide) rfl gM q1524 q1526 qs69 q141 q1527 dX2_clause_1 (by decide +kernel) rfl rfl (Nat.le_of_ble_eq_true rfl) rfl ?_
  refine AW.istore_n (i := 1) dX2_clause_4 rfl rfl (Nat.le_of_ble_eq_true rfl) rfl rfl ?_
  refine AW.iload_n dX2_clause_5 rfl rfl ?_
  refine AW.if_ge (tgt := 11) dX2_clause_6 (by decide) rfl (fun _ => ?_) (fun c_ => by first | exact absurd c_ h0 | exact absurd h0 c_ | exact absurd c_ (not_not_intro h0) | exact Bool.noConfusion (c_.symm.trans h0))
  refine AW.iload_n dX2_clause_11 rfl rfl ?_
  refine AW.iconst (v := 2) dX2_clause_12 (by decide) rfl ?_
  refine AW.icmp_gt (tgt := 29) dX2_clause_13 (by decide) rfl (fun _ => ?_) (fun c_ => by first | exact absurd c_ hgt | exact absurd hgt c_ | exact absurd c_ (not_not_intro hgt) | exact Bool.noConfusion (c_.symm.trans hgt))
  refine AW.aload_n dX2_clause_29 rfl rfl ?_
  refine AW.get ci2 2 (by decide) q1353 dX2_clause_30 gM rfl rfl ?_
  refine AW.aload_n dX2_clause_33 rfl rfl ?_
  refine AW.get ci2 12 (by decide) q1363 dX2_clause_34 gM rfl rfl ?_
  refine AW.stT (x := .int (nI (705 * t))) (by show Value.int (s.S 12) = _; rw [h12]) ?_
  refine AW.iald dX2_clause_37 ps_g628 (in0 (705 * t) (by omega) (by decide)) (j := 705 * t) (cI_nI (by omega)) rfl ?_
  refine AW.stT (x := .int (nI m)) (by show Value.int (layC X base C (705 * t)) = _; rw [layC_out (Or.inl (by omega)), hX]) ?_
  refine AW.istore_n (i := 2) dX2_clause_38 rfl rfl (Nat.le_of_ble_eq_true rfl) rfl rfl ?_
  refine AW.iload_n dX2_clause_39 rfl rfl ?_
  refine AW.bipush (v := 24) dX2_clause_40 (by decide) rfl ?_
  refine AW.icmp_ne (tgt := 48) dX2_clause_42 (by decide) rfl (fun c_ => by first | exact absurd c_ (show nI m = 24 by rw [m24]; rfl) | exact absurd (show nI m = 24 by rw [m24]; rfl) c_ | exact Bool.noConfusion (c_.symm.trans (show nI m = 24 by rw [m24]; rfl))) (fun _ => ?_)
  refine AW.bipush (v := 6) dX2_clause_45 (by decide) rfl ?_
  exact AW.iretE dX2_clause_47 rfl rfl rfl rfl
theorem clause_bh {s : Sg} {a b c : Int32} {X PA : Nat → Int32} {base : Nat} {C : Cd} {Q : List Int32} {o : Int32} {w : Bool} {n : Nat} {L0 : Lq} {i : Nat} (hn : s.S 4 = nI n) (h300 : n ≤ 300) (hby : ∀ k, k < n → 0 ≤ s.A 629 k) {t m : Nat} (ht4 : t < 4) (hm : m < 24) (h12 : s.S 12 = nI (705 * t)) (hb2 : base = 705 * t + 97) (hX : X (705 * t) = nI m) (h0 : 0 ≤ (sortF (tkL (s.A 629) n L0 i))) (hgt : 2 < (sortF (tkL (s.A 629) n L0 i))) {r a2 b2 c2 : Int32} {j : Nat} {X2 PA2 : Nat → Int32} {C2 : Cd} {Q2 : List Int32} {o2 : Int32} {w2 : Bool} (hr0 : ¬ r = 0) (hr : Run 10 mX2_body [.ref 625, .int (sortF (tkL (s.A 629) n L0 i)), .int (nI (705 * t + 1 + 4 * m))] (hp (ps (rs s (sortF (tkL (s.A 629) n L0 i)) b c) (tkL (s.A 629) n L0 (i + 1)) (gq (up X (705 * t + 1 + 4 * m) (sortF (tkL (s.A 629) n L0 i))) base C PA Q o w))) (.inl (some (.int r))) (hp (ps (rs s a2 b2 c2) (tkL (s.A 629) n L0 j) (gq X2 base C2 PA2 Q2 o2 w2)))) : Run 11 mX2_clause [.ref 625] (hp (ps (rs s a b c) (tkL (s.A 629) n L0 i) (gq X base C PA Q o w))) (.inl (some (.int (r)))) (hp (ps (rs s a2 b2 c2) (tkL (s.A 629) n L0 j) (gq X2 base C2 PA2 Q2 o2 w2))) := by
  refine Run.of rfl (Nat.le_of_ble_eq_true rfl) rfl ?_
  refine AW.aload_n dX2_clause_0 rfl rfl ?_
  refine AW.callV (Y := mX2_sortOf) (n := 0) (r_X2_sortOf) (by decide) (by decide) rfl gM q1524 q1526 qs69 q141 q1527 dX2_clause_1 (by decide +kernel) rfl rfl (Nat.le_of_ble_eq_true rfl) rfl ?_
  refine AW.istore_n (i := 1) dX2_clause_4 rfl rfl (Nat.le_of_ble_eq_true rfl) rfl rfl ?_
  refine AW.iload_n dX2_clause_5 rfl rfl ?_
  refine AW.if_ge (tgt := 11) dX2_clause_6 (by decide) rfl (fun _ => ?_) (fun c_ => by first | exact absurd c_ h0 | exact absurd h0 c_ | exact absurd c_ (not_not_intro h0) | exact Bool.noConfusion (c_.symm.trans h0))
  refine AW.iload_n dX2_clause_11 rfl rfl ?_
  refine AW.iconst (v := 2) dX2_clause_12 (by decide) rfl ?_
  refine AW.icmp_gt (tgt := 29) dX2_clause_13 (by decide) rfl (fun _ => ?_) (fun c_ => by first | exact absurd c_ hgt | exact absurd hgt c_ | exact absurd c_ (not_not_intro hgt) | exact Bool.noConfusion (c_.symm.trans hgt))
  refine AW.aload_n dX2_clause_29 rfl rfl ?_
  refine AW.get ci2 2 (by decide) q1353 dX2_clause_30 gM rfl rfl ?_
  refine AW.aload_n dX2_clause_33 rfl rfl ?_
  refine AW.get ci2 12 (by decide) q1363 dX2_clause_34 gM rfl rfl ?_
  refine AW.stT (x := .int (nI (705 * t))) (by show Value.int (s.S 12) = _; rw [h12]) ?_
  refine AW.iald dX2_clause_37 ps_g628 (in0 (705 * t) (by omega) (by decide)) (j := 705 * t) (cI_nI (by omega)) rfl ?_
  refine AW.stT (x := .int (nI m)) (by show Value.int (layC X base C (705 * t)) = _; rw [layC_out (Or.inl (by omega)), hX]) ?_
  refine AW.istore_n (i := 2) dX2_clause_38 rfl rfl (Nat.le_of_ble_eq_true rfl) rfl rfl ?_
  refine AW.iload_n dX2_clause_39 rfl rfl ?_
  refine AW.bipush (v := 24) dX2_clause_40 (by decide) rfl ?_
  refine AW.icmp_ne (tgt := 48) dX2_clause_42 (by decide) rfl (fun _ => ?_) (fun c_ => by first | exact absurd c_ (show ¬ nI m = 24 from fun z => by have h9 := nI_t (k := m) (by omega); rw [z] at h9; have h8 : (24 : Int32).toInt = 24 := rfl; omega) | exact absurd (show ¬ nI m = 24 from fun z => by have h9 := nI_t (k := m) (by omega); rw [z] at h9; have h8 : (24 : Int32).toInt = 24 := rfl; omega) c_ | exact absurd c_ (not_not_intro (show ¬ nI m = 24 from fun z => by have h9 := nI_t (k := m) (by omega); rw [z] at h9; have h8 : (24 : Int32).toInt = 24 := rfl; omega)) | exact Bool.noConfusion (c_.symm.trans (show ¬ nI m = 24 from fun z => by have h9 := nI_t (k := m) (by omega); rw [z] at h9; have h8 : (24 : Int32).toInt = 24 := rfl; omega)))
  refine AW.iload_n dX2_clause_48 rfl rfl ?_
  refine AW.iconst (v := 2) dX2_clause_49 (by decide) rfl ?_
  refine AW.icmp_gt (tgt := 65) dX2_clause_50 (by decide) rfl (fun _ => ?_) (fun c_ => by first | exact absurd c_ hgt | exact absurd hgt c_ | exact absurd c_ (not_not_intro hgt) | exact Bool.noConfusion (c_.symm.trans hgt))
  refine AW.aload_n dX2_clause_65 rfl rfl ?_
  refine AW.iload_n dX2_clause_66 rfl rfl ?_
  refine AW.put ci2 14 (by decide) q1365 dX2_clause_67 (by decide) gM rfl (fun _ => rfl) (fun _ => rfl) (Nat.le_of_ble_eq_true rfl) ps_s14 rfl ?_
  refine AW.aload_n dX2_clause_70 rfl rfl ?_
  refine AW.callV (Y := mX2_nextToken) (n := 0) (w_next hn h300 hby (i + 1) rfl) (by decide) (by decide) rfl gM q1501 q1503 qs66 q141 q1504 dX2_clause_71 (by decide +kernel) rfl rfl (Nat.le_of_ble_eq_true rfl) rfl ?_
  refine AW.aload_n dX2_clause_74 rfl rfl ?_
  refine AW.get ci2 12 (by decide) q1363 dX2_clause_75 gM rfl rfl ?_
  refine AW.iconst (v := 1) dX2_clause_78 (by decide) rfl ?_
  refine AW.iadd dX2_clause_79 rfl ?_
  refine AW.iconst (v := 4) dX2_clause_80 (by decide) rfl ?_
  refine AW.iload_n dX2_clause_81 rfl rfl ?_
  refine AW.imul dX2_clause_82 rfl ?_
  refine AW.iadd dX2_clause_83 rfl ?_
  refine AW.stT (x := .int (nI (705 * t + 1 + 4 * m))) (by show Value.int (s.S 12 + 1 + 4 * nI m) = _; rw [h12, show (1 : Int32) = nI 1 from rfl, show (4 : Int32) = nI 4 from rfl, nI_mul, nI_add, nI_add]) ?_
  refine AW.istore_n (i := 3) dX2_clause_84 rfl rfl (Nat.le_of_ble_eq_true rfl) rfl rfl ?_
  refine AW.aload_n dX2_clause_85 rfl rfl ?_
  refine AW.get ci2 2 (by decide) q1353 dX2_clause_86 gM rfl rfl ?_
  refine AW.iload_n dX2_clause_89 rfl rfl ?_
  refine AW.iload_n dX2_clause_90 rfl rfl ?_
  refine AW.iast dX2_clause_91 (by decide) ps_g628 (in0 (705 * t + 1 + 4 * m) (by omega) (by decide)) (j := (705 * t + 1 + 4 * m)) (cI_nI (by omega)) ps_s628 rfl ?_
  refine AW.hp (h2 := (hp (ps (rs s (sortF (tkL (s.A 629) n L0 i)) b c) (tkL (s.A 629) n L0 (i + 1)) (gq (up X (705 * t + 1 + 4 * m) (sortF (tkL (s.A 629) n L0 i))) base C PA Q o w)))) (by show hp (ps (rs s (sortF (tkL (s.A 629) n L0 i)) b c) (tkL (s.A 629) n L0 (i + 1)) (nI C.length, nI Q.length, o, b2i w, up (layC X base C) (705 * t + 1 + 4 * m) (sortF (tkL (s.A 629) n L0 i)), PA)) = _; rw [layC_up (by omega)]; rfl) ?_
  refine AW.aload_n dX2_clause_92 rfl rfl ?_
  refine AW.iload_n dX2_clause_93 rfl rfl ?_
  refine AW.iload_n dX2_clause_94 rfl rfl ?_
  refine AW.callV (Y := mX2_body) (n := 2) (hr) (by decide) (by decide) rfl gM q1550 q1552 qs71 q141 q1553 dX2_clause_95 (by decide +kernel) rfl rfl (Nat.le_of_ble_eq_true rfl) rfl ?_
  refine AW.istore dX2_clause_98 rfl (Nat.le_of_ble_eq_true rfl) rfl rfl ?_
  refine AW.iload dX2_clause_100 rfl rfl ?_
  refine AW.if_eq (tgt := 108) dX2_clause_102 (by decide) rfl (fun c_ => by first | exact absurd c_ hr0 | exact absurd hr0 c_ | exact Bool.noConfusion (c_.symm.trans hr0)) (fun _ => ?_)
  refine AW.iload dX2_clause_105 rfl rfl ?_
  exact AW.iretE dX2_clause_107 rfl rfl rfl rfl
theorem clause_sh {s : Sg} {a b c : Int32} {X PA : Nat → Int32} {base : Nat} {C : Cd} {Q : List Int32} {o : Int32} {w : Bool} {n : Nat} {L0 : Lq} {i : Nat} (hn : s.S 4 = nI n) (h300 : n ≤ 300) (hby : ∀ k, k < n → 0 ≤ s.A 629 k) {t m : Nat} (ht4 : t < 4) (hm : m < 24) (h12 : s.S 12 = nI (705 * t)) (hb2 : base = 705 * t + 97) (hX : X (705 * t) = nI m) (h0 : 0 ≤ (sortF (tkL (s.A 629) n L0 i))) (hgt : 2 < (sortF (tkL (s.A 629) n L0 i))) {r a2 b2 c2 : Int32} {j : Nat} {X2 PA2 : Nat → Int32} {C2 : Cd} {Q2 : List Int32} {o2 : Int32} {w2 : Bool} (hX2 : X2 (705 * t) = nI m) (hr : Run 10 mX2_body [.ref 625, .int (sortF (tkL (s.A 629) n L0 i)), .int (nI (705 * t + 1 + 4 * m))] (hp (ps (rs s (sortF (tkL (s.A 629) n L0 i)) b c) (tkL (s.A 629) n L0 (i + 1)) (gq (up X (705 * t + 1 + 4 * m) (sortF (tkL (s.A 629) n L0 i))) base C PA Q o w))) (.inl (some (.int 0))) (hp (ps (rs s a2 b2 c2) (tkL (s.A 629) n L0 j) (gq X2 base C2 PA2 Q2 o2 w2)))) (hs : ¬ (tkL (s.A 629) n L0 j).2.2.1 = 59) : Run 11 mX2_clause [.ref 625] (hp (ps (rs s a b c) (tkL (s.A 629) n L0 i) (gq X base C PA Q o w))) (.inl (some (.int (1)))) (hp (ps (rs s a2 b2 c2) (tkL (s.A 629) n L0 j) (gq (up X2 (705 * t) (nI (m + 1))) base C2 PA2 Q2 o2 w2))) := by
  refine Run.of rfl (Nat.le_of_ble_eq_true rfl) rfl ?_
  refine AW.aload_n dX2_clause_0 rfl rfl ?_
  refine AW.callV (Y := mX2_sortOf) (n := 0) (r_X2_sortOf) (by decide) (by decide) rfl gM q1524 q1526 qs69 q141 q1527 dX2_clause_1 (by decide +kernel) rfl rfl (Nat.le_of_ble_eq_true rfl) rfl ?_
  refine AW.istore_n (i := 1) dX2_clause_4 rfl rfl (Nat.le_of_ble_eq_true rfl) rfl rfl ?_
  refine AW.iload_n dX2_clause_5 rfl rfl ?_
  refine AW.if_ge (tgt := 11) dX2_clause_6 (by decide) rfl (fun _ => ?_) (fun c_ => by first | exact absurd c_ h0 | exact absurd h0 c_ | exact absurd c_ (not_not_intro h0) | exact Bool.noConfusion (c_.symm.trans h0))
  refine AW.iload_n dX2_clause_11 rfl rfl ?_
  refine AW.iconst (v := 2) dX2_clause_12 (by decide) rfl ?_
  refine AW.icmp_gt (tgt := 29) dX2_clause_13 (by decide) rfl (fun _ => ?_) (fun c_ => by first | exact absurd c_ hgt | exact absurd hgt c_ | exact absurd c_ (not_not_intro hgt) | exact Bool.noConfusion (c_.symm.trans hgt))
  refine AW.aload_n dX2_clause_29 rfl rfl ?_
  refine AW.get ci2 2 (by decide) q1353 dX2_clause_30 gM rfl rfl ?_
  refine AW.aload_n dX2_clause_33 rfl rfl ?_
  refine AW.get ci2 12 (by decide) q1363 dX2_clause_34 gM rfl rfl ?_
  refine AW.stT (x := .int (nI (705 * t))) (by show Value.int (s.S 12) = _; rw [h12]) ?_
  refine AW.iald dX2_clause_37 ps_g628 (in0 (705 * t) (by omega) (by decide)) (j := 705 * t) (cI_nI (by omega)) rfl ?_
  refine AW.stT (x := .int (nI m)) (by show Value.int (layC X base C (705 * t)) = _; rw [layC_out (Or.inl (by omega)), hX]) ?_
  refine AW.istore_n (i := 2) dX2_clause_38 rfl rfl (Nat.le_of_ble_eq_true rfl) rfl rfl ?_
  refine AW.iload_n dX2_clause_39 rfl rfl ?_
  refine AW.bipush (v := 24) dX2_clause_40 (by decide) rfl ?_
  refine AW.icmp_ne (tgt := 48) dX2_clause_42 (by decide) rfl (fun _ => ?_) (fun c_ => by first | exact absurd c_ (show ¬ nI m = 24 from fun z => by have h9 := nI_t (k := m) (by omega); rw [z] at h9; have h8 : (24 : Int32).toInt = 24 := rfl; omega) | exact absurd (show ¬ nI m = 24 from fun z => by have h9 := nI_t (k := m) (by omega); rw [z] at h9; have h8 : (24 : Int32).toInt = 24 := rfl; omega) c_ | exact absurd c_ (not_not_intro (show ¬ nI m = 24 from fun z => by have h9 := nI_t (k := m) (by omega); rw [z] at h9; have h8 : (24 : Int32).toInt = 24 := rfl; omega)) | exact Bool.noConfusion (c_.symm.trans (show ¬ nI m = 24 from fun z => by have h9 := nI_t (k := m) (by omega); rw [z] at h9; have h8 : (24 : Int32).toInt = 24 := rfl; omega)))
  refine AW.iload_n dX2_clause_48 rfl rfl ?_
  refine AW.iconst (v := 2) dX2_clause_49 (by decide) rfl ?_
  refine AW.icmp_gt (tgt := 65) dX2_clause_50 (by decide) rfl (fun _ => ?_) (fun c_ => by first | exact absurd c_ hgt | exact absurd hgt c_ | exact absurd c_ (not_not_intro hgt) | exact Bool.noConfusion (c_.symm.trans hgt))
  refine AW.aload_n dX2_clause_65 rfl rfl ?_
  refine AW.iload_n dX2_clause_66 rfl rfl ?_
  refine AW.put ci2 14 (by decide) q1365 dX2_clause_67 (by decide) gM rfl (fun _ => rfl) (fun _ => rfl) (Nat.le_of_ble_eq_true rfl) ps_s14 rfl ?_
  refine AW.aload_n dX2_clause_70 rfl rfl ?_
  refine AW.callV (Y := mX2_nextToken) (n := 0) (w_next hn h300 hby (i + 1) rfl) (by decide) (by decide) rfl gM q1501 q1503 qs66 q141 q1504 dX2_clause_71 (by decide +kernel) rfl rfl (Nat.le_of_ble_eq_true rfl) rfl ?_
  refine AW.aload_n dX2_clause_74 rfl rfl ?_
  refine AW.get ci2 12 (by decide) q1363 dX2_clause_75 gM rfl rfl ?_
  refine AW.iconst (v := 1) dX2_clause_78 (by decide) rfl ?_
  refine AW.iadd dX2_clause_79 rfl ?_
  refine AW.iconst (v := 4) dX2_clause_80 (by decide) rfl ?_
  refine AW.iload_n dX2_clause_81 rfl rfl ?_
  refine AW.imul dX2_clause_82 rfl ?_
  refine AW.iadd dX2_clause_83 rfl ?_
  refine AW.stT (x := .int (nI (705 * t + 1 + 4 * m))) (by show Value.int (s.S 12 + 1 + 4 * nI m) = _; rw [h12, show (1 : Int32) = nI 1 from rfl, show (4 : Int32) = nI 4 from rfl, nI_mul, nI_add, nI_add]) ?_
  refine AW.istore_n (i := 3) dX2_clause_84 rfl rfl (Nat.le_of_ble_eq_true rfl) rfl rfl ?_
  refine AW.aload_n dX2_clause_85 rfl rfl ?_
  refine AW.get ci2 2 (by decide) q1353 dX2_clause_86 gM rfl rfl ?_
  refine AW.iload_n dX2_clause_89 rfl rfl ?_
  refine AW.iload_n dX2_clause_90 rfl rfl ?_
  refine AW.iast dX2_clause_91 (by decide) ps_g628 (in0 (705 * t + 1 + 4 * m) (by omega) (by decide)) (j := (705 * t + 1 + 4 * m)) (cI_nI (by omega)) ps_s628 rfl ?_
  refine AW.hp (h2 := (hp (ps (rs s (sortF (tkL (s.A 629) n L0 i)) b c) (tkL (s.A 629) n L0 (i + 1)) (gq (up X (705 * t + 1 + 4 * m) (sortF (tkL (s.A 629) n L0 i))) base C PA Q o w)))) (by show hp (ps (rs s (sortF (tkL (s.A 629) n L0 i)) b c) (tkL (s.A 629) n L0 (i + 1)) (nI C.length, nI Q.length, o, b2i w, up (layC X base C) (705 * t + 1 + 4 * m) (sortF (tkL (s.A 629) n L0 i)), PA)) = _; rw [layC_up (by omega)]; rfl) ?_
  refine AW.aload_n dX2_clause_92 rfl rfl ?_
  refine AW.iload_n dX2_clause_93 rfl rfl ?_
  refine AW.iload_n dX2_clause_94 rfl rfl ?_
  refine AW.callV (Y := mX2_body) (n := 2) (hr) (by decide) (by decide) rfl gM q1550 q1552 qs71 q141 q1553 dX2_clause_95 (by decide +kernel) rfl rfl (Nat.le_of_ble_eq_true rfl) rfl ?_
  refine AW.istore dX2_clause_98 rfl (Nat.le_of_ble_eq_true rfl) rfl rfl ?_
  refine AW.iload dX2_clause_100 rfl rfl ?_
  refine AW.if_eq (tgt := 108) dX2_clause_102 (by decide) rfl (fun _ => ?_) (fun c_ => by first | exact absurd c_ rfl | exact absurd rfl c_ | exact absurd c_ (not_not_intro rfl) | exact Bool.noConfusion (c_.symm.trans rfl))
  refine AW.aload_n dX2_clause_108 rfl rfl ?_
  refine AW.get ci2 2 (by decide) q1353 dX2_clause_109 gM rfl rfl ?_
  refine AW.aload_n dX2_clause_112 rfl rfl ?_
  refine AW.get ci2 12 (by decide) q1363 dX2_clause_113 gM rfl rfl ?_
  refine AW.stT (x := .int (nI (705 * t))) (by show Value.int (s.S 12) = _; rw [h12]) ?_
  refine AW.dup2 dX2_clause_116 rfl rfl rfl ?_
  refine AW.iald dX2_clause_117 ps_g628 (in0 (705 * t) (by omega) (by decide)) (j := 705 * t) (cI_nI (by omega)) rfl ?_
  refine AW.stT (x := .int (nI m)) (by show Value.int (layC X2 base C2 (705 * t)) = _; rw [layC_out (Or.inl (by omega)), hX2]) ?_
  refine AW.iconst (v := 1) dX2_clause_118 (by decide) rfl ?_
  refine AW.iadd dX2_clause_119 rfl ?_
  refine AW.stT (x := .int (nI (m + 1))) (by show Value.int (nI m + 1) = _; rw [nI_succ]) ?_
  refine AW.iast dX2_clause_120 (by decide) ps_g628 (in0 (705 * t) (by omega) (by decide)) (j := 705 * t) (cI_nI (by omega)) ps_s628 rfl ?_
  refine AW.hp (h2 := (hp (ps (rs s a2 b2 c2) (tkL (s.A 629) n L0 j) (gq (up X2 (705 * t) (nI (m + 1))) base C2 PA2 Q2 o2 w2)))) (by show hp (ps (rs s a2 b2 c2) (tkL (s.A 629) n L0 j) (nI C2.length, nI Q2.length, o2, b2i w2, up (layC X2 base C2) (705 * t) (nI (m + 1)), PA2)) = _; rw [layC_up (by omega)]; rfl) ?_
  refine AW.aload_n dX2_clause_121 rfl rfl ?_
  refine AW.get ci2 9 (by decide) q1360 dX2_clause_122 gM rfl rfl ?_
  refine AW.bipush (v := 59) dX2_clause_125 (by decide) rfl ?_
  refine AW.icmp_eq (tgt := 132) dX2_clause_127 (by decide) rfl (fun c_ => by first | exact absurd c_ hs | exact absurd hs c_ | exact Bool.noConfusion (c_.symm.trans hs)) (fun _ => ?_)
  refine AW.iconst (v := 1) dX2_clause_130 (by decide) rfl ?_
  exact AW.iretE dX2_clause_131 rfl rfl rfl rfl
theorem clause_th {s : Sg} {a b c : Int32} {X PA : Nat → Int32} {base : Nat} {C : Cd} {Q : List Int32} {o : Int32} {w : Bool} {n : Nat} {L0 : Lq} {i : Nat} (hn : s.S 4 = nI n) (h300 : n ≤ 300) (hby : ∀ k, k < n → 0 ≤ s.A 629 k) {t m : Nat} (ht4 : t < 4) (hm : m < 24) (h12 : s.S 12 = nI (705 * t)) (hb2 : base = 705 * t + 97) (hX : X (705 * t) = nI m) (h0 : 0 ≤ (sortF (tkL (s.A 629) n L0 i))) (hgt : 2 < (sortF (tkL (s.A 629) n L0 i))) {r a2 b2 c2 : Int32} {j : Nat} {X2 PA2 : Nat → Int32} {C2 : Cd} {Q2 : List Int32} {o2 : Int32} {w2 : Bool} (hX2 : X2 (705 * t) = nI m) (hr : Run 10 mX2_body [.ref 625, .int (sortF (tkL (s.A 629) n L0 i)), .int (nI (705 * t + 1 + 4 * m))] (hp (ps (rs s (sortF (tkL (s.A 629) n L0 i)) b c) (tkL (s.A 629) n L0 (i + 1)) (gq (up X (705 * t + 1 + 4 * m) (sortF (tkL (s.A 629) n L0 i))) base C PA Q o w))) (.inl (some (.int 0))) (hp (ps (rs s a2 b2 c2) (tkL (s.A 629) n L0 j) (gq X2 base C2 PA2 Q2 o2 w2)))) (hs : (tkL (s.A 629) n L0 j).2.2.1 = 59) : Run 11 mX2_clause [.ref 625] (hp (ps (rs s a b c) (tkL (s.A 629) n L0 i) (gq X base C PA Q o w))) (.inl (some (.int (0)))) (hp (ps (rs s a2 b2 c2) (tkL (s.A 629) n L0 (j + 1)) (gq (up X2 (705 * t) (nI (m + 1))) base C2 PA2 Q2 o2 w2))) := by
  refine Run.of rfl (Nat.le_of_ble_eq_true rfl) rfl ?_
  refine AW.aload_n dX2_clause_0 rfl rfl ?_
  refine AW.callV (Y := mX2_sortOf) (n := 0) (r_X2_sortOf) (by decide) (by decide) rfl gM q1524 q1526 qs69 q141 q1527 dX2_clause_1 (by decide +kernel) rfl rfl (Nat.le_of_ble_eq_true rfl) rfl ?_
  refine AW.istore_n (i := 1) dX2_clause_4 rfl rfl (Nat.le_of_ble_eq_true rfl) rfl rfl ?_
  refine AW.iload_n dX2_clause_5 rfl rfl ?_
  refine AW.if_ge (tgt := 11) dX2_clause_6 (by decide) rfl (fun _ => ?_) (fun c_ => by first | exact absurd c_ h0 | exact absurd h0 c_ | exact absurd c_ (not_not_intro h0) | exact Bool.noConfusion (c_.symm.trans h0))
  refine AW.iload_n dX2_clause_11 rfl rfl ?_
  refine AW.iconst (v := 2) dX2_clause_12 (by decide) rfl ?_
  refine AW.icmp_gt (tgt := 29) dX2_clause_13 (by decide) rfl (fun _ => ?_) (fun c_ => by first | exact absurd c_ hgt | exact absurd hgt c_ | exact absurd c_ (not_not_intro hgt) | exact Bool.noConfusion (c_.symm.trans hgt))
  refine AW.aload_n dX2_clause_29 rfl rfl ?_
  refine AW.get ci2 2 (by decide) q1353 dX2_clause_30 gM rfl rfl ?_
  refine AW.aload_n dX2_clause_33 rfl rfl ?_
  refine AW.get ci2 12 (by decide) q1363 dX2_clause_34 gM rfl rfl ?_
  refine AW.stT (x := .int (nI (705 * t))) (by show Value.int (s.S 12) = _; rw [h12]) ?_
  refine AW.iald dX2_clause_37 ps_g628 (in0 (705 * t) (by omega) (by decide)) (j := 705 * t) (cI_nI (by omega)) rfl ?_
  refine AW.stT (x := .int (nI m)) (by show Value.int (layC X base C (705 * t)) = _; rw [layC_out (Or.inl (by omega)), hX]) ?_
  refine AW.istore_n (i := 2) dX2_clause_38 rfl rfl (Nat.le_of_ble_eq_true rfl) rfl rfl ?_
  refine AW.iload_n dX2_clause_39 rfl rfl ?_
  refine AW.bipush (v := 24) dX2_clause_40 (by decide) rfl ?_
  refine AW.icmp_ne (tgt := 48) dX2_clause_42 (by decide) rfl (fun _ => ?_) (fun c_ => by first | exact absurd c_ (show ¬ nI m = 24 from fun z => by have h9 := nI_t (k := m) (by omega); rw [z] at h9; have h8 : (24 : Int32).toInt = 24 := rfl; omega) | exact absurd (show ¬ nI m = 24 from fun z => by have h9 := nI_t (k := m) (by omega); rw [z] at h9; have h8 : (24 : Int32).toInt = 24 := rfl; omega) c_ | exact absurd c_ (not_not_intro (show ¬ nI m = 24 from fun z => by have h9 := nI_t (k := m) (by omega); rw [z] at h9; have h8 : (24 : Int32).toInt = 24 := rfl; omega)) | exact Bool.noConfusion (c_.symm.trans (show ¬ nI m = 24 from fun z => by have h9 := nI_t (k := m) (by omega); rw [z] at h9; have h8 : (24 : Int32).toInt = 24 := rfl; omega)))
  refine AW.iload_n dX2_clause_48 rfl rfl ?_
  refine AW.iconst (v := 2) dX2_clause_49 (by decide) rfl ?_
  refine AW.icmp_gt (tgt := 65) dX2_clause_50 (by decide) rfl (fun _ => ?_) (fun c_ => by first | exact absurd c_ hgt | exact absurd hgt c_ | exact absurd c_ (not_not_intro hgt) | exact Bool.noConfusion (c_.symm.trans hgt))
  refine AW.aload_n dX2_clause_65 rfl rfl ?_
  refine AW.iload_n dX2_clause_66 rfl rfl ?_
  refine AW.put ci2 14 (by decide) q1365 dX2_clause_67 (by decide) gM rfl (fun _ => rfl) (fun _ => rfl) (Nat.le_of_ble_eq_true rfl) ps_s14 rfl ?_
  refine AW.aload_n dX2_clause_70 rfl rfl ?_
  refine AW.callV (Y := mX2_nextToken) (n := 0) (w_next hn h300 hby (i + 1) rfl) (by decide) (by decide) rfl gM q1501 q1503 qs66 q141 q1504 dX2_clause_71 (by decide +kernel) rfl rfl (Nat.le_of_ble_eq_true rfl) rfl ?_
  refine AW.aload_n dX2_clause_74 rfl rfl ?_
  refine AW.get ci2 12 (by decide) q1363 dX2_clause_75 gM rfl rfl ?_
  refine AW.iconst (v := 1) dX2_clause_78 (by decide) rfl ?_
  refine AW.iadd dX2_clause_79 rfl ?_
  refine AW.iconst (v := 4) dX2_clause_80 (by decide) rfl ?_
  refine AW.iload_n dX2_clause_81 rfl rfl ?_
  refine AW.imul dX2_clause_82 rfl ?_
  refine AW.iadd dX2_clause_83 rfl ?_
  refine AW.stT (x := .int (nI (705 * t + 1 + 4 * m))) (by show Value.int (s.S 12 + 1 + 4 * nI m) = _; rw [h12, show (1 : Int32) = nI 1 from rfl, show (4 : Int32) = nI 4 from rfl, nI_mul, nI_add, nI_add]) ?_
  refine AW.istore_n (i := 3) dX2_clause_84 rfl rfl (Nat.le_of_ble_eq_true rfl) rfl rfl ?_
  refine AW.aload_n dX2_clause_85 rfl rfl ?_
  refine AW.get ci2 2 (by decide) q1353 dX2_clause_86 gM rfl rfl ?_
  refine AW.iload_n dX2_clause_89 rfl rfl ?_
  refine AW.iload_n dX2_clause_90 rfl rfl ?_
  refine AW.iast dX2_clause_91 (by decide) ps_g628 (in0 (705 * t + 1 + 4 * m) (by omega) (by decide)) (j := (705 * t + 1 + 4 * m)) (cI_nI (by omega)) ps_s628 rfl ?_
  refine AW.hp (h2 := (hp (ps (rs s (sortF (tkL (s.A 629) n L0 i)) b c) (tkL (s.A 629) n L0 (i + 1)) (gq (up X (705 * t + 1 + 4 * m) (sortF (tkL (s.A 629) n L0 i))) base C PA Q o w)))) (by show hp (ps (rs s (sortF (tkL (s.A 629) n L0 i)) b c) (tkL (s.A 629) n L0 (i + 1)) (nI C.length, nI Q.length, o, b2i w, up (layC X base C) (705 * t + 1 + 4 * m) (sortF (tkL (s.A 629) n L0 i)), PA)) = _; rw [layC_up (by omega)]; rfl) ?_
  refine AW.aload_n dX2_clause_92 rfl rfl ?_
  refine AW.iload_n dX2_clause_93 rfl rfl ?_
  refine AW.iload_n dX2_clause_94 rfl rfl ?_
  refine AW.callV (Y := mX2_body) (n := 2) (hr) (by decide) (by decide) rfl gM q1550 q1552 qs71 q141 q1553 dX2_clause_95 (by decide +kernel) rfl rfl (Nat.le_of_ble_eq_true rfl) rfl ?_
  refine AW.istore dX2_clause_98 rfl (Nat.le_of_ble_eq_true rfl) rfl rfl ?_
  refine AW.iload dX2_clause_100 rfl rfl ?_
  refine AW.if_eq (tgt := 108) dX2_clause_102 (by decide) rfl (fun _ => ?_) (fun c_ => by first | exact absurd c_ rfl | exact absurd rfl c_ | exact absurd c_ (not_not_intro rfl) | exact Bool.noConfusion (c_.symm.trans rfl))
  refine AW.aload_n dX2_clause_108 rfl rfl ?_
  refine AW.get ci2 2 (by decide) q1353 dX2_clause_109 gM rfl rfl ?_
  refine AW.aload_n dX2_clause_112 rfl rfl ?_
  refine AW.get ci2 12 (by decide) q1363 dX2_clause_113 gM rfl rfl ?_
  refine AW.stT (x := .int (nI (705 * t))) (by show Value.int (s.S 12) = _; rw [h12]) ?_
  refine AW.dup2 dX2_clause_116 rfl rfl rfl ?_
  refine AW.iald dX2_clause_117 ps_g628 (in0 (705 * t) (by omega) (by decide)) (j := 705 * t) (cI_nI (by omega)) rfl ?_
  refine AW.stT (x := .int (nI m)) (by show Value.int (layC X2 base C2 (705 * t)) = _; rw [layC_out (Or.inl (by omega)), hX2]) ?_
  refine AW.iconst (v := 1) dX2_clause_118 (by decide) rfl ?_
  refine AW.iadd dX2_clause_119 rfl ?_
  refine AW.stT (x := .int (nI (m + 1))) (by show Value.int (nI m + 1) = _; rw [nI_succ]) ?_
  refine AW.iast dX2_clause_120 (by decide) ps_g628 (in0 (705 * t) (by omega) (by decide)) (j := 705 * t) (cI_nI (by omega)) ps_s628 rfl ?_
  refine AW.hp (h2 := (hp (ps (rs s a2 b2 c2) (tkL (s.A 629) n L0 j) (gq (up X2 (705 * t) (nI (m + 1))) base C2 PA2 Q2 o2 w2)))) (by show hp (ps (rs s a2 b2 c2) (tkL (s.A 629) n L0 j) (nI C2.length, nI Q2.length, o2, b2i w2, up (layC X2 base C2) (705 * t) (nI (m + 1)), PA2)) = _; rw [layC_up (by omega)]; rfl) ?_
  refine AW.aload_n dX2_clause_121 rfl rfl ?_
  refine AW.get ci2 9 (by decide) q1360 dX2_clause_122 gM rfl rfl ?_
  refine AW.bipush (v := 59) dX2_clause_125 (by decide) rfl ?_
  refine AW.icmp_eq (tgt := 132) dX2_clause_127 (by decide) rfl (fun _ => ?_) (fun c_ => by first | exact absurd c_ hs | exact absurd hs c_ | exact absurd c_ (not_not_intro hs) | exact Bool.noConfusion (c_.symm.trans hs))
  refine AW.aload_n dX2_clause_132 rfl rfl ?_
  refine AW.callV (Y := mX2_nextToken) (n := 0) (w_next hn h300 hby (j + 1) rfl) (by decide) (by decide) rfl gM q1501 q1503 qs66 q141 q1504 dX2_clause_133 (by decide +kernel) rfl rfl (Nat.le_of_ble_eq_true rfl) rfl ?_
  refine AW.iconst (v := 0) dX2_clause_136 (by decide) rfl ?_
  exact AW.iretE dX2_clause_137 rfl rfl rfl rfl
