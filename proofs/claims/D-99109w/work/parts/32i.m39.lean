/-! MODEL 39: clauses (printed by tools/m39.py) -/
set_option maxRecDepth 100000
set_option maxHeartbeats 400000 in
theorem parsed_pre {s : Sg} {a b c : Int32} {X PA : Nat → Int32} {base : Nat} {C : Cd} {Q : List Int32} {o : Int32} {w : Bool} {n : Nat} {L0 : Lq} {i : Nat} {e : Bool} {Qf : AH → Prop} {oo : OR} (k : AX Qf 8 mX2_parsed (hp (ps (rs s a (b2i e) c) (tkL (s.A 629) n L0 i) (gq X base C PA [] 0 false))) 20 [some (.ref 625), some (.int (b2i e)), none] [] oo) : AX Qf 8 mX2_parsed (hp (ps (rs s a b c) (tkL (s.A 629) n L0 i) (gq X base C PA Q o w))) 0 [some (.ref 625), some (.int (b2i e)), none] [] oo := by
  refine AX.map (fun _ k_ => AW.aload_n dX2_parsed_0 rfl rfl k_) ?_
  refine AX.map (fun _ k_ => AW.iconst (v := 0) dX2_parsed_1 (by decide) rfl k_) ?_
  refine AX.map (fun _ k_ => AW.put ci2 16 (by decide) q1367 dX2_parsed_2 (by decide) gM rfl (fun _ => rfl) (fun _ => rfl) (Nat.le_of_ble_eq_true rfl) ps_s16 rfl k_) ?_
  refine AX.map (fun _ k_ => AW.aload_n dX2_parsed_5 rfl rfl k_) ?_
  refine AX.map (fun _ k_ => AW.iconst (v := 0) dX2_parsed_6 (by decide) rfl k_) ?_
  refine AX.map (fun _ k_ => AW.put ci2 17 (by decide) q1368 dX2_parsed_7 (by decide) gM rfl (fun _ => rfl) (fun _ => rfl) (Nat.le_of_ble_eq_true rfl) ps_s17 rfl k_) ?_
  refine AX.map (fun _ k_ => AW.aload_n dX2_parsed_10 rfl rfl k_) ?_
  refine AX.map (fun _ k_ => AW.iconst (v := 0) dX2_parsed_11 (by decide) rfl k_) ?_
  refine AX.map (fun _ k_ => AW.put ci2 18 (by decide) q1369 dX2_parsed_12 (by decide) gM rfl (fun _ => rfl) (fun _ => rfl) (Nat.le_of_ble_eq_true rfl) ps_s18 rfl k_) ?_
  refine AX.map (fun _ k_ => AW.aload_n dX2_parsed_15 rfl rfl k_) ?_
  refine AX.map (fun _ k_ => AW.iload_n dX2_parsed_16 rfl rfl k_) ?_
  refine AX.map (fun _ k_ => AW.put ci2 19 (by decide) q1370 dX2_parsed_17 (by decide) gM rfl (fun _ => nz_b e) (fun _ => by cases e <;> rfl) (Nat.le_of_ble_eq_true rfl) ps_s19 rfl k_) ?_
  exact AX.hpE rfl k
set_option maxHeartbeats 400000 in
theorem rsA {s : Sg} {a b c : Int32} : (rs s a b c).A 629 = s.A 629 := rfl
set_option maxHeartbeats 400000 in
theorem w_fig_t {s : Sg} {a b c : Int32} {X PA : Nat → Int32} {base : Nat} {C : Cd} {Q : List Int32} {o : Int32} {w : Bool} {n : Nat} {L0 : Lq} {i : Nat} (hn : s.S 4 = nI n) (h300 : n ≤ 300) (hby : ∀ k, k < n → 0 ≤ s.A 629 k) (x : Nat) (hx : x < base) (hb2 : base + 608 ≤ 2820) (lo hi : Int32) (hf : figF (tkL (s.A 629) n L0 i) lo hi = 0) (j : Nat) (hj : i + 1 = j) : Run 4 mX2_figure [.ref 625, .int (nI x), .int lo, .int hi] (hp (ps (rs s a b c) (tkL (s.A 629) n L0 i) (gq X base C PA Q o w))) (.inl (some (.int 0))) (hp (ps (rs s a b c) (tkL (s.A 629) n L0 j) (gq (up X x (tkL (s.A 629) n L0 i).2.2.2.1) base C PA Q o w))) := by
  subst hj
  have h := r_X2_figure_t (s := rs s a b c) (L := (tkL (s.A 629) n L0 i)) (X := X) (PA := PA) (base := base) (C := C) (Q := Q) (o := o) (w := w) n hn h300 hby (cI (tkL (s.A 629) n L0 i).1) (tk_L h300 i).2 (tk_L h300 i).1 x hx hb2 lo hi hf
  simp only [rsA] at h
  exact h
set_option maxHeartbeats 400000 in
theorem w_next {s : Sg} {a b c : Int32} {X PA : Nat → Int32} {base : Nat} {C : Cd} {Q : List Int32} {o : Int32} {w : Bool} {n : Nat} {L0 : Lq} {i : Nat} (hn : s.S 4 = nI n) (h300 : n ≤ 300) (hby : ∀ k, k < n → 0 ≤ s.A 629 k) (j : Nat) (hj : i + 1 = j) : Run 3 mX2_nextToken [.ref 625] (hp (ps (rs s a b c) (tkL (s.A 629) n L0 i) (gq X base C PA Q o w))) (.inl none) (hp (ps (rs s a b c) (tkL (s.A 629) n L0 j) (gq X base C PA Q o w))) := by
  subst hj
  have h := r_X2_nextToken (s := rs s a b c) (L := (tkL (s.A 629) n L0 i)) (G := gq X base C PA Q o w) n hn h300 hby (cI (tkL (s.A 629) n L0 i).1) (tk_L h300 i).2 (tk_L h300 i).1
  simp only [rsA] at h
  exact h
set_option maxHeartbeats 400000 in
theorem w_wd_f {s : Sg} {a b c : Int32} {X PA : Nat → Int32} {base : Nat} {C : Cd} {Q : List Int32} {o : Int32} {w : Bool} {n : Nat} {L0 : Lq} {i : Nat} (hn : s.S 4 = nI n) (h300 : n ≤ 300) (hby : ∀ k, k < n → 0 ≤ s.A 629 k) (q : Int64) (x hi : Int32) (hw : isWd (tkL (s.A 629) n L0 i) q = true) (j : Nat) (hj : i + 1 = j) (hf : ¬ figF (tkL (s.A 629) n L0 j) 0 hi = 0) : Run 5 mX2_worded [.ref 625, .long q, .int x, .int hi] (hp (ps (rs s a b c) (tkL (s.A 629) n L0 i) (gq X base C PA Q o w))) (.inl (some (.int (figF (tkL (s.A 629) n L0 j) 0 hi)))) (hp (ps (rs s a b c) (tkL (s.A 629) n L0 j) (gq X base C PA Q o w))) := by
  subst hj
  have h := r_X2_worded_f (s := rs s a b c) (L := (tkL (s.A 629) n L0 i)) (X := X) (PA := PA) (base := base) (C := C) (Q := Q) (o := o) (w := w) n hn h300 hby (cI (tkL (s.A 629) n L0 i).1) (tk_L h300 i).2 (tk_L h300 i).1 q x hi hw hf
  simp only [rsA] at h
  exact h
set_option maxHeartbeats 400000 in
theorem w_wd_t {s : Sg} {a b c : Int32} {X PA : Nat → Int32} {base : Nat} {C : Cd} {Q : List Int32} {o : Int32} {w : Bool} {n : Nat} {L0 : Lq} {i : Nat} (hn : s.S 4 = nI n) (h300 : n ≤ 300) (hby : ∀ k, k < n → 0 ≤ s.A 629 k) (q : Int64) (x : Nat) (hx : x < base) (hb2 : base + 608 ≤ 2820) (hi : Int32) (hw : isWd (tkL (s.A 629) n L0 i) q = true) (j : Nat) (hj : i + 1 = j) (j2 : Nat) (hj2 : j + 1 = j2) (hf : figF (tkL (s.A 629) n L0 j) 0 hi = 0) : Run 5 mX2_worded [.ref 625, .long q, .int (nI x), .int hi] (hp (ps (rs s a b c) (tkL (s.A 629) n L0 i) (gq X base C PA Q o w))) (.inl (some (.int 0))) (hp (ps (rs s a b c) (tkL (s.A 629) n L0 j2) (gq (up X x (tkL (s.A 629) n L0 j).2.2.2.1) base C PA Q o w))) := by
  subst hj2
  subst hj
  have h := r_X2_worded_t (s := rs s a b c) (L := (tkL (s.A 629) n L0 i)) (X := X) (PA := PA) (base := base) (C := C) (Q := Q) (o := o) (w := w) n hn h300 hby (cI (tkL (s.A 629) n L0 i).1) (tk_L h300 i).2 (tk_L h300 i).1 q x hx hb2 hi hw hf (cI (tkL (s.A 629) n L0 (i + 1)).1) (tk_L h300 (i + 1)).2 (tk_L h300 (i + 1)).1
  simp only [rsA] at h
  exact h
set_option maxHeartbeats 400000 in
theorem w_fr {s : Sg} {a b c : Int32} {X PA : Nat → Int32} {base : Nat} {C : Cd} {Q : List Int32} {o : Int32} {w : Bool} {n : Nat} {L0 : Lq} {i : Nat} (hn : s.S 4 = nI n) (h300 : n ≤ 300) (hby : ∀ k, k < n → 0 ≤ s.A 629 k) : Run 5 mX2_isFriends [.ref 625] (hp (ps (rs s a b c) (tkL (s.A 629) n L0 i) (gq X base C PA Q o w))) (.inl (some (.int (b2i (isFrF (byteF (s.A 629) n) (tkL (s.A 629) n L0 i) (cI (tkL (s.A 629) n L0 i).2.1)))))) (hp (ps (rs s a b c) (tkL (s.A 629) n L0 i) (gq X base C PA Q o w))) := by
  have h := r_X2_isFriends (s := rs s a b c) (L := (tkL (s.A 629) n L0 i)) (G := gq X base C PA Q o w) n hn h300 _ (tk_P h300 i).1 (tk_P h300 i).2
  simp only [rsA] at h
  exact h
set_option maxHeartbeats 400000 in
theorem law_run {s : Sg} {a b c : Int32} {X PA : Nat → Int32} {base : Nat} {C : Cd} {Q : List Int32} {o : Int32} {w : Bool} {n : Nat} {L0 : Lq} {i : Nat} {e : Bool} {r : Int32} {a2 b2 c2 : Int32} {L2 : Lq} {X2 PA2 : Nat → Int32} {C2 : Cd} {Q2 : List Int32} {o2 : Int32} {w2 : Bool} (x : Nat) (hx : x + 3 < base) (hb2 : base + 608 ≤ 2820) (hr : Run 8 mX2_parsed [.ref 625, .int (b2i e)] (hp (ps (rs s a b c) (tkL (s.A 629) n L0 i) (gq (up X (x + 1) (nI C.length)) base C PA Q o w))) (.inl (some (.int r))) (hp (ps (rs s a2 b2 c2) L2 (gq X2 base C2 PA2 Q2 o2 w2)))) : Run 9 mX2_lawClause [.ref 625, .int (nI x), .int (b2i e)] (hp (ps (rs s a b c) (tkL (s.A 629) n L0 i) (gq X base C PA Q o w))) (.inl (some (.int (r)))) (hp (ps (rs s a2 b2 c2) L2 (gq (up X2 (x + 2) (nI C2.length)) base C2 PA2 Q2 o2 w2))) := by
  refine Run.of rfl (Nat.le_of_ble_eq_true rfl) rfl ?_
  refine AW.aload_n dX2_lawClause_0 rfl rfl ?_
  refine AW.get ci2 2 (by decide) q1353 dX2_lawClause_1 gM rfl rfl ?_
  refine AW.iload_n dX2_lawClause_4 rfl rfl ?_
  refine AW.iconst (v := 1) dX2_lawClause_5 (by decide) rfl ?_
  refine AW.iadd dX2_lawClause_6 rfl ?_
  refine AW.stT (x := .int (nI (x + 1))) (by show Value.int (nI x + 1) = _; rw [show (1 : Int32) = nI 1 from rfl, nI_add]) ?_
  refine AW.aload_n dX2_lawClause_7 rfl rfl ?_
  refine AW.get ci2 13 (by decide) q1364 dX2_lawClause_8 gM rfl rfl ?_
  refine AW.iast dX2_lawClause_11 (by decide) ps_g628 (in0 (x + 1) (by omega) (by decide)) (j := x + 1) (cI_nI (by omega)) ps_s628 rfl ?_
  refine AW.hp (h2 := (hp (ps (rs s a b c) (tkL (s.A 629) n L0 i) (gq (up X (x + 1) (nI C.length)) base C PA Q o w)))) (by show hp (ps (rs s a b c) (tkL (s.A 629) n L0 i) (nI C.length, nI Q.length, o, b2i w, up (layC X base C) (x + 1) (nI C.length), PA)) = _; rw [layC_up (by omega)]; rfl) ?_
  refine AW.aload_n dX2_lawClause_12 rfl rfl ?_
  refine AW.iload_n dX2_lawClause_13 rfl rfl ?_
  refine AW.callV (Y := mX2_parsed) (n := 1) (hr) (by decide) (by decide) rfl gM q1578 q1580 qs78 q141 q1581 dX2_lawClause_14 (by decide +kernel) rfl rfl (Nat.le_of_ble_eq_true rfl) rfl ?_
  refine AW.istore_n (i := 3) dX2_lawClause_17 rfl rfl (Nat.le_of_ble_eq_true rfl) rfl rfl ?_
  refine AW.aload_n dX2_lawClause_18 rfl rfl ?_
  refine AW.get ci2 2 (by decide) q1353 dX2_lawClause_19 gM rfl rfl ?_
  refine AW.iload_n dX2_lawClause_22 rfl rfl ?_
  refine AW.iconst (v := 2) dX2_lawClause_23 (by decide) rfl ?_
  refine AW.iadd dX2_lawClause_24 rfl ?_
  refine AW.stT (x := .int (nI (x + 2))) (by show Value.int (nI x + 2) = _; rw [show (2 : Int32) = nI 2 from rfl, nI_add]) ?_
  refine AW.aload_n dX2_lawClause_25 rfl rfl ?_
  refine AW.get ci2 13 (by decide) q1364 dX2_lawClause_26 gM rfl rfl ?_
  refine AW.iast dX2_lawClause_29 (by decide) ps_g628 (in0 (x + 2) (by omega) (by decide)) (j := x + 2) (cI_nI (by omega)) ps_s628 rfl ?_
  refine AW.hp (h2 := (hp (ps (rs s a2 b2 c2) L2 (gq (up X2 (x + 2) (nI C2.length)) base C2 PA2 Q2 o2 w2)))) (by show hp (ps (rs s a2 b2 c2) L2 (nI C2.length, nI Q2.length, o2, b2i w2, up (layC X2 base C2) (x + 2) (nI C2.length), PA2)) = _; rw [layC_up (by omega)]; rfl) ?_
  refine AW.iload_n dX2_lawClause_30 rfl rfl ?_
  exact AW.iretE dX2_lawClause_31 rfl rfl rfl rfl
set_option maxHeartbeats 400000 in
theorem house_1 {s : Sg} {a b c : Int32} {X PA : Nat → Int32} {base : Nat} {C : Cd} {Q : List Int32} {o : Int32} {w : Bool} {n : Nat} {L0 : Lq} {i : Nat} (hn : s.S 4 = nI n) (h300 : n ≤ 300) (hby : ∀ k, k < n → 0 ≤ s.A 629 k) (x : Nat) (hx : x + 3 < base) (hb2 : base + 608 ≤ 2820) (h1 : ¬ figF (tkL (s.A 629) n L0 i) 0 19 = 0) : Run 6 mX2_houseClause [.ref 625, .int (nI x)] (hp (ps (rs s a b c) (tkL (s.A 629) n L0 i) (gq X base C PA Q o w))) (.inl (some (.int (figF (tkL (s.A 629) n L0 i) 0 19)))) (hp (ps (rs s a b c) (tkL (s.A 629) n L0 i) (gq X base C PA Q o w))) := by
  refine Run.of rfl (Nat.le_of_ble_eq_true rfl) rfl ?_
  refine AW.aload_n dX2_houseClause_0 rfl rfl ?_
  refine AW.iload_n dX2_houseClause_1 rfl rfl ?_
  refine AW.iconst (v := 1) dX2_houseClause_2 (by decide) rfl ?_
  refine AW.iadd dX2_houseClause_3 rfl ?_
  refine AW.stT (x := .int (nI (x + 1))) (by show Value.int (nI x + 1) = _; rw [show (1 : Int32) = nI 1 from rfl, nI_add]) ?_
  refine AW.iconst (v := 0) dX2_houseClause_4 (by decide) rfl ?_
  refine AW.bipush (v := 19) dX2_houseClause_5 (by decide) rfl ?_
  refine AW.callV (Y := mX2_figure) (n := 3) (r_X2_figure_f _ _ _ h1) (by decide) (by decide) rfl gM q1558 q1560 qs73 q141 q1561 dX2_houseClause_7 (by decide +kernel) rfl rfl (Nat.le_of_ble_eq_true rfl) rfl ?_
  refine AW.istore_n (i := 2) dX2_houseClause_10 rfl rfl (Nat.le_of_ble_eq_true rfl) rfl rfl ?_
  refine AW.iload_n dX2_houseClause_11 rfl rfl ?_
  refine AW.if_ne (tgt := 39) dX2_houseClause_12 (by decide) rfl (fun _ => ?_) (fun c_ => by first | exact absurd c_ h1 | exact absurd h1 c_ | exact absurd c_ (not_not_intro h1) | exact Bool.noConfusion (c_.symm.trans h1))
  refine AW.iload_n dX2_houseClause_39 rfl rfl ?_
  refine AW.if_eq (tgt := 45) dX2_houseClause_40 (by decide) rfl (fun c_ => by first | exact absurd c_ h1 | exact absurd h1 c_ | exact Bool.noConfusion (c_.symm.trans h1)) (fun _ => ?_)
  refine AW.iload_n dX2_houseClause_43 rfl rfl ?_
  exact AW.iretE dX2_houseClause_44 rfl rfl rfl rfl
set_option maxHeartbeats 400000 in
theorem house_2 {s : Sg} {a b c : Int32} {X PA : Nat → Int32} {base : Nat} {C : Cd} {Q : List Int32} {o : Int32} {w : Bool} {n : Nat} {L0 : Lq} {i : Nat} (hn : s.S 4 = nI n) (h300 : n ≤ 300) (hby : ∀ k, k < n → 0 ≤ s.A 629 k) (x : Nat) (hx : x + 3 < base) (hb2 : base + 608 ≤ 2820) (h1 : figF (tkL (s.A 629) n L0 i) 0 19 = 0) (h2 : isWd (tkL (s.A 629) n L0 (i + 1)) (w5F 112 117 114 115 101) = false) : Run 6 mX2_houseClause [.ref 625, .int (nI x)] (hp (ps (rs s a b c) (tkL (s.A 629) n L0 i) (gq X base C PA Q o w))) (.inl (some (.int (1)))) (hp (ps (rs s a b c) (tkL (s.A 629) n L0 (i + 1)) (gq (up X (x + 1) (tkL (s.A 629) n L0 i).2.2.2.1) base C PA Q o w))) := by
  refine Run.of rfl (Nat.le_of_ble_eq_true rfl) rfl ?_
  refine AW.aload_n dX2_houseClause_0 rfl rfl ?_
  refine AW.iload_n dX2_houseClause_1 rfl rfl ?_
  refine AW.iconst (v := 1) dX2_houseClause_2 (by decide) rfl ?_
  refine AW.iadd dX2_houseClause_3 rfl ?_
  refine AW.stT (x := .int (nI (x + 1))) (by show Value.int (nI x + 1) = _; rw [show (1 : Int32) = nI 1 from rfl, nI_add]) ?_
  refine AW.iconst (v := 0) dX2_houseClause_4 (by decide) rfl ?_
  refine AW.bipush (v := 19) dX2_houseClause_5 (by decide) rfl ?_
  refine AW.callV (Y := mX2_figure) (n := 3) (w_fig_t hn h300 hby (x + 1) (by omega) hb2 0 19 h1 (i + 1) rfl) (by decide) (by decide) rfl gM q1558 q1560 qs73 q141 q1561 dX2_houseClause_7 (by decide +kernel) rfl rfl (Nat.le_of_ble_eq_true rfl) rfl ?_
  refine AW.istore_n (i := 2) dX2_houseClause_10 rfl rfl (Nat.le_of_ble_eq_true rfl) rfl rfl ?_
  refine AW.iload_n dX2_houseClause_11 rfl rfl ?_
  refine AW.if_ne (tgt := 39) dX2_houseClause_12 (by decide) rfl (fun c_ => by first | exact absurd c_ (by decide) | exact absurd (by decide) c_ | exact Bool.noConfusion (c_.symm.trans (by decide))) (fun _ => ?_)
  refine AW.aload_n dX2_houseClause_15 rfl rfl ?_
  refine AW.bipush (v := 112) dX2_houseClause_16 (by decide) rfl ?_
  refine AW.bipush (v := 117) dX2_houseClause_18 (by decide) rfl ?_
  refine AW.bipush (v := 114) dX2_houseClause_20 (by decide) rfl ?_
  refine AW.bipush (v := 115) dX2_houseClause_22 (by decide) rfl ?_
  refine AW.bipush (v := 101) dX2_houseClause_24 (by decide) rfl ?_
  refine AW.callS (Y := mX2_w5) (n := 5) (r_X2_w5 _ _ _ _ _) (by decide) (by decide) q1528 q1529 q141 q1530 dX2_houseClause_26 (by decide +kernel) rfl rfl (Nat.le_of_ble_eq_true rfl) rfl ?_
  refine AW.iload_n dX2_houseClause_29 rfl rfl ?_
  refine AW.iconst (v := 2) dX2_houseClause_30 (by decide) rfl ?_
  refine AW.iadd dX2_houseClause_31 rfl ?_
  refine AW.stT (x := .int (nI (x + 2))) (by show Value.int (nI x + 2) = _; rw [show (2 : Int32) = nI 2 from rfl, nI_add]) ?_
  refine AW.sipush (v := 9999) dX2_houseClause_32 (by decide) rfl ?_
  refine AW.callV (Y := mX2_worded) (n := 3) (r_X2_worded_1 _ _ _ h2) (by decide) (by decide) rfl gM q1562 q1564 qs74 q141 q1565 dX2_houseClause_35 (by decide +kernel) rfl rfl (Nat.le_of_ble_eq_true rfl) rfl ?_
  refine AW.istore_n (i := 2) dX2_houseClause_38 rfl rfl (Nat.le_of_ble_eq_true rfl) rfl rfl ?_
  refine AW.iload_n dX2_houseClause_39 rfl rfl ?_
  refine AW.if_eq (tgt := 45) dX2_houseClause_40 (by decide) rfl (fun c_ => by first | exact absurd c_ (by decide) | exact absurd (by decide) c_ | exact Bool.noConfusion (c_.symm.trans (by decide))) (fun _ => ?_)
  refine AW.iload_n dX2_houseClause_43 rfl rfl ?_
  exact AW.iretE dX2_houseClause_44 rfl rfl rfl rfl
set_option maxHeartbeats 400000 in
theorem house_3 {s : Sg} {a b c : Int32} {X PA : Nat → Int32} {base : Nat} {C : Cd} {Q : List Int32} {o : Int32} {w : Bool} {n : Nat} {L0 : Lq} {i : Nat} (hn : s.S 4 = nI n) (h300 : n ≤ 300) (hby : ∀ k, k < n → 0 ≤ s.A 629 k) (x : Nat) (hx : x + 3 < base) (hb2 : base + 608 ≤ 2820) (h1 : figF (tkL (s.A 629) n L0 i) 0 19 = 0) (h2 : isWd (tkL (s.A 629) n L0 (i + 1)) (w5F 112 117 114 115 101) = true) (h3 : ¬ figF (tkL (s.A 629) n L0 (i + 2)) 0 9999 = 0) : Run 6 mX2_houseClause [.ref 625, .int (nI x)] (hp (ps (rs s a b c) (tkL (s.A 629) n L0 i) (gq X base C PA Q o w))) (.inl (some (.int (figF (tkL (s.A 629) n L0 (i + 2)) 0 9999)))) (hp (ps (rs s a b c) (tkL (s.A 629) n L0 (i + 2)) (gq (up X (x + 1) (tkL (s.A 629) n L0 i).2.2.2.1) base C PA Q o w))) := by
  refine Run.of rfl (Nat.le_of_ble_eq_true rfl) rfl ?_
  refine AW.aload_n dX2_houseClause_0 rfl rfl ?_
  refine AW.iload_n dX2_houseClause_1 rfl rfl ?_
  refine AW.iconst (v := 1) dX2_houseClause_2 (by decide) rfl ?_
  refine AW.iadd dX2_houseClause_3 rfl ?_
  refine AW.stT (x := .int (nI (x + 1))) (by show Value.int (nI x + 1) = _; rw [show (1 : Int32) = nI 1 from rfl, nI_add]) ?_
  refine AW.iconst (v := 0) dX2_houseClause_4 (by decide) rfl ?_
  refine AW.bipush (v := 19) dX2_houseClause_5 (by decide) rfl ?_
  refine AW.callV (Y := mX2_figure) (n := 3) (w_fig_t hn h300 hby (x + 1) (by omega) hb2 0 19 h1 (i + 1) rfl) (by decide) (by decide) rfl gM q1558 q1560 qs73 q141 q1561 dX2_houseClause_7 (by decide +kernel) rfl rfl (Nat.le_of_ble_eq_true rfl) rfl ?_
  refine AW.istore_n (i := 2) dX2_houseClause_10 rfl rfl (Nat.le_of_ble_eq_true rfl) rfl rfl ?_
  refine AW.iload_n dX2_houseClause_11 rfl rfl ?_
  refine AW.if_ne (tgt := 39) dX2_houseClause_12 (by decide) rfl (fun c_ => by first | exact absurd c_ (by decide) | exact absurd (by decide) c_ | exact Bool.noConfusion (c_.symm.trans (by decide))) (fun _ => ?_)
  refine AW.aload_n dX2_houseClause_15 rfl rfl ?_
  refine AW.bipush (v := 112) dX2_houseClause_16 (by decide) rfl ?_
  refine AW.bipush (v := 117) dX2_houseClause_18 (by decide) rfl ?_
  refine AW.bipush (v := 114) dX2_houseClause_20 (by decide) rfl ?_
  refine AW.bipush (v := 115) dX2_houseClause_22 (by decide) rfl ?_
  refine AW.bipush (v := 101) dX2_houseClause_24 (by decide) rfl ?_
  refine AW.callS (Y := mX2_w5) (n := 5) (r_X2_w5 _ _ _ _ _) (by decide) (by decide) q1528 q1529 q141 q1530 dX2_houseClause_26 (by decide +kernel) rfl rfl (Nat.le_of_ble_eq_true rfl) rfl ?_
  refine AW.iload_n dX2_houseClause_29 rfl rfl ?_
  refine AW.iconst (v := 2) dX2_houseClause_30 (by decide) rfl ?_
  refine AW.iadd dX2_houseClause_31 rfl ?_
  refine AW.stT (x := .int (nI (x + 2))) (by show Value.int (nI x + 2) = _; rw [show (2 : Int32) = nI 2 from rfl, nI_add]) ?_
  refine AW.sipush (v := 9999) dX2_houseClause_32 (by decide) rfl ?_
  refine AW.callV (Y := mX2_worded) (n := 3) (w_wd_f hn h300 hby (w5F 112 117 114 115 101) _ 9999 h2 (i + 2) rfl h3) (by decide) (by decide) rfl gM q1562 q1564 qs74 q141 q1565 dX2_houseClause_35 (by decide +kernel) rfl rfl (Nat.le_of_ble_eq_true rfl) rfl ?_
  refine AW.istore_n (i := 2) dX2_houseClause_38 rfl rfl (Nat.le_of_ble_eq_true rfl) rfl rfl ?_
  refine AW.iload_n dX2_houseClause_39 rfl rfl ?_
  refine AW.if_eq (tgt := 45) dX2_houseClause_40 (by decide) rfl (fun c_ => by first | exact absurd c_ h3 | exact absurd h3 c_ | exact Bool.noConfusion (c_.symm.trans h3)) (fun _ => ?_)
  refine AW.iload_n dX2_houseClause_43 rfl rfl ?_
  exact AW.iretE dX2_houseClause_44 rfl rfl rfl rfl
set_option maxHeartbeats 400000 in
theorem house_4 {s : Sg} {a b c : Int32} {X PA : Nat → Int32} {base : Nat} {C : Cd} {Q : List Int32} {o : Int32} {w : Bool} {n : Nat} {L0 : Lq} {i : Nat} (hn : s.S 4 = nI n) (h300 : n ≤ 300) (hby : ∀ k, k < n → 0 ≤ s.A 629 k) (x : Nat) (hx : x + 3 < base) (hb2 : base + 608 ≤ 2820) (h1 : figF (tkL (s.A 629) n L0 i) 0 19 = 0) (h2 : isWd (tkL (s.A 629) n L0 (i + 1)) (w5F 112 117 114 115 101) = true) (h3 : figF (tkL (s.A 629) n L0 (i + 2)) 0 9999 = 0) (h4 : isFrF (byteF (s.A 629) n) (tkL (s.A 629) n L0 (i + 3)) (cI (tkL (s.A 629) n L0 (i + 3)).2.1) = false) : Run 6 mX2_houseClause [.ref 625, .int (nI x)] (hp (ps (rs s a b c) (tkL (s.A 629) n L0 i) (gq X base C PA Q o w))) (.inl (some (.int (1)))) (hp (ps (rs s a b c) (tkL (s.A 629) n L0 (i + 3)) (gq (up (up X (x + 1) (tkL (s.A 629) n L0 i).2.2.2.1) (x + 2) (tkL (s.A 629) n L0 (i + 2)).2.2.2.1) base C PA Q o w))) := by
  refine Run.of rfl (Nat.le_of_ble_eq_true rfl) rfl ?_
  refine AW.aload_n dX2_houseClause_0 rfl rfl ?_
  refine AW.iload_n dX2_houseClause_1 rfl rfl ?_
  refine AW.iconst (v := 1) dX2_houseClause_2 (by decide) rfl ?_
  refine AW.iadd dX2_houseClause_3 rfl ?_
  refine AW.stT (x := .int (nI (x + 1))) (by show Value.int (nI x + 1) = _; rw [show (1 : Int32) = nI 1 from rfl, nI_add]) ?_
  refine AW.iconst (v := 0) dX2_houseClause_4 (by decide) rfl ?_
  refine AW.bipush (v := 19) dX2_houseClause_5 (by decide) rfl ?_
  refine AW.callV (Y := mX2_figure) (n := 3) (w_fig_t hn h300 hby (x + 1) (by omega) hb2 0 19 h1 (i + 1) rfl) (by decide) (by decide) rfl gM q1558 q1560 qs73 q141 q1561 dX2_houseClause_7 (by decide +kernel) rfl rfl (Nat.le_of_ble_eq_true rfl) rfl ?_
  refine AW.istore_n (i := 2) dX2_houseClause_10 rfl rfl (Nat.le_of_ble_eq_true rfl) rfl rfl ?_
  refine AW.iload_n dX2_houseClause_11 rfl rfl ?_
  refine AW.if_ne (tgt := 39) dX2_houseClause_12 (by decide) rfl (fun c_ => by first | exact absurd c_ (by decide) | exact absurd (by decide) c_ | exact Bool.noConfusion (c_.symm.trans (by decide))) (fun _ => ?_)
  refine AW.aload_n dX2_houseClause_15 rfl rfl ?_
  refine AW.bipush (v := 112) dX2_houseClause_16 (by decide) rfl ?_
  refine AW.bipush (v := 117) dX2_houseClause_18 (by decide) rfl ?_
  refine AW.bipush (v := 114) dX2_houseClause_20 (by decide) rfl ?_
  refine AW.bipush (v := 115) dX2_houseClause_22 (by decide) rfl ?_
  refine AW.bipush (v := 101) dX2_houseClause_24 (by decide) rfl ?_
  refine AW.callS (Y := mX2_w5) (n := 5) (r_X2_w5 _ _ _ _ _) (by decide) (by decide) q1528 q1529 q141 q1530 dX2_houseClause_26 (by decide +kernel) rfl rfl (Nat.le_of_ble_eq_true rfl) rfl ?_
  refine AW.iload_n dX2_houseClause_29 rfl rfl ?_
  refine AW.iconst (v := 2) dX2_houseClause_30 (by decide) rfl ?_
  refine AW.iadd dX2_houseClause_31 rfl ?_
  refine AW.stT (x := .int (nI (x + 2))) (by show Value.int (nI x + 2) = _; rw [show (2 : Int32) = nI 2 from rfl, nI_add]) ?_
  refine AW.sipush (v := 9999) dX2_houseClause_32 (by decide) rfl ?_
  refine AW.callV (Y := mX2_worded) (n := 3) (w_wd_t hn h300 hby (w5F 112 117 114 115 101) (x + 2) (by omega) hb2 9999 h2 (i + 2) rfl (i + 3) rfl h3) (by decide) (by decide) rfl gM q1562 q1564 qs74 q141 q1565 dX2_houseClause_35 (by decide +kernel) rfl rfl (Nat.le_of_ble_eq_true rfl) rfl ?_
  refine AW.istore_n (i := 2) dX2_houseClause_38 rfl rfl (Nat.le_of_ble_eq_true rfl) rfl rfl ?_
  refine AW.iload_n dX2_houseClause_39 rfl rfl ?_
  refine AW.if_eq (tgt := 45) dX2_houseClause_40 (by decide) rfl (fun _ => ?_) (fun c_ => by first | exact absurd c_ rfl | exact absurd rfl c_ | exact absurd c_ (not_not_intro rfl) | exact Bool.noConfusion (c_.symm.trans rfl))
  refine AW.aload_n dX2_houseClause_45 rfl rfl ?_
  refine AW.callV (Y := mX2_isFriends) (n := 0) (w_fr hn h300 hby) (by decide) (by decide) rfl gM q1566 q1568 qs75 q141 q1569 dX2_houseClause_46 (by decide +kernel) rfl rfl (Nat.le_of_ble_eq_true rfl) rfl ?_
  refine AW.if_neB (tgt := 54) dX2_houseClause_49 (by decide) rfl (fun c_ => by first | exact absurd c_ h4 | exact absurd h4 c_ | exact Bool.noConfusion (c_.symm.trans h4)) (fun _ => ?_)
  refine AW.iconst (v := 1) dX2_houseClause_52 (by decide) rfl ?_
  exact AW.iretE dX2_houseClause_53 rfl rfl rfl rfl
set_option maxHeartbeats 400000 in
theorem house_5 {s : Sg} {a b c : Int32} {X PA : Nat → Int32} {base : Nat} {C : Cd} {Q : List Int32} {o : Int32} {w : Bool} {n : Nat} {L0 : Lq} {i : Nat} (hn : s.S 4 = nI n) (h300 : n ≤ 300) (hby : ∀ k, k < n → 0 ≤ s.A 629 k) (x : Nat) (hx : x + 3 < base) (hb2 : base + 608 ≤ 2820) (h1 : figF (tkL (s.A 629) n L0 i) 0 19 = 0) (h2 : isWd (tkL (s.A 629) n L0 (i + 1)) (w5F 112 117 114 115 101) = true) (h3 : figF (tkL (s.A 629) n L0 (i + 2)) 0 9999 = 0) (h4 : isFrF (byteF (s.A 629) n) (tkL (s.A 629) n L0 (i + 3)) (cI (tkL (s.A 629) n L0 (i + 3)).2.1) = true) (h5 : ¬ figF (tkL (s.A 629) n L0 (i + 4)) 0 99 = 0) : Run 6 mX2_houseClause [.ref 625, .int (nI x)] (hp (ps (rs s a b c) (tkL (s.A 629) n L0 i) (gq X base C PA Q o w))) (.inl (some (.int (figF (tkL (s.A 629) n L0 (i + 4)) 0 99)))) (hp (ps (rs s a b c) (tkL (s.A 629) n L0 (i + 4)) (gq (up (up X (x + 1) (tkL (s.A 629) n L0 i).2.2.2.1) (x + 2) (tkL (s.A 629) n L0 (i + 2)).2.2.2.1) base C PA Q o w))) := by
  refine Run.of rfl (Nat.le_of_ble_eq_true rfl) rfl ?_
  refine AW.aload_n dX2_houseClause_0 rfl rfl ?_
  refine AW.iload_n dX2_houseClause_1 rfl rfl ?_
  refine AW.iconst (v := 1) dX2_houseClause_2 (by decide) rfl ?_
  refine AW.iadd dX2_houseClause_3 rfl ?_
  refine AW.stT (x := .int (nI (x + 1))) (by show Value.int (nI x + 1) = _; rw [show (1 : Int32) = nI 1 from rfl, nI_add]) ?_
  refine AW.iconst (v := 0) dX2_houseClause_4 (by decide) rfl ?_
  refine AW.bipush (v := 19) dX2_houseClause_5 (by decide) rfl ?_
  refine AW.callV (Y := mX2_figure) (n := 3) (w_fig_t hn h300 hby (x + 1) (by omega) hb2 0 19 h1 (i + 1) rfl) (by decide) (by decide) rfl gM q1558 q1560 qs73 q141 q1561 dX2_houseClause_7 (by decide +kernel) rfl rfl (Nat.le_of_ble_eq_true rfl) rfl ?_
  refine AW.istore_n (i := 2) dX2_houseClause_10 rfl rfl (Nat.le_of_ble_eq_true rfl) rfl rfl ?_
  refine AW.iload_n dX2_houseClause_11 rfl rfl ?_
  refine AW.if_ne (tgt := 39) dX2_houseClause_12 (by decide) rfl (fun c_ => by first | exact absurd c_ (by decide) | exact absurd (by decide) c_ | exact Bool.noConfusion (c_.symm.trans (by decide))) (fun _ => ?_)
  refine AW.aload_n dX2_houseClause_15 rfl rfl ?_
  refine AW.bipush (v := 112) dX2_houseClause_16 (by decide) rfl ?_
  refine AW.bipush (v := 117) dX2_houseClause_18 (by decide) rfl ?_
  refine AW.bipush (v := 114) dX2_houseClause_20 (by decide) rfl ?_
  refine AW.bipush (v := 115) dX2_houseClause_22 (by decide) rfl ?_
  refine AW.bipush (v := 101) dX2_houseClause_24 (by decide) rfl ?_
  refine AW.callS (Y := mX2_w5) (n := 5) (r_X2_w5 _ _ _ _ _) (by decide) (by decide) q1528 q1529 q141 q1530 dX2_houseClause_26 (by decide +kernel) rfl rfl (Nat.le_of_ble_eq_true rfl) rfl ?_
  refine AW.iload_n dX2_houseClause_29 rfl rfl ?_
  refine AW.iconst (v := 2) dX2_houseClause_30 (by decide) rfl ?_
  refine AW.iadd dX2_houseClause_31 rfl ?_
  refine AW.stT (x := .int (nI (x + 2))) (by show Value.int (nI x + 2) = _; rw [show (2 : Int32) = nI 2 from rfl, nI_add]) ?_
  refine AW.sipush (v := 9999) dX2_houseClause_32 (by decide) rfl ?_
  refine AW.callV (Y := mX2_worded) (n := 3) (w_wd_t hn h300 hby (w5F 112 117 114 115 101) (x + 2) (by omega) hb2 9999 h2 (i + 2) rfl (i + 3) rfl h3) (by decide) (by decide) rfl gM q1562 q1564 qs74 q141 q1565 dX2_houseClause_35 (by decide +kernel) rfl rfl (Nat.le_of_ble_eq_true rfl) rfl ?_
  refine AW.istore_n (i := 2) dX2_houseClause_38 rfl rfl (Nat.le_of_ble_eq_true rfl) rfl rfl ?_
  refine AW.iload_n dX2_houseClause_39 rfl rfl ?_
  refine AW.if_eq (tgt := 45) dX2_houseClause_40 (by decide) rfl (fun _ => ?_) (fun c_ => by first | exact absurd c_ rfl | exact absurd rfl c_ | exact absurd c_ (not_not_intro rfl) | exact Bool.noConfusion (c_.symm.trans rfl))
  refine AW.aload_n dX2_houseClause_45 rfl rfl ?_
  refine AW.callV (Y := mX2_isFriends) (n := 0) (w_fr hn h300 hby) (by decide) (by decide) rfl gM q1566 q1568 qs75 q141 q1569 dX2_houseClause_46 (by decide +kernel) rfl rfl (Nat.le_of_ble_eq_true rfl) rfl ?_
  refine AW.if_neB (tgt := 54) dX2_houseClause_49 (by decide) rfl (fun _ => ?_) (fun c_ => by first | exact absurd c_ h4 | exact absurd h4 c_ | exact absurd c_ (not_not_intro h4) | exact Bool.noConfusion (c_.symm.trans h4))
  refine AW.aload_n dX2_houseClause_54 rfl rfl ?_
  refine AW.callV (Y := mX2_nextToken) (n := 0) (w_next hn h300 hby (i + 4) rfl) (by decide) (by decide) rfl gM q1501 q1503 qs66 q141 q1504 dX2_houseClause_55 (by decide +kernel) rfl rfl (Nat.le_of_ble_eq_true rfl) rfl ?_
  refine AW.aload_n dX2_houseClause_58 rfl rfl ?_
  refine AW.iload_n dX2_houseClause_59 rfl rfl ?_
  refine AW.iconst (v := 3) dX2_houseClause_60 (by decide) rfl ?_
  refine AW.iadd dX2_houseClause_61 rfl ?_
  refine AW.stT (x := .int (nI (x + 3))) (by show Value.int (nI x + 3) = _; rw [show (3 : Int32) = nI 3 from rfl, nI_add]) ?_
  refine AW.iconst (v := 0) dX2_houseClause_62 (by decide) rfl ?_
  refine AW.bipush (v := 99) dX2_houseClause_63 (by decide) rfl ?_
  refine AW.callV (Y := mX2_figure) (n := 3) (r_X2_figure_f _ _ _ h5) (by decide) (by decide) rfl gM q1558 q1560 qs73 q141 q1561 dX2_houseClause_65 (by decide +kernel) rfl rfl (Nat.le_of_ble_eq_true rfl) rfl ?_
  exact AW.iretE dX2_houseClause_68 rfl rfl rfl rfl
set_option maxHeartbeats 400000 in
theorem house_t {s : Sg} {a b c : Int32} {X PA : Nat → Int32} {base : Nat} {C : Cd} {Q : List Int32} {o : Int32} {w : Bool} {n : Nat} {L0 : Lq} {i : Nat} (hn : s.S 4 = nI n) (h300 : n ≤ 300) (hby : ∀ k, k < n → 0 ≤ s.A 629 k) (x : Nat) (hx : x + 3 < base) (hb2 : base + 608 ≤ 2820) (h1 : figF (tkL (s.A 629) n L0 i) 0 19 = 0) (h2 : isWd (tkL (s.A 629) n L0 (i + 1)) (w5F 112 117 114 115 101) = true) (h3 : figF (tkL (s.A 629) n L0 (i + 2)) 0 9999 = 0) (h4 : isFrF (byteF (s.A 629) n) (tkL (s.A 629) n L0 (i + 3)) (cI (tkL (s.A 629) n L0 (i + 3)).2.1) = true) (h5 : figF (tkL (s.A 629) n L0 (i + 4)) 0 99 = 0) : Run 6 mX2_houseClause [.ref 625, .int (nI x)] (hp (ps (rs s a b c) (tkL (s.A 629) n L0 i) (gq X base C PA Q o w))) (.inl (some (.int (0)))) (hp (ps (rs s a b c) (tkL (s.A 629) n L0 (i + 5)) (gq (up (up (up X (x + 1) (tkL (s.A 629) n L0 i).2.2.2.1) (x + 2) (tkL (s.A 629) n L0 (i + 2)).2.2.2.1) (x + 3) (tkL (s.A 629) n L0 (i + 4)).2.2.2.1) base C PA Q o w))) := by
  refine Run.of rfl (Nat.le_of_ble_eq_true rfl) rfl ?_
  refine AW.aload_n dX2_houseClause_0 rfl rfl ?_
  refine AW.iload_n dX2_houseClause_1 rfl rfl ?_
  refine AW.iconst (v := 1) dX2_houseClause_2 (by decide) rfl ?_
  refine AW.iadd dX2_houseClause_3 rfl ?_
  refine AW.stT (x := .int (nI (x + 1))) (by show Value.int (nI x + 1) = _; rw [show (1 : Int32) = nI 1 from rfl, nI_add]) ?_
  refine AW.iconst (v := 0) dX2_houseClause_4 (by decide) rfl ?_
  refine AW.bipush (v := 19) dX2_houseClause_5 (by decide) rfl ?_
  refine AW.callV (Y := mX2_figure) (n := 3) (w_fig_t hn h300 hby (x + 1) (by omega) hb2 0 19 h1 (i + 1) rfl) (by decide) (by decide) rfl gM q1558 q1560 qs73 q141 q1561 dX2_houseClause_7 (by decide +kernel) rfl rfl (Nat.le_of_ble_eq_true rfl) rfl ?_
  refine AW.istore_n (i := 2) dX2_houseClause_10 rfl rfl (Nat.le_of_ble_eq_true rfl) rfl rfl ?_
  refine AW.iload_n dX2_houseClause_11 rfl rfl ?_
  refine AW.if_ne (tgt := 39) dX2_houseClause_12 (by decide) rfl (fun c_ => by first | exact absurd c_ (by decide) | exact absurd (by decide) c_ | exact Bool.noConfusion (c_.symm.trans (by decide))) (fun _ => ?_)
  refine AW.aload_n dX2_houseClause_15 rfl rfl ?_
  refine AW.bipush (v := 112) dX2_houseClause_16 (by decide) rfl ?_
  refine AW.bipush (v := 117) dX2_houseClause_18 (by decide) rfl ?_
  refine AW.bipush (v := 114) dX2_houseClause_20 (by decide) rfl ?_
  refine AW.bipush (v := 115) dX2_houseClause_22 (by decide) rfl ?_
  refine AW.bipush (v := 101) dX2_houseClause_24 (by decide) rfl ?_
  refine AW.callS (Y := mX2_w5) (n := 5) (r_X2_w5 _ _ _ _ _) (by decide) (by decide) q1528 q1529 q141 q1530 dX2_houseClause_26 (by decide +kernel) rfl rfl (Nat.le_of_ble_eq_true rfl) rfl ?_
  refine AW.iload_n dX2_houseClause_29 rfl rfl ?_
  refine AW.iconst (v := 2) dX2_houseClause_30 (by decide) rfl ?_
  refine AW.iadd dX2_houseClause_31 rfl ?_
  refine AW.stT (x := .int (nI (x + 2))) (by show Value.int (nI x + 2) = _; rw [show (2 : Int32) = nI 2 from rfl, nI_add]) ?_
  refine AW.sipush (v := 9999) dX2_houseClause_32 (by decide) rfl ?_
  refine AW.callV (Y := mX2_worded) (n := 3) (w_wd_t hn h300 hby (w5F 112 117 114 115 101) (x + 2) (by omega) hb2 9999 h2 (i + 2) rfl (i + 3) rfl h3) (by decide) (by decide) rfl gM q1562 q1564 qs74 q141 q1565 dX2_houseClause_35 (by decide +kernel) rfl rfl (Nat.le_of_ble_eq_true rfl) rfl ?_
  refine AW.istore_n (i := 2) dX2_houseClause_38 rfl rfl (Nat.le_of_ble_eq_true rfl) rfl rfl ?_
  refine AW.iload_n dX2_houseClause_39 rfl rfl ?_
  refine AW.if_eq (tgt := 45) dX2_houseClause_40 (by decide) rfl (fun _ => ?_) (fun c_ => by first | exact absurd c_ rfl | exact absurd rfl c_ | exact absurd c_ (not_not_intro rfl) | exact Bool.noConfusion (c_.symm.trans rfl))
  refine AW.aload_n dX2_houseClause_45 rfl rfl ?_
  refine AW.callV (Y := mX2_isFriends) (n := 0) (w_fr hn h300 hby) (by decide) (by decide) rfl gM q1566 q1568 qs75 q141 q1569 dX2_houseClause_46 (by decide +kernel) rfl rfl (Nat.le_of_ble_eq_true rfl) rfl ?_
  refine AW.if_neB (tgt := 54) dX2_houseClause_49 (by decide) rfl (fun _ => ?_) (fun c_ => by first | exact absurd c_ h4 | exact absurd h4 c_ | exact absurd c_ (not_not_intro h4) | exact Bool.noConfusion (c_.symm.trans h4))
  refine AW.aload_n dX2_houseClause_54 rfl rfl ?_
  refine AW.callV (Y := mX2_nextToken) (n := 0) (w_next hn h300 hby (i + 4) rfl) (by decide) (by decide) rfl gM q1501 q1503 qs66 q141 q1504 dX2_houseClause_55 (by decide +kernel) rfl rfl (Nat.le_of_ble_eq_true rfl) rfl ?_
  refine AW.aload_n dX2_houseClause_58 rfl rfl ?_
  refine AW.iload_n dX2_houseClause_59 rfl rfl ?_
  refine AW.iconst (v := 3) dX2_houseClause_60 (by decide) rfl ?_
  refine AW.iadd dX2_houseClause_61 rfl ?_
  refine AW.stT (x := .int (nI (x + 3))) (by show Value.int (nI x + 3) = _; rw [show (3 : Int32) = nI 3 from rfl, nI_add]) ?_
  refine AW.iconst (v := 0) dX2_houseClause_62 (by decide) rfl ?_
  refine AW.bipush (v := 99) dX2_houseClause_63 (by decide) rfl ?_
  refine AW.callV (Y := mX2_figure) (n := 3) (w_fig_t hn h300 hby (x + 3) (by omega) hb2 0 99 h5 (i + 5) rfl) (by decide) (by decide) rfl gM q1558 q1560 qs73 q141 q1561 dX2_houseClause_65 (by decide +kernel) rfl rfl (Nat.le_of_ble_eq_true rfl) rfl ?_
  exact AW.iretE dX2_houseClause_68 rfl rfl rfl rfl
set_option maxHeartbeats 400000 in
theorem body_3 {s : Sg} {a b c : Int32} {X PA : Nat → Int32} {base : Nat} {C : Cd} {Q : List Int32} {o : Int32} {w : Bool} {n : Nat} {L0 : Lq} {i : Nat} {x : Nat} {r : Int32} {h2 : AH} (hr : Run 6 mX2_houseClause [.ref 625, .int (nI x)] (hp (ps (rs s a b c) (tkL (s.A 629) n L0 i) (gq X base C PA Q o w))) (.inl (some (.int r))) h2) : Run 10 mX2_body [.ref 625, .int 3, .int (nI x)] (hp (ps (rs s a b c) (tkL (s.A 629) n L0 i) (gq X base C PA Q o w))) (.inl (some (.int (r)))) h2 := by
  refine Run.of rfl (Nat.le_of_ble_eq_true rfl) rfl ?_
  refine AW.iload_n dX2_body_0 rfl rfl ?_
  refine AW.tableIn (off := 39) (tgt := 40) dX2_body_1 (by decide) (by decide) rfl (by decide) ?_
  refine AW.aload_n dX2_body_40 rfl rfl ?_
  refine AW.iload_n dX2_body_41 rfl rfl ?_
  refine AW.callV (Y := mX2_houseClause) (n := 1) (hr) (by decide) (by decide) rfl gM q1554 q1556 qs72 q141 q1557 dX2_body_42 (by decide +kernel) rfl rfl (Nat.le_of_ble_eq_true rfl) rfl ?_
  exact AW.iretE dX2_body_45 rfl rfl rfl rfl
set_option maxHeartbeats 400000 in
theorem body_0 {s : Sg} {a b c : Int32} {X PA : Nat → Int32} {base : Nat} {C : Cd} {Q : List Int32} {o : Int32} {w : Bool} {n : Nat} {L0 : Lq} {i : Nat} {x : Nat} {r : Int32} {h2 : AH} (hr : Run 9 mX2_lawClause [.ref 625, .int (nI x), .int (b2i false)] (hp (ps (rs s a b c) (tkL (s.A 629) n L0 i) (gq X base C PA Q o w))) (.inl (some (.int r))) h2) : Run 10 mX2_body [.ref 625, .int 0, .int (nI x)] (hp (ps (rs s a b c) (tkL (s.A 629) n L0 i) (gq X base C PA Q o w))) (.inl (some (.int (r)))) h2 := by
  refine Run.of rfl (Nat.le_of_ble_eq_true rfl) rfl ?_
  refine AW.iload_n dX2_body_0 rfl rfl ?_
  refine AW.tableOut (tgt := 151) dX2_body_1 (Or.inl (by decide)) (by decide) ?_
  refine AW.aload_n dX2_body_151 rfl rfl ?_
  refine AW.iload_n dX2_body_152 rfl rfl ?_
  refine AW.iload_n dX2_body_153 rfl rfl ?_
  refine AW.iconst (v := 2) dX2_body_154 (by decide) rfl ?_
  refine AW.icmp_ne (tgt := 162) dX2_body_155 (by decide) rfl (fun _ => ?_) (fun c_ => by first | exact absurd c_ (by decide) | exact absurd (by decide) c_ | exact absurd c_ (not_not_intro (by decide)) | exact Bool.noConfusion (c_.symm.trans (by decide)))
  refine AW.iconst (v := 0) dX2_body_162 (by decide) rfl ?_
  refine AW.callV (Y := mX2_lawClause) (n := 2) (hr) (by decide) (by decide) rfl gM q1574 q1576 qs77 q141 q1577 dX2_body_163 (by decide +kernel) rfl rfl (Nat.le_of_ble_eq_true rfl) rfl ?_
  exact AW.iretE dX2_body_166 rfl rfl rfl rfl
set_option maxHeartbeats 400000 in
theorem body_1 {s : Sg} {a b c : Int32} {X PA : Nat → Int32} {base : Nat} {C : Cd} {Q : List Int32} {o : Int32} {w : Bool} {n : Nat} {L0 : Lq} {i : Nat} {x : Nat} {r : Int32} {h2 : AH} (hr : Run 9 mX2_lawClause [.ref 625, .int (nI x), .int (b2i false)] (hp (ps (rs s a b c) (tkL (s.A 629) n L0 i) (gq X base C PA Q o w))) (.inl (some (.int r))) h2) : Run 10 mX2_body [.ref 625, .int 1, .int (nI x)] (hp (ps (rs s a b c) (tkL (s.A 629) n L0 i) (gq X base C PA Q o w))) (.inl (some (.int (r)))) h2 := by
  refine Run.of rfl (Nat.le_of_ble_eq_true rfl) rfl ?_
  refine AW.iload_n dX2_body_0 rfl rfl ?_
  refine AW.tableOut (tgt := 151) dX2_body_1 (Or.inl (by decide)) (by decide) ?_
  refine AW.aload_n dX2_body_151 rfl rfl ?_
  refine AW.iload_n dX2_body_152 rfl rfl ?_
  refine AW.iload_n dX2_body_153 rfl rfl ?_
  refine AW.iconst (v := 2) dX2_body_154 (by decide) rfl ?_
  refine AW.icmp_ne (tgt := 162) dX2_body_155 (by decide) rfl (fun _ => ?_) (fun c_ => by first | exact absurd c_ (by decide) | exact absurd (by decide) c_ | exact absurd c_ (not_not_intro (by decide)) | exact Bool.noConfusion (c_.symm.trans (by decide)))
  refine AW.iconst (v := 0) dX2_body_162 (by decide) rfl ?_
  refine AW.callV (Y := mX2_lawClause) (n := 2) (hr) (by decide) (by decide) rfl gM q1574 q1576 qs77 q141 q1577 dX2_body_163 (by decide +kernel) rfl rfl (Nat.le_of_ble_eq_true rfl) rfl ?_
  exact AW.iretE dX2_body_166 rfl rfl rfl rfl
set_option maxHeartbeats 400000 in
theorem body_2 {s : Sg} {a b c : Int32} {X PA : Nat → Int32} {base : Nat} {C : Cd} {Q : List Int32} {o : Int32} {w : Bool} {n : Nat} {L0 : Lq} {i : Nat} {x : Nat} {r : Int32} {h2 : AH} (hr : Run 9 mX2_lawClause [.ref 625, .int (nI x), .int (b2i true)] (hp (ps (rs s a b c) (tkL (s.A 629) n L0 i) (gq X base C PA Q o w))) (.inl (some (.int r))) h2) : Run 10 mX2_body [.ref 625, .int 2, .int (nI x)] (hp (ps (rs s a b c) (tkL (s.A 629) n L0 i) (gq X base C PA Q o w))) (.inl (some (.int (r)))) h2 := by
  refine Run.of rfl (Nat.le_of_ble_eq_true rfl) rfl ?_
  refine AW.iload_n dX2_body_0 rfl rfl ?_
  refine AW.tableOut (tgt := 151) dX2_body_1 (Or.inl (by decide)) (by decide) ?_
  refine AW.aload_n dX2_body_151 rfl rfl ?_
  refine AW.iload_n dX2_body_152 rfl rfl ?_
  refine AW.iload_n dX2_body_153 rfl rfl ?_
  refine AW.iconst (v := 2) dX2_body_154 (by decide) rfl ?_
  refine AW.icmp_ne (tgt := 162) dX2_body_155 (by decide) rfl (fun c_ => by first | exact absurd c_ (show (2 : Int32) = 2 from rfl) | exact absurd (show (2 : Int32) = 2 from rfl) c_ | exact Bool.noConfusion (c_.symm.trans (show (2 : Int32) = 2 from rfl))) (fun _ => ?_)
  refine AW.iconst (v := 1) dX2_body_158 (by decide) rfl ?_
  refine AW.goto (tgt := 163) dX2_body_159 (by decide) ?_
  refine AW.callV (Y := mX2_lawClause) (n := 2) (hr) (by decide) (by decide) rfl gM q1574 q1576 qs77 q141 q1577 dX2_body_163 (by decide +kernel) rfl rfl (Nat.le_of_ble_eq_true rfl) rfl ?_
  exact AW.iretE dX2_body_166 rfl rfl rfl rfl
set_option maxHeartbeats 400000 in
theorem body_4f {s : Sg} {a b c : Int32} {X PA : Nat → Int32} {base : Nat} {C : Cd} {Q : List Int32} {o : Int32} {w : Bool} {n : Nat} {L0 : Lq} {i : Nat} (hn : s.S 4 = nI n) (h300 : n ≤ 300) (hby : ∀ k, k < n → 0 ≤ s.A 629 k) (x : Nat) (hx : x + 3 < base) (hb2 : base + 608 ≤ 2820) (h1 : ¬ figF (tkL (s.A 629) n L0 i) 0 6 = 0) : Run 10 mX2_body [.ref 625, .int 4, .int (nI x)] (hp (ps (rs s a b c) (tkL (s.A 629) n L0 i) (gq X base C PA Q o w))) (.inl (some (.int (figF (tkL (s.A 629) n L0 i) 0 6)))) (hp (ps (rs s a b c) (tkL (s.A 629) n L0 i) (gq X base C PA Q o w))) := by
  refine Run.of rfl (Nat.le_of_ble_eq_true rfl) rfl ?_
  refine AW.iload_n dX2_body_0 rfl rfl ?_
  refine AW.tableIn (off := 45) (tgt := 46) dX2_body_1 (by decide) (by decide) rfl (by decide) ?_
  refine AW.aload_n dX2_body_46 rfl rfl ?_
  refine AW.iload_n dX2_body_47 rfl rfl ?_
  refine AW.iconst (v := 1) dX2_body_48 (by decide) rfl ?_
  refine AW.iadd dX2_body_49 rfl ?_
  refine AW.stT (x := .int (nI (x + 1))) (by show Value.int (nI x + 1) = _; rw [show (1 : Int32) = nI 1 from rfl, nI_add]) ?_
  refine AW.iconst (v := 0) dX2_body_50 (by decide) rfl ?_
  refine AW.bipush (v := 6) dX2_body_51 (by decide) rfl ?_
  refine AW.callV (Y := mX2_figure) (n := 3) (r_X2_figure_f _ _ _ h1) (by decide) (by decide) rfl gM q1558 q1560 qs73 q141 q1561 dX2_body_53 (by decide +kernel) rfl rfl (Nat.le_of_ble_eq_true rfl) rfl ?_
  exact AW.iretE dX2_body_56 rfl rfl rfl rfl
set_option maxHeartbeats 400000 in
theorem body_4t {s : Sg} {a b c : Int32} {X PA : Nat → Int32} {base : Nat} {C : Cd} {Q : List Int32} {o : Int32} {w : Bool} {n : Nat} {L0 : Lq} {i : Nat} (hn : s.S 4 = nI n) (h300 : n ≤ 300) (hby : ∀ k, k < n → 0 ≤ s.A 629 k) (x : Nat) (hx : x + 3 < base) (hb2 : base + 608 ≤ 2820) (h1 : figF (tkL (s.A 629) n L0 i) 0 6 = 0) : Run 10 mX2_body [.ref 625, .int 4, .int (nI x)] (hp (ps (rs s a b c) (tkL (s.A 629) n L0 i) (gq X base C PA Q o w))) (.inl (some (.int (0)))) (hp (ps (rs s a b c) (tkL (s.A 629) n L0 (i + 1)) (gq (up X (x + 1) (tkL (s.A 629) n L0 i).2.2.2.1) base C PA Q o w))) := by
  refine Run.of rfl (Nat.le_of_ble_eq_true rfl) rfl ?_
  refine AW.iload_n dX2_body_0 rfl rfl ?_
  refine AW.tableIn (off := 45) (tgt := 46) dX2_body_1 (by decide) (by decide) rfl (by decide) ?_
  refine AW.aload_n dX2_body_46 rfl rfl ?_
  refine AW.iload_n dX2_body_47 rfl rfl ?_
  refine AW.iconst (v := 1) dX2_body_48 (by decide) rfl ?_
  refine AW.iadd dX2_body_49 rfl ?_
  refine AW.stT (x := .int (nI (x + 1))) (by show Value.int (nI x + 1) = _; rw [show (1 : Int32) = nI 1 from rfl, nI_add]) ?_
  refine AW.iconst (v := 0) dX2_body_50 (by decide) rfl ?_
  refine AW.bipush (v := 6) dX2_body_51 (by decide) rfl ?_
  refine AW.callV (Y := mX2_figure) (n := 3) (w_fig_t hn h300 hby (x + 1) (by omega) hb2 0 6 h1 (i + 1) rfl) (by decide) (by decide) rfl gM q1558 q1560 qs73 q141 q1561 dX2_body_53 (by decide +kernel) rfl rfl (Nat.le_of_ble_eq_true rfl) rfl ?_
  exact AW.iretE dX2_body_56 rfl rfl rfl rfl
set_option maxHeartbeats 400000 in
theorem body_6f {s : Sg} {a b c : Int32} {X PA : Nat → Int32} {base : Nat} {C : Cd} {Q : List Int32} {o : Int32} {w : Bool} {n : Nat} {L0 : Lq} {i : Nat} (hn : s.S 4 = nI n) (h300 : n ≤ 300) (hby : ∀ k, k < n → 0 ≤ s.A 629 k) (x : Nat) (hx : x + 3 < base) (hb2 : base + 608 ≤ 2820) (h1 : ¬ figF (tkL (s.A 629) n L0 i) 0 6 = 0) : Run 10 mX2_body [.ref 625, .int 6, .int (nI x)] (hp (ps (rs s a b c) (tkL (s.A 629) n L0 i) (gq X base C PA Q o w))) (.inl (some (.int (figF (tkL (s.A 629) n L0 i) 0 6)))) (hp (ps (rs s a b c) (tkL (s.A 629) n L0 i) (gq X base C PA Q o w))) := by
  refine Run.of rfl (Nat.le_of_ble_eq_true rfl) rfl ?_
  refine AW.iload_n dX2_body_0 rfl rfl ?_
  refine AW.tableIn (off := 92) (tgt := 93) dX2_body_1 (by decide) (by decide) rfl (by decide) ?_
  refine AW.aload_n dX2_body_93 rfl rfl ?_
  refine AW.iload_n dX2_body_94 rfl rfl ?_
  refine AW.iconst (v := 1) dX2_body_95 (by decide) rfl ?_
  refine AW.iadd dX2_body_96 rfl ?_
  refine AW.stT (x := .int (nI (x + 1))) (by show Value.int (nI x + 1) = _; rw [show (1 : Int32) = nI 1 from rfl, nI_add]) ?_
  refine AW.iconst (v := 0) dX2_body_97 (by decide) rfl ?_
  refine AW.bipush (v := 6) dX2_body_98 (by decide) rfl ?_
  refine AW.callV (Y := mX2_figure) (n := 3) (r_X2_figure_f _ _ _ h1) (by decide) (by decide) rfl gM q1558 q1560 qs73 q141 q1561 dX2_body_100 (by decide +kernel) rfl rfl (Nat.le_of_ble_eq_true rfl) rfl ?_
  exact AW.iretE dX2_body_103 rfl rfl rfl rfl
set_option maxHeartbeats 400000 in
theorem body_6t {s : Sg} {a b c : Int32} {X PA : Nat → Int32} {base : Nat} {C : Cd} {Q : List Int32} {o : Int32} {w : Bool} {n : Nat} {L0 : Lq} {i : Nat} (hn : s.S 4 = nI n) (h300 : n ≤ 300) (hby : ∀ k, k < n → 0 ≤ s.A 629 k) (x : Nat) (hx : x + 3 < base) (hb2 : base + 608 ≤ 2820) (h1 : figF (tkL (s.A 629) n L0 i) 0 6 = 0) : Run 10 mX2_body [.ref 625, .int 6, .int (nI x)] (hp (ps (rs s a b c) (tkL (s.A 629) n L0 i) (gq X base C PA Q o w))) (.inl (some (.int (0)))) (hp (ps (rs s a b c) (tkL (s.A 629) n L0 (i + 1)) (gq (up X (x + 1) (tkL (s.A 629) n L0 i).2.2.2.1) base C PA Q o w))) := by
  refine Run.of rfl (Nat.le_of_ble_eq_true rfl) rfl ?_
  refine AW.iload_n dX2_body_0 rfl rfl ?_
  refine AW.tableIn (off := 92) (tgt := 93) dX2_body_1 (by decide) (by decide) rfl (by decide) ?_
  refine AW.aload_n dX2_body_93 rfl rfl ?_
  refine AW.iload_n dX2_body_94 rfl rfl ?_
  refine AW.iconst (v := 1) dX2_body_95 (by decide) rfl ?_
  refine AW.iadd dX2_body_96 rfl ?_
  refine AW.stT (x := .int (nI (x + 1))) (by show Value.int (nI x + 1) = _; rw [show (1 : Int32) = nI 1 from rfl, nI_add]) ?_
  refine AW.iconst (v := 0) dX2_body_97 (by decide) rfl ?_
  refine AW.bipush (v := 6) dX2_body_98 (by decide) rfl ?_
  refine AW.callV (Y := mX2_figure) (n := 3) (w_fig_t hn h300 hby (x + 1) (by omega) hb2 0 6 h1 (i + 1) rfl) (by decide) (by decide) rfl gM q1558 q1560 qs73 q141 q1561 dX2_body_100 (by decide +kernel) rfl rfl (Nat.le_of_ble_eq_true rfl) rfl ?_
  exact AW.iretE dX2_body_103 rfl rfl rfl rfl
set_option maxHeartbeats 400000 in
theorem body_8f {s : Sg} {a b c : Int32} {X PA : Nat → Int32} {base : Nat} {C : Cd} {Q : List Int32} {o : Int32} {w : Bool} {n : Nat} {L0 : Lq} {i : Nat} (hn : s.S 4 = nI n) (h300 : n ≤ 300) (hby : ∀ k, k < n → 0 ≤ s.A 629 k) (x : Nat) (hx : x + 3 < base) (hb2 : base + 608 ≤ 2820) (h1 : ¬ figF (tkL (s.A 629) n L0 i) 1 60 = 0) : Run 10 mX2_body [.ref 625, .int 8, .int (nI x)] (hp (ps (rs s a b c) (tkL (s.A 629) n L0 i) (gq X base C PA Q o w))) (.inl (some (.int (figF (tkL (s.A 629) n L0 i) 1 60)))) (hp (ps (rs s a b c) (tkL (s.A 629) n L0 i) (gq X base C PA Q o w))) := by
  refine Run.of rfl (Nat.le_of_ble_eq_true rfl) rfl ?_
  refine AW.iload_n dX2_body_0 rfl rfl ?_
  refine AW.tableIn (off := 139) (tgt := 140) dX2_body_1 (by decide) (by decide) rfl (by decide) ?_
  refine AW.aload_n dX2_body_140 rfl rfl ?_
  refine AW.iload_n dX2_body_141 rfl rfl ?_
  refine AW.iconst (v := 1) dX2_body_142 (by decide) rfl ?_
  refine AW.iadd dX2_body_143 rfl ?_
  refine AW.stT (x := .int (nI (x + 1))) (by show Value.int (nI x + 1) = _; rw [show (1 : Int32) = nI 1 from rfl, nI_add]) ?_
  refine AW.iconst (v := 1) dX2_body_144 (by decide) rfl ?_
  refine AW.bipush (v := 60) dX2_body_145 (by decide) rfl ?_
  refine AW.callV (Y := mX2_figure) (n := 3) (r_X2_figure_f _ _ _ h1) (by decide) (by decide) rfl gM q1558 q1560 qs73 q141 q1561 dX2_body_147 (by decide +kernel) rfl rfl (Nat.le_of_ble_eq_true rfl) rfl ?_
  exact AW.iretE dX2_body_150 rfl rfl rfl rfl
set_option maxHeartbeats 400000 in
theorem body_8t {s : Sg} {a b c : Int32} {X PA : Nat → Int32} {base : Nat} {C : Cd} {Q : List Int32} {o : Int32} {w : Bool} {n : Nat} {L0 : Lq} {i : Nat} (hn : s.S 4 = nI n) (h300 : n ≤ 300) (hby : ∀ k, k < n → 0 ≤ s.A 629 k) (x : Nat) (hx : x + 3 < base) (hb2 : base + 608 ≤ 2820) (h1 : figF (tkL (s.A 629) n L0 i) 1 60 = 0) : Run 10 mX2_body [.ref 625, .int 8, .int (nI x)] (hp (ps (rs s a b c) (tkL (s.A 629) n L0 i) (gq X base C PA Q o w))) (.inl (some (.int (0)))) (hp (ps (rs s a b c) (tkL (s.A 629) n L0 (i + 1)) (gq (up X (x + 1) (tkL (s.A 629) n L0 i).2.2.2.1) base C PA Q o w))) := by
  refine Run.of rfl (Nat.le_of_ble_eq_true rfl) rfl ?_
  refine AW.iload_n dX2_body_0 rfl rfl ?_
  refine AW.tableIn (off := 139) (tgt := 140) dX2_body_1 (by decide) (by decide) rfl (by decide) ?_
  refine AW.aload_n dX2_body_140 rfl rfl ?_
  refine AW.iload_n dX2_body_141 rfl rfl ?_
  refine AW.iconst (v := 1) dX2_body_142 (by decide) rfl ?_
  refine AW.iadd dX2_body_143 rfl ?_
  refine AW.stT (x := .int (nI (x + 1))) (by show Value.int (nI x + 1) = _; rw [show (1 : Int32) = nI 1 from rfl, nI_add]) ?_
  refine AW.iconst (v := 1) dX2_body_144 (by decide) rfl ?_
  refine AW.bipush (v := 60) dX2_body_145 (by decide) rfl ?_
  refine AW.callV (Y := mX2_figure) (n := 3) (w_fig_t hn h300 hby (x + 1) (by omega) hb2 1 60 h1 (i + 1) rfl) (by decide) (by decide) rfl gM q1558 q1560 qs73 q141 q1561 dX2_body_147 (by decide +kernel) rfl rfl (Nat.le_of_ble_eq_true rfl) rfl ?_
  exact AW.iretE dX2_body_150 rfl rfl rfl rfl
set_option maxHeartbeats 400000 in
theorem body_5a {s : Sg} {a b c : Int32} {X PA : Nat → Int32} {base : Nat} {C : Cd} {Q : List Int32} {o : Int32} {w : Bool} {n : Nat} {L0 : Lq} {i : Nat} (hn : s.S 4 = nI n) (h300 : n ≤ 300) (hby : ∀ k, k < n → 0 ≤ s.A 629 k) (x : Nat) (hx : x + 3 < base) (hb2 : base + 608 ≤ 2820) (h1 : ¬ figF (tkL (s.A 629) n L0 i) 0 6 = 0) : Run 10 mX2_body [.ref 625, .int 5, .int (nI x)] (hp (ps (rs s a b c) (tkL (s.A 629) n L0 i) (gq X base C PA Q o w))) (.inl (some (.int (figF (tkL (s.A 629) n L0 i) 0 6)))) (hp (ps (rs s a b c) (tkL (s.A 629) n L0 i) (gq X base C PA Q o w))) := by
  refine Run.of rfl (Nat.le_of_ble_eq_true rfl) rfl ?_
  refine AW.iload_n dX2_body_0 rfl rfl ?_
  refine AW.tableIn (off := 56) (tgt := 57) dX2_body_1 (by decide) (by decide) rfl (by decide) ?_
  refine AW.aload_n dX2_body_57 rfl rfl ?_
  refine AW.iload_n dX2_body_58 rfl rfl ?_
  refine AW.iconst (v := 1) dX2_body_59 (by decide) rfl ?_
  refine AW.iadd dX2_body_60 rfl ?_
  refine AW.stT (x := .int (nI (x + 1))) (by show Value.int (nI x + 1) = _; rw [show (1 : Int32) = nI 1 from rfl, nI_add]) ?_
  refine AW.iconst (v := 0) dX2_body_61 (by decide) rfl ?_
  refine AW.bipush (v := 6) dX2_body_62 (by decide) rfl ?_
  refine AW.callV (Y := mX2_figure) (n := 3) (r_X2_figure_f _ _ _ h1) (by decide) (by decide) rfl gM q1558 q1560 qs73 q141 q1561 dX2_body_64 (by decide +kernel) rfl rfl (Nat.le_of_ble_eq_true rfl) rfl ?_
  refine AW.istore_n (i := 3) dX2_body_67 rfl rfl (Nat.le_of_ble_eq_true rfl) rfl rfl ?_
  refine AW.iload_n dX2_body_68 rfl rfl ?_
  refine AW.if_eq (tgt := 76) dX2_body_69 (by decide) rfl (fun c_ => by first | exact absurd c_ h1 | exact absurd h1 c_ | exact Bool.noConfusion (c_.symm.trans h1)) (fun _ => ?_)
  refine AW.iload_n dX2_body_72 rfl rfl ?_
  refine AW.goto (tgt := 92) dX2_body_73 (by decide) ?_
  exact AW.iretE dX2_body_92 rfl rfl rfl rfl
set_option maxHeartbeats 400000 in
theorem body_5b {s : Sg} {a b c : Int32} {X PA : Nat → Int32} {base : Nat} {C : Cd} {Q : List Int32} {o : Int32} {w : Bool} {n : Nat} {L0 : Lq} {i : Nat} (hn : s.S 4 = nI n) (h300 : n ≤ 300) (hby : ∀ k, k < n → 0 ≤ s.A 629 k) (x : Nat) (hx : x + 3 < base) (hb2 : base + 608 ≤ 2820) (h1 : figF (tkL (s.A 629) n L0 i) 0 6 = 0) (h2 : isWd (tkL (s.A 629) n L0 (i + 1)) (w2F 116 111) = false) : Run 10 mX2_body [.ref 625, .int 5, .int (nI x)] (hp (ps (rs s a b c) (tkL (s.A 629) n L0 i) (gq X base C PA Q o w))) (.inl (some (.int (1)))) (hp (ps (rs s a b c) (tkL (s.A 629) n L0 (i + 1)) (gq (up X (x + 1) (tkL (s.A 629) n L0 i).2.2.2.1) base C PA Q o w))) := by
  refine Run.of rfl (Nat.le_of_ble_eq_true rfl) rfl ?_
  refine AW.iload_n dX2_body_0 rfl rfl ?_
  refine AW.tableIn (off := 56) (tgt := 57) dX2_body_1 (by decide) (by decide) rfl (by decide) ?_
  refine AW.aload_n dX2_body_57 rfl rfl ?_
  refine AW.iload_n dX2_body_58 rfl rfl ?_
  refine AW.iconst (v := 1) dX2_body_59 (by decide) rfl ?_
  refine AW.iadd dX2_body_60 rfl ?_
  refine AW.stT (x := .int (nI (x + 1))) (by show Value.int (nI x + 1) = _; rw [show (1 : Int32) = nI 1 from rfl, nI_add]) ?_
  refine AW.iconst (v := 0) dX2_body_61 (by decide) rfl ?_
  refine AW.bipush (v := 6) dX2_body_62 (by decide) rfl ?_
  refine AW.callV (Y := mX2_figure) (n := 3) (w_fig_t hn h300 hby (x + 1) (by omega) hb2 0 6 h1 (i + 1) rfl) (by decide) (by decide) rfl gM q1558 q1560 qs73 q141 q1561 dX2_body_64 (by decide +kernel) rfl rfl (Nat.le_of_ble_eq_true rfl) rfl ?_
  refine AW.istore_n (i := 3) dX2_body_67 rfl rfl (Nat.le_of_ble_eq_true rfl) rfl rfl ?_
  refine AW.iload_n dX2_body_68 rfl rfl ?_
  refine AW.if_eq (tgt := 76) dX2_body_69 (by decide) rfl (fun _ => ?_) (fun c_ => by first | exact absurd c_ rfl | exact absurd rfl c_ | exact absurd c_ (not_not_intro rfl) | exact Bool.noConfusion (c_.symm.trans rfl))
  refine AW.aload_n dX2_body_76 rfl rfl ?_
  refine AW.bipush (v := 116) dX2_body_77 (by decide) rfl ?_
  refine AW.bipush (v := 111) dX2_body_79 (by decide) rfl ?_
  refine AW.callS (Y := mX2_w2) (n := 2) (r_X2_w2 _ _) (by decide) (by decide) q1537 q1538 q141 q1539 dX2_body_81 (by decide +kernel) rfl rfl (Nat.le_of_ble_eq_true rfl) rfl ?_
  refine AW.iload_n dX2_body_84 rfl rfl ?_
  refine AW.iconst (v := 2) dX2_body_85 (by decide) rfl ?_
  refine AW.iadd dX2_body_86 rfl ?_
  refine AW.stT (x := .int (nI (x + 2))) (by show Value.int (nI x + 2) = _; rw [show (2 : Int32) = nI 2 from rfl, nI_add]) ?_
  refine AW.bipush (v := 6) dX2_body_87 (by decide) rfl ?_
  refine AW.callV (Y := mX2_worded) (n := 3) (r_X2_worded_1 _ _ _ h2) (by decide) (by decide) rfl gM q1562 q1564 qs74 q141 q1565 dX2_body_89 (by decide +kernel) rfl rfl (Nat.le_of_ble_eq_true rfl) rfl ?_
  exact AW.iretE dX2_body_92 rfl rfl rfl rfl
set_option maxHeartbeats 400000 in
theorem body_5c {s : Sg} {a b c : Int32} {X PA : Nat → Int32} {base : Nat} {C : Cd} {Q : List Int32} {o : Int32} {w : Bool} {n : Nat} {L0 : Lq} {i : Nat} (hn : s.S 4 = nI n) (h300 : n ≤ 300) (hby : ∀ k, k < n → 0 ≤ s.A 629 k) (x : Nat) (hx : x + 3 < base) (hb2 : base + 608 ≤ 2820) (h1 : figF (tkL (s.A 629) n L0 i) 0 6 = 0) (h2 : isWd (tkL (s.A 629) n L0 (i + 1)) (w2F 116 111) = true) (h3 : ¬ figF (tkL (s.A 629) n L0 (i + 2)) 0 6 = 0) : Run 10 mX2_body [.ref 625, .int 5, .int (nI x)] (hp (ps (rs s a b c) (tkL (s.A 629) n L0 i) (gq X base C PA Q o w))) (.inl (some (.int (figF (tkL (s.A 629) n L0 (i + 2)) 0 6)))) (hp (ps (rs s a b c) (tkL (s.A 629) n L0 (i + 2)) (gq (up X (x + 1) (tkL (s.A 629) n L0 i).2.2.2.1) base C PA Q o w))) := by
  refine Run.of rfl (Nat.le_of_ble_eq_true rfl) rfl ?_
  refine AW.iload_n dX2_body_0 rfl rfl ?_
  refine AW.tableIn (off := 56) (tgt := 57) dX2_body_1 (by decide) (by decide) rfl (by decide) ?_
  refine AW.aload_n dX2_body_57 rfl rfl ?_
  refine AW.iload_n dX2_body_58 rfl rfl ?_
  refine AW.iconst (v := 1) dX2_body_59 (by decide) rfl ?_
  refine AW.iadd dX2_body_60 rfl ?_
  refine AW.stT (x := .int (nI (x + 1))) (by show Value.int (nI x + 1) = _; rw [show (1 : Int32) = nI 1 from rfl, nI_add]) ?_
  refine AW.iconst (v := 0) dX2_body_61 (by decide) rfl ?_
  refine AW.bipush (v := 6) dX2_body_62 (by decide) rfl ?_
  refine AW.callV (Y := mX2_figure) (n := 3) (w_fig_t hn h300 hby (x + 1) (by omega) hb2 0 6 h1 (i + 1) rfl) (by decide) (by decide) rfl gM q1558 q1560 qs73 q141 q1561 dX2_body_64 (by decide +kernel) rfl rfl (Nat.le_of_ble_eq_true rfl) rfl ?_
  refine AW.istore_n (i := 3) dX2_body_67 rfl rfl (Nat.le_of_ble_eq_true rfl) rfl rfl ?_
  refine AW.iload_n dX2_body_68 rfl rfl ?_
  refine AW.if_eq (tgt := 76) dX2_body_69 (by decide) rfl (fun _ => ?_) (fun c_ => by first | exact absurd c_ rfl | exact absurd rfl c_ | exact absurd c_ (not_not_intro rfl) | exact Bool.noConfusion (c_.symm.trans rfl))
  refine AW.aload_n dX2_body_76 rfl rfl ?_
  refine AW.bipush (v := 116) dX2_body_77 (by decide) rfl ?_
  refine AW.bipush (v := 111) dX2_body_79 (by decide) rfl ?_
  refine AW.callS (Y := mX2_w2) (n := 2) (r_X2_w2 _ _) (by decide) (by decide) q1537 q1538 q141 q1539 dX2_body_81 (by decide +kernel) rfl rfl (Nat.le_of_ble_eq_true rfl) rfl ?_
  refine AW.iload_n dX2_body_84 rfl rfl ?_
  refine AW.iconst (v := 2) dX2_body_85 (by decide) rfl ?_
  refine AW.iadd dX2_body_86 rfl ?_
  refine AW.stT (x := .int (nI (x + 2))) (by show Value.int (nI x + 2) = _; rw [show (2 : Int32) = nI 2 from rfl, nI_add]) ?_
  refine AW.bipush (v := 6) dX2_body_87 (by decide) rfl ?_
  refine AW.callV (Y := mX2_worded) (n := 3) (w_wd_f hn h300 hby (w2F 116 111) _ 6 h2 (i + 2) rfl h3) (by decide) (by decide) rfl gM q1562 q1564 qs74 q141 q1565 dX2_body_89 (by decide +kernel) rfl rfl (Nat.le_of_ble_eq_true rfl) rfl ?_
  exact AW.iretE dX2_body_92 rfl rfl rfl rfl
set_option maxHeartbeats 400000 in
theorem body_5t {s : Sg} {a b c : Int32} {X PA : Nat → Int32} {base : Nat} {C : Cd} {Q : List Int32} {o : Int32} {w : Bool} {n : Nat} {L0 : Lq} {i : Nat} (hn : s.S 4 = nI n) (h300 : n ≤ 300) (hby : ∀ k, k < n → 0 ≤ s.A 629 k) (x : Nat) (hx : x + 3 < base) (hb2 : base + 608 ≤ 2820) (h1 : figF (tkL (s.A 629) n L0 i) 0 6 = 0) (h2 : isWd (tkL (s.A 629) n L0 (i + 1)) (w2F 116 111) = true) (h3 : figF (tkL (s.A 629) n L0 (i + 2)) 0 6 = 0) : Run 10 mX2_body [.ref 625, .int 5, .int (nI x)] (hp (ps (rs s a b c) (tkL (s.A 629) n L0 i) (gq X base C PA Q o w))) (.inl (some (.int (0)))) (hp (ps (rs s a b c) (tkL (s.A 629) n L0 (i + 3)) (gq (up (up X (x + 1) (tkL (s.A 629) n L0 i).2.2.2.1) (x + 2) (tkL (s.A 629) n L0 (i + 2)).2.2.2.1) base C PA Q o w))) := by
  refine Run.of rfl (Nat.le_of_ble_eq_true rfl) rfl ?_
  refine AW.iload_n dX2_body_0 rfl rfl ?_
  refine AW.tableIn (off := 56) (tgt := 57) dX2_body_1 (by decide) (by decide) rfl (by decide) ?_
  refine AW.aload_n dX2_body_57 rfl rfl ?_
  refine AW.iload_n dX2_body_58 rfl rfl ?_
  refine AW.iconst (v := 1) dX2_body_59 (by decide) rfl ?_
  refine AW.iadd dX2_body_60 rfl ?_
  refine AW.stT (x := .int (nI (x + 1))) (by show Value.int (nI x + 1) = _; rw [show (1 : Int32) = nI 1 from rfl, nI_add]) ?_
  refine AW.iconst (v := 0) dX2_body_61 (by decide) rfl ?_
  refine AW.bipush (v := 6) dX2_body_62 (by decide) rfl ?_
  refine AW.callV (Y := mX2_figure) (n := 3) (w_fig_t hn h300 hby (x + 1) (by omega) hb2 0 6 h1 (i + 1) rfl) (by decide) (by decide) rfl gM q1558 q1560 qs73 q141 q1561 dX2_body_64 (by decide +kernel) rfl rfl (Nat.le_of_ble_eq_true rfl) rfl ?_
  refine AW.istore_n (i := 3) dX2_body_67 rfl rfl (Nat.le_of_ble_eq_true rfl) rfl rfl ?_
  refine AW.iload_n dX2_body_68 rfl rfl ?_
  refine AW.if_eq (tgt := 76) dX2_body_69 (by decide) rfl (fun _ => ?_) (fun c_ => by first | exact absurd c_ rfl | exact absurd rfl c_ | exact absurd c_ (not_not_intro rfl) | exact Bool.noConfusion (c_.symm.trans rfl))
  refine AW.aload_n dX2_body_76 rfl rfl ?_
  refine AW.bipush (v := 116) dX2_body_77 (by decide) rfl ?_
  refine AW.bipush (v := 111) dX2_body_79 (by decide) rfl ?_
  refine AW.callS (Y := mX2_w2) (n := 2) (r_X2_w2 _ _) (by decide) (by decide) q1537 q1538 q141 q1539 dX2_body_81 (by decide +kernel) rfl rfl (Nat.le_of_ble_eq_true rfl) rfl ?_
  refine AW.iload_n dX2_body_84 rfl rfl ?_
  refine AW.iconst (v := 2) dX2_body_85 (by decide) rfl ?_
  refine AW.iadd dX2_body_86 rfl ?_
  refine AW.stT (x := .int (nI (x + 2))) (by show Value.int (nI x + 2) = _; rw [show (2 : Int32) = nI 2 from rfl, nI_add]) ?_
  refine AW.bipush (v := 6) dX2_body_87 (by decide) rfl ?_
  refine AW.callV (Y := mX2_worded) (n := 3) (w_wd_t hn h300 hby (w2F 116 111) (x + 2) (by omega) hb2 6 h2 (i + 2) rfl (i + 3) rfl h3) (by decide) (by decide) rfl gM q1562 q1564 qs74 q141 q1565 dX2_body_89 (by decide +kernel) rfl rfl (Nat.le_of_ble_eq_true rfl) rfl ?_
  exact AW.iretE dX2_body_92 rfl rfl rfl rfl
set_option maxHeartbeats 400000 in
theorem body_7a {s : Sg} {a b c : Int32} {X PA : Nat → Int32} {base : Nat} {C : Cd} {Q : List Int32} {o : Int32} {w : Bool} {n : Nat} {L0 : Lq} {i : Nat} (hn : s.S 4 = nI n) (h300 : n ≤ 300) (hby : ∀ k, k < n → 0 ≤ s.A 629 k) (x : Nat) (hx : x + 3 < base) (hb2 : base + 608 ≤ 2820) (h1 : ¬ figF (tkL (s.A 629) n L0 i) 0 19 = 0) : Run 10 mX2_body [.ref 625, .int 7, .int (nI x)] (hp (ps (rs s a b c) (tkL (s.A 629) n L0 i) (gq X base C PA Q o w))) (.inl (some (.int (figF (tkL (s.A 629) n L0 i) 0 19)))) (hp (ps (rs s a b c) (tkL (s.A 629) n L0 i) (gq X base C PA Q o w))) := by
  refine Run.of rfl (Nat.le_of_ble_eq_true rfl) rfl ?_
  refine AW.iload_n dX2_body_0 rfl rfl ?_
  refine AW.tableIn (off := 103) (tgt := 104) dX2_body_1 (by decide) (by decide) rfl (by decide) ?_
  refine AW.aload_n dX2_body_104 rfl rfl ?_
  refine AW.iload_n dX2_body_105 rfl rfl ?_
  refine AW.iconst (v := 1) dX2_body_106 (by decide) rfl ?_
  refine AW.iadd dX2_body_107 rfl ?_
  refine AW.stT (x := .int (nI (x + 1))) (by show Value.int (nI x + 1) = _; rw [show (1 : Int32) = nI 1 from rfl, nI_add]) ?_
  refine AW.iconst (v := 0) dX2_body_108 (by decide) rfl ?_
  refine AW.bipush (v := 19) dX2_body_109 (by decide) rfl ?_
  refine AW.callV (Y := mX2_figure) (n := 3) (r_X2_figure_f _ _ _ h1) (by decide) (by decide) rfl gM q1558 q1560 qs73 q141 q1561 dX2_body_111 (by decide +kernel) rfl rfl (Nat.le_of_ble_eq_true rfl) rfl ?_
  refine AW.istore_n (i := 3) dX2_body_114 rfl rfl (Nat.le_of_ble_eq_true rfl) rfl rfl ?_
  refine AW.iload_n dX2_body_115 rfl rfl ?_
  refine AW.if_eq (tgt := 123) dX2_body_116 (by decide) rfl (fun c_ => by first | exact absurd c_ h1 | exact absurd h1 c_ | exact Bool.noConfusion (c_.symm.trans h1)) (fun _ => ?_)
  refine AW.iload_n dX2_body_119 rfl rfl ?_
  refine AW.goto (tgt := 139) dX2_body_120 (by decide) ?_
  exact AW.iretE dX2_body_139 rfl rfl rfl rfl
set_option maxHeartbeats 400000 in
theorem body_7b {s : Sg} {a b c : Int32} {X PA : Nat → Int32} {base : Nat} {C : Cd} {Q : List Int32} {o : Int32} {w : Bool} {n : Nat} {L0 : Lq} {i : Nat} (hn : s.S 4 = nI n) (h300 : n ≤ 300) (hby : ∀ k, k < n → 0 ≤ s.A 629 k) (x : Nat) (hx : x + 3 < base) (hb2 : base + 608 ≤ 2820) (h1 : figF (tkL (s.A 629) n L0 i) 0 19 = 0) (h2 : isWd (tkL (s.A 629) n L0 (i + 1)) (w2F 111 102) = false) : Run 10 mX2_body [.ref 625, .int 7, .int (nI x)] (hp (ps (rs s a b c) (tkL (s.A 629) n L0 i) (gq X base C PA Q o w))) (.inl (some (.int (1)))) (hp (ps (rs s a b c) (tkL (s.A 629) n L0 (i + 1)) (gq (up X (x + 1) (tkL (s.A 629) n L0 i).2.2.2.1) base C PA Q o w))) := by
  refine Run.of rfl (Nat.le_of_ble_eq_true rfl) rfl ?_
  refine AW.iload_n dX2_body_0 rfl rfl ?_
  refine AW.tableIn (off := 103) (tgt := 104) dX2_body_1 (by decide) (by decide) rfl (by decide) ?_
  refine AW.aload_n dX2_body_104 rfl rfl ?_
  refine AW.iload_n dX2_body_105 rfl rfl ?_
  refine AW.iconst (v := 1) dX2_body_106 (by decide) rfl ?_
  refine AW.iadd dX2_body_107 rfl ?_
  refine AW.stT (x := .int (nI (x + 1))) (by show Value.int (nI x + 1) = _; rw [show (1 : Int32) = nI 1 from rfl, nI_add]) ?_
  refine AW.iconst (v := 0) dX2_body_108 (by decide) rfl ?_
  refine AW.bipush (v := 19) dX2_body_109 (by decide) rfl ?_
  refine AW.callV (Y := mX2_figure) (n := 3) (w_fig_t hn h300 hby (x + 1) (by omega) hb2 0 19 h1 (i + 1) rfl) (by decide) (by decide) rfl gM q1558 q1560 qs73 q141 q1561 dX2_body_111 (by decide +kernel) rfl rfl (Nat.le_of_ble_eq_true rfl) rfl ?_
  refine AW.istore_n (i := 3) dX2_body_114 rfl rfl (Nat.le_of_ble_eq_true rfl) rfl rfl ?_
  refine AW.iload_n dX2_body_115 rfl rfl ?_
  refine AW.if_eq (tgt := 123) dX2_body_116 (by decide) rfl (fun _ => ?_) (fun c_ => by first | exact absurd c_ rfl | exact absurd rfl c_ | exact absurd c_ (not_not_intro rfl) | exact Bool.noConfusion (c_.symm.trans rfl))
  refine AW.aload_n dX2_body_123 rfl rfl ?_
  refine AW.bipush (v := 111) dX2_body_124 (by decide) rfl ?_
  refine AW.bipush (v := 102) dX2_body_126 (by decide) rfl ?_
  refine AW.callS (Y := mX2_w2) (n := 2) (r_X2_w2 _ _) (by decide) (by decide) q1537 q1538 q141 q1539 dX2_body_128 (by decide +kernel) rfl rfl (Nat.le_of_ble_eq_true rfl) rfl ?_
  refine AW.iload_n dX2_body_131 rfl rfl ?_
  refine AW.iconst (v := 2) dX2_body_132 (by decide) rfl ?_
  refine AW.iadd dX2_body_133 rfl ?_
  refine AW.stT (x := .int (nI (x + 2))) (by show Value.int (nI x + 2) = _; rw [show (2 : Int32) = nI 2 from rfl, nI_add]) ?_
  refine AW.bipush (v := 6) dX2_body_134 (by decide) rfl ?_
  refine AW.callV (Y := mX2_worded) (n := 3) (r_X2_worded_1 _ _ _ h2) (by decide) (by decide) rfl gM q1562 q1564 qs74 q141 q1565 dX2_body_136 (by decide +kernel) rfl rfl (Nat.le_of_ble_eq_true rfl) rfl ?_
  exact AW.iretE dX2_body_139 rfl rfl rfl rfl
set_option maxHeartbeats 400000 in
theorem body_7c {s : Sg} {a b c : Int32} {X PA : Nat → Int32} {base : Nat} {C : Cd} {Q : List Int32} {o : Int32} {w : Bool} {n : Nat} {L0 : Lq} {i : Nat} (hn : s.S 4 = nI n) (h300 : n ≤ 300) (hby : ∀ k, k < n → 0 ≤ s.A 629 k) (x : Nat) (hx : x + 3 < base) (hb2 : base + 608 ≤ 2820) (h1 : figF (tkL (s.A 629) n L0 i) 0 19 = 0) (h2 : isWd (tkL (s.A 629) n L0 (i + 1)) (w2F 111 102) = true) (h3 : ¬ figF (tkL (s.A 629) n L0 (i + 2)) 0 6 = 0) : Run 10 mX2_body [.ref 625, .int 7, .int (nI x)] (hp (ps (rs s a b c) (tkL (s.A 629) n L0 i) (gq X base C PA Q o w))) (.inl (some (.int (figF (tkL (s.A 629) n L0 (i + 2)) 0 6)))) (hp (ps (rs s a b c) (tkL (s.A 629) n L0 (i + 2)) (gq (up X (x + 1) (tkL (s.A 629) n L0 i).2.2.2.1) base C PA Q o w))) := by
  refine Run.of rfl (Nat.le_of_ble_eq_true rfl) rfl ?_
  refine AW.iload_n dX2_body_0 rfl rfl ?_
  refine AW.tableIn (off := 103) (tgt := 104) dX2_body_1 (by decide) (by decide) rfl (by decide) ?_
  refine AW.aload_n dX2_body_104 rfl rfl ?_
  refine AW.iload_n dX2_body_105 rfl rfl ?_
  refine AW.iconst (v := 1) dX2_body_106 (by decide) rfl ?_
  refine AW.iadd dX2_body_107 rfl ?_
  refine AW.stT (x := .int (nI (x + 1))) (by show Value.int (nI x + 1) = _; rw [show (1 : Int32) = nI 1 from rfl, nI_add]) ?_
  refine AW.iconst (v := 0) dX2_body_108 (by decide) rfl ?_
  refine AW.bipush (v := 19) dX2_body_109 (by decide) rfl ?_
  refine AW.callV (Y := mX2_figure) (n := 3) (w_fig_t hn h300 hby (x + 1) (by omega) hb2 0 19 h1 (i + 1) rfl) (by decide) (by decide) rfl gM q1558 q1560 qs73 q141 q1561 dX2_body_111 (by decide +kernel) rfl rfl (Nat.le_of_ble_eq_true rfl) rfl ?_
  refine AW.istore_n (i := 3) dX2_body_114 rfl rfl (Nat.le_of_ble_eq_true rfl) rfl rfl ?_
  refine AW.iload_n dX2_body_115 rfl rfl ?_
  refine AW.if_eq (tgt := 123) dX2_body_116 (by decide) rfl (fun _ => ?_) (fun c_ => by first | exact absurd c_ rfl | exact absurd rfl c_ | exact absurd c_ (not_not_intro rfl) | exact Bool.noConfusion (c_.symm.trans rfl))
  refine AW.aload_n dX2_body_123 rfl rfl ?_
  refine AW.bipush (v := 111) dX2_body_124 (by decide) rfl ?_
  refine AW.bipush (v := 102) dX2_body_126 (by decide) rfl ?_
  refine AW.callS (Y := mX2_w2) (n := 2) (r_X2_w2 _ _) (by decide) (by decide) q1537 q1538 q141 q1539 dX2_body_128 (by decide +kernel) rfl rfl (Nat.le_of_ble_eq_true rfl) rfl ?_
  refine AW.iload_n dX2_body_131 rfl rfl ?_
  refine AW.iconst (v := 2) dX2_body_132 (by decide) rfl ?_
  refine AW.iadd dX2_body_133 rfl ?_
  refine AW.stT (x := .int (nI (x + 2))) (by show Value.int (nI x + 2) = _; rw [show (2 : Int32) = nI 2 from rfl, nI_add]) ?_
  refine AW.bipush (v := 6) dX2_body_134 (by decide) rfl ?_
  refine AW.callV (Y := mX2_worded) (n := 3) (w_wd_f hn h300 hby (w2F 111 102) _ 6 h2 (i + 2) rfl h3) (by decide) (by decide) rfl gM q1562 q1564 qs74 q141 q1565 dX2_body_136 (by decide +kernel) rfl rfl (Nat.le_of_ble_eq_true rfl) rfl ?_
  exact AW.iretE dX2_body_139 rfl rfl rfl rfl
set_option maxHeartbeats 400000 in
theorem body_7t {s : Sg} {a b c : Int32} {X PA : Nat → Int32} {base : Nat} {C : Cd} {Q : List Int32} {o : Int32} {w : Bool} {n : Nat} {L0 : Lq} {i : Nat} (hn : s.S 4 = nI n) (h300 : n ≤ 300) (hby : ∀ k, k < n → 0 ≤ s.A 629 k) (x : Nat) (hx : x + 3 < base) (hb2 : base + 608 ≤ 2820) (h1 : figF (tkL (s.A 629) n L0 i) 0 19 = 0) (h2 : isWd (tkL (s.A 629) n L0 (i + 1)) (w2F 111 102) = true) (h3 : figF (tkL (s.A 629) n L0 (i + 2)) 0 6 = 0) : Run 10 mX2_body [.ref 625, .int 7, .int (nI x)] (hp (ps (rs s a b c) (tkL (s.A 629) n L0 i) (gq X base C PA Q o w))) (.inl (some (.int (0)))) (hp (ps (rs s a b c) (tkL (s.A 629) n L0 (i + 3)) (gq (up (up X (x + 1) (tkL (s.A 629) n L0 i).2.2.2.1) (x + 2) (tkL (s.A 629) n L0 (i + 2)).2.2.2.1) base C PA Q o w))) := by
  refine Run.of rfl (Nat.le_of_ble_eq_true rfl) rfl ?_
  refine AW.iload_n dX2_body_0 rfl rfl ?_
  refine AW.tableIn (off := 103) (tgt := 104) dX2_body_1 (by decide) (by decide) rfl (by decide) ?_
  refine AW.aload_n dX2_body_104 rfl rfl ?_
  refine AW.iload_n dX2_body_105 rfl rfl ?_
  refine AW.iconst (v := 1) dX2_body_106 (by decide) rfl ?_
  refine AW.iadd dX2_body_107 rfl ?_
  refine AW.stT (x := .int (nI (x + 1))) (by show Value.int (nI x + 1) = _; rw [show (1 : Int32) = nI 1 from rfl, nI_add]) ?_
  refine AW.iconst (v := 0) dX2_body_108 (by decide) rfl ?_
  refine AW.bipush (v := 19) dX2_body_109 (by decide) rfl ?_
  refine AW.callV (Y := mX2_figure) (n := 3) (w_fig_t hn h300 hby (x + 1) (by omega) hb2 0 19 h1 (i + 1) rfl) (by decide) (by decide) rfl gM q1558 q1560 qs73 q141 q1561 dX2_body_111 (by decide +kernel) rfl rfl (Nat.le_of_ble_eq_true rfl) rfl ?_
  refine AW.istore_n (i := 3) dX2_body_114 rfl rfl (Nat.le_of_ble_eq_true rfl) rfl rfl ?_
  refine AW.iload_n dX2_body_115 rfl rfl ?_
  refine AW.if_eq (tgt := 123) dX2_body_116 (by decide) rfl (fun _ => ?_) (fun c_ => by first | exact absurd c_ rfl | exact absurd rfl c_ | exact absurd c_ (not_not_intro rfl) | exact Bool.noConfusion (c_.symm.trans rfl))
  refine AW.aload_n dX2_body_123 rfl rfl ?_
  refine AW.bipush (v := 111) dX2_body_124 (by decide) rfl ?_
  refine AW.bipush (v := 102) dX2_body_126 (by decide) rfl ?_
  refine AW.callS (Y := mX2_w2) (n := 2) (r_X2_w2 _ _) (by decide) (by decide) q1537 q1538 q141 q1539 dX2_body_128 (by decide +kernel) rfl rfl (Nat.le_of_ble_eq_true rfl) rfl ?_
  refine AW.iload_n dX2_body_131 rfl rfl ?_
  refine AW.iconst (v := 2) dX2_body_132 (by decide) rfl ?_
  refine AW.iadd dX2_body_133 rfl ?_
  refine AW.stT (x := .int (nI (x + 2))) (by show Value.int (nI x + 2) = _; rw [show (2 : Int32) = nI 2 from rfl, nI_add]) ?_
  refine AW.bipush (v := 6) dX2_body_134 (by decide) rfl ?_
  refine AW.callV (Y := mX2_worded) (n := 3) (w_wd_t hn h300 hby (w2F 111 102) (x + 2) (by omega) hb2 6 h2 (i + 2) rfl (i + 3) rfl h3) (by decide) (by decide) rfl gM q1562 q1564 qs74 q141 q1565 dX2_body_136 (by decide +kernel) rfl rfl (Nat.le_of_ble_eq_true rfl) rfl ?_
  exact AW.iretE dX2_body_139 rfl rfl rfl rfl
