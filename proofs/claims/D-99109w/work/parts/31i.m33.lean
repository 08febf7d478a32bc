/-! MODEL 33: behind one, ahead of one (printed by tools/m33.py) -/
set_option maxRecDepth 100000
theorem settle_p {P : Nat → Int32} {least : Int32} : ∀ {Q : List Int32} {C : Cd} {o : Int32} {Q1 : List Int32} {C1 : Cd} {o1 : Int32}, settleL least Q C o = (Q1, C1, o1) → pileR P Q → pileR P Q1 ∧ Q1.length ≤ Q.length ∧ C1.length + Q1.length = C.length + Q.length
  | [], C, o, Q1, C1, o1, h, hp => by cases h; exact ⟨hp, Nat.le_refl _, rfl⟩
  | q :: Q, C, o, Q1, C1, o1, h, hp => by
    unfold settleL at h
    split at h
    · have := settle_p h hp.2
      rw [List.length_append] at this
      refine ⟨this.1, by simp only [List.length_cons]; omega, ?_⟩
      have e := this.2.2
      simp only [List.length_cons, List.length_nil] at e ⊢
      omega
    · cases h; exact ⟨hp, Nat.le_refl _, rfl⟩
theorem r_X2_endOne_n {s : Sg} {L : Lq} {X PA : Nat → Int32} {base : Nat} {C : Cd} {Q : List Int32} {o : Int32} {w : Bool} (hb : s.S 12 + 97 = nI base) (hb2 : base + 608 ≤ 2820) (hq : pileR PA Q) (hql : Q.length ≤ 160) (hcq : C.length + Q.length ≤ 304) {Q1 : List Int32} {C1 : Cd} {o1 : Int32} (hr : settleL 7 Q C o = (Q1, C1, o1)) (ht : ∀ q Q2, Q1 = q :: Q2 → ¬ q = 41) : Run 4 mX2_endOne [.ref 625] (hp (ps s L (gq X base C PA Q o w))) (.inl (some (.int (0)))) (hp (ps s L (gq X base C1 PA Q1 o1 true))) := by
  have hst := r_X2_settle (s := s) (L := L) (X := X) (PA := PA) (C := C) (Q := Q) (o := o) (w := w) hb hb2 hq hql hcq 7
  rw [hr] at hst
  obtain ⟨hp1, hl1, hc1⟩ := settle_p hr hq
  refine Run.of rfl (Nat.le_of_ble_eq_true rfl) rfl ?_
  cases Q1 with
  | nil =>
    refine AW.aload_n dX2_endOne_0 rfl rfl ?_
    refine AW.bipush (v := 7) dX2_endOne_1 (by decide) rfl ?_
    refine AW.callV (Y := mX2_settle) (n := 1) (hst) (by decide) (by decide) rfl gM q1605 q1607 qs84 q141 q1608 dX2_endOne_3 (by decide +kernel) rfl rfl (Nat.le_of_ble_eq_true rfl) rfl ?_
    refine AW.aload_n dX2_endOne_6 rfl rfl ?_
    refine AW.iconst (v := 1) dX2_endOne_7 (by decide) rfl ?_
    refine AW.put ci2 18 (by decide) q1369 dX2_endOne_8 (by decide) gM rfl (fun _ => rfl) (fun _ => rfl) (Nat.le_of_ble_eq_true rfl) ps_s18 rfl ?_
    refine AW.hp (h2 := (hp (ps s L (gq X base C1 PA [] o1 true)))) rfl ?_
    refine AW.aload_n dX2_endOne_11 rfl rfl ?_
    refine AW.get ci2 16 (by decide) q1367 dX2_endOne_12 gM rfl rfl ?_
    refine AW.if_eq (tgt := 34) dX2_endOne_15 (by decide) rfl (fun _ => ?_) (fun c_ => by first | exact absurd c_ (by show nI 0 = 0; rfl) | exact absurd (by show nI 0 = 0; rfl) c_ | exact absurd c_ (not_not_intro (by show nI 0 = 0; rfl)) | exact Bool.noConfusion (c_.symm.trans (by show nI 0 = 0; rfl)))
    refine AW.iconst (v := 0) dX2_endOne_34 (by decide) rfl ?_
    exact AW.iretE dX2_endOne_35 rfl rfl rfl rfl
  | cons q Q1 =>
    refine AW.aload_n dX2_endOne_0 rfl rfl ?_
    refine AW.bipush (v := 7) dX2_endOne_1 (by decide) rfl ?_
    refine AW.callV (Y := mX2_settle) (n := 1) (hst) (by decide) (by decide) rfl gM q1605 q1607 qs84 q141 q1608 dX2_endOne_3 (by decide +kernel) rfl rfl (Nat.le_of_ble_eq_true rfl) rfl ?_
    refine AW.aload_n dX2_endOne_6 rfl rfl ?_
    refine AW.iconst (v := 1) dX2_endOne_7 (by decide) rfl ?_
    refine AW.put ci2 18 (by decide) q1369 dX2_endOne_8 (by decide) gM rfl (fun _ => rfl) (fun _ => rfl) (Nat.le_of_ble_eq_true rfl) ps_s18 rfl ?_
    refine AW.hp (h2 := (hp (ps s L (gq X base C1 PA (q :: Q1) o1 true)))) rfl ?_
    refine AW.aload_n dX2_endOne_11 rfl rfl ?_
    refine AW.get ci2 16 (by decide) q1367 dX2_endOne_12 gM rfl rfl ?_
    refine AW.if_eq (tgt := 34) dX2_endOne_15 (by decide) rfl (fun c_ => by first | exact absurd c_ (by show ¬ nI (Q1.length + 1) = 0; exact nI_nz (by simp only [List.length_cons] at hl1; omega) (by omega)) | exact absurd (by show ¬ nI (Q1.length + 1) = 0; exact nI_nz (by simp only [List.length_cons] at hl1; omega) (by omega)) c_ | exact Bool.noConfusion (c_.symm.trans (by show ¬ nI (Q1.length + 1) = 0; exact nI_nz (by simp only [List.length_cons] at hl1; omega) (by omega)))) (fun _ => ?_)
    refine AW.aload_n dX2_endOne_18 rfl rfl ?_
    refine AW.get ci2 15 (by decide) q1366 dX2_endOne_19 gM rfl rfl ?_
    refine AW.aload_n dX2_endOne_22 rfl rfl ?_
    refine AW.get ci2 16 (by decide) q1367 dX2_endOne_23 gM rfl rfl ?_
    refine AW.iconst (v := 1) dX2_endOne_26 (by decide) rfl ?_
    refine AW.isub dX2_endOne_27 rfl ?_
    refine AW.stT (x := .int (nI Q1.length)) (by show Value.int (nI (Q1.length + 1) - 1) = _; rw [nI_s1 (by omega)]; rfl) ?_
    refine AW.iald dX2_endOne_28 ps_g630 (in0 Q1.length (by simp only [List.length_cons] at hl1; omega) (by decide)) (j := Q1.length) (cI_nI (by simp only [List.length_cons] at hl1; omega)) rfl ?_
    refine AW.stT (x := .int (q)) (by show Value.int (PA Q1.length) = _; rw [hp1.1]) ?_
    refine AW.bipush (v := 41) dX2_endOne_29 (by decide) rfl ?_
    refine AW.icmp_eq (tgt := 36) dX2_endOne_31 (by decide) rfl (fun c_ => by first | exact absurd c_ (ht q Q1 rfl) | exact absurd (ht q Q1 rfl) c_ | exact Bool.noConfusion (c_.symm.trans (ht q Q1 rfl))) (fun _ => ?_)
    refine AW.iconst (v := 0) dX2_endOne_34 (by decide) rfl ?_
    exact AW.iretE dX2_endOne_35 rfl rfl rfl rfl
theorem r_X2_endOne_f {s : Sg} {L : Lq} {X PA : Nat → Int32} {base : Nat} {C : Cd} {Q : List Int32} {o : Int32} {w : Bool} (hb : s.S 12 + 97 = nI base) (hb2 : base + 608 ≤ 2820) (hq : pileR PA Q) (hql : Q.length ≤ 160) (hcq : C.length + Q.length ≤ 304) {Q1 : List Int32} {C1 : Cd} {o1 : Int32} (hr : settleL 7 Q C o = (41 :: Q1, C1, o1)) (ho : isWd L (w2F 111 102) = false) : Run 4 mX2_endOne [.ref 625] (hp (ps s L (gq X base C PA Q o w))) (.inl (some (.int (1)))) (hp (ps s L (gq X base C1 PA (41 :: Q1) o1 true))) := by
  have hst := r_X2_settle (s := s) (L := L) (X := X) (PA := PA) (C := C) (Q := Q) (o := o) (w := w) hb hb2 hq hql hcq 7
  rw [hr] at hst
  obtain ⟨hp1, hl1, hc1⟩ := settle_p hr hq
  simp only [List.length_cons] at hl1
  refine Run.of rfl (Nat.le_of_ble_eq_true rfl) rfl ?_
  refine AW.aload_n dX2_endOne_0 rfl rfl ?_
  refine AW.bipush (v := 7) dX2_endOne_1 (by decide) rfl ?_
  refine AW.callV (Y := mX2_settle) (n := 1) (hst) (by decide) (by decide) rfl gM q1605 q1607 qs84 q141 q1608 dX2_endOne_3 (by decide +kernel) rfl rfl (Nat.le_of_ble_eq_true rfl) rfl ?_
  refine AW.aload_n dX2_endOne_6 rfl rfl ?_
  refine AW.iconst (v := 1) dX2_endOne_7 (by decide) rfl ?_
  refine AW.put ci2 18 (by decide) q1369 dX2_endOne_8 (by decide) gM rfl (fun _ => rfl) (fun _ => rfl) (Nat.le_of_ble_eq_true rfl) ps_s18 rfl ?_
  refine AW.hp (h2 := (hp (ps s L (gq X base C1 PA (41 :: Q1) o1 true)))) rfl ?_
  refine AW.aload_n dX2_endOne_11 rfl rfl ?_
  refine AW.get ci2 16 (by decide) q1367 dX2_endOne_12 gM rfl rfl ?_
  refine AW.if_eq (tgt := 34) dX2_endOne_15 (by decide) rfl (fun c_ => by first | exact absurd c_ (by show ¬ nI (Q1.length + 1) = 0; exact nI_nz (by omega) (by omega)) | exact absurd (by show ¬ nI (Q1.length + 1) = 0; exact nI_nz (by omega) (by omega)) c_ | exact Bool.noConfusion (c_.symm.trans (by show ¬ nI (Q1.length + 1) = 0; exact nI_nz (by omega) (by omega)))) (fun _ => ?_)
  refine AW.aload_n dX2_endOne_18 rfl rfl ?_
  refine AW.get ci2 15 (by decide) q1366 dX2_endOne_19 gM rfl rfl ?_
  refine AW.aload_n dX2_endOne_22 rfl rfl ?_
  refine AW.get ci2 16 (by decide) q1367 dX2_endOne_23 gM rfl rfl ?_
  refine AW.iconst (v := 1) dX2_endOne_26 (by decide) rfl ?_
  refine AW.isub dX2_endOne_27 rfl ?_
  refine AW.stT (x := .int (nI Q1.length)) (by show Value.int (nI (Q1.length + 1) - 1) = _; rw [nI_s1 (by omega)]; rfl) ?_
  refine AW.iald dX2_endOne_28 ps_g630 (in0 Q1.length (by omega) (by decide)) (j := Q1.length) (cI_nI (by omega)) rfl ?_
  refine AW.stT (x := .int (41)) (by show Value.int (PA Q1.length) = _; rw [hp1.1]) ?_
  refine AW.bipush (v := 41) dX2_endOne_29 (by decide) rfl ?_
  refine AW.icmp_eq (tgt := 36) dX2_endOne_31 (by decide) rfl (fun _ => ?_) (fun c_ => by first | exact absurd c_ rfl | exact absurd rfl c_ | exact absurd c_ (not_not_intro rfl) | exact Bool.noConfusion (c_.symm.trans rfl))
  refine AW.aload_n dX2_endOne_36 rfl rfl ?_
  refine AW.bipush (v := 111) dX2_endOne_37 (by decide) rfl ?_
  refine AW.bipush (v := 102) dX2_endOne_39 (by decide) rfl ?_
  refine AW.callS (Y := mX2_w2) (n := 2) (r_X2_w2 _ _) (by decide) (by decide) q1537 q1538 q141 q1539 dX2_endOne_41 (by decide +kernel) rfl rfl (Nat.le_of_ble_eq_true rfl) rfl ?_
  refine AW.callV (Y := mX2_isWord) (n := 1) (r_X2_isWord _) (by decide) (by decide) rfl gM q1540 q1542 qs70 q141 q1543 dX2_endOne_44 (by decide +kernel) rfl rfl (Nat.le_of_ble_eq_true rfl) rfl ?_
  refine AW.if_neB (tgt := 52) dX2_endOne_47 (by decide) rfl (fun c_ => by first | exact absurd c_ ho | exact absurd ho c_ | exact Bool.noConfusion (c_.symm.trans ho)) (fun _ => ?_)
  refine AW.iconst (v := 1) dX2_endOne_50 (by decide) rfl ?_
  exact AW.iretE dX2_endOne_51 rfl rfl rfl rfl
theorem r_X2_endOne_t {s : Sg} {L : Lq} {X PA : Nat → Int32} {base : Nat} {C : Cd} {Q : List Int32} {o : Int32} {w : Bool} (hb : s.S 12 + 97 = nI base) (hb2 : base + 608 ≤ 2820) (hq : pileR PA Q) (hql : Q.length ≤ 160) (hcq : C.length + Q.length ≤ 304) {Q1 : List Int32} {C1 : Cd} {o1 : Int32} (hr : settleL 7 Q C o = (41 :: Q1, C1, o1)) (n : Nat) (hn : s.S 4 = nI n) (h300 : n ≤ 300) (hby : ∀ k, k < n → 0 ≤ s.A 629 k) (k0 : Nat) (hk0 : k0 ≤ n) (hL : L.1 = nI k0) (ho : isWd L (w2F 111 102) = true) : Run 4 mX2_endOne [.ref 625] (hp (ps s L (gq X base C PA Q o w))) (.inl (some (.int (0)))) (hp (ps s (lexL (s.A 629) n k0 L) (gq X base C1 (up PA Q1.length 7) (7 :: Q1) o1 false))) := by
  have hst := r_X2_settle (s := s) (L := L) (X := X) (PA := PA) (C := C) (Q := Q) (o := o) (w := w) hb hb2 hq hql hcq 7
  rw [hr] at hst
  obtain ⟨hp1, hl1, hc1⟩ := settle_p hr hq
  simp only [List.length_cons] at hl1
  refine Run.of rfl (Nat.le_of_ble_eq_true rfl) rfl ?_
  refine AW.aload_n dX2_endOne_0 rfl rfl ?_
  refine AW.bipush (v := 7) dX2_endOne_1 (by decide) rfl ?_
  refine AW.callV (Y := mX2_settle) (n := 1) (hst) (by decide) (by decide) rfl gM q1605 q1607 qs84 q141 q1608 dX2_endOne_3 (by decide +kernel) rfl rfl (Nat.le_of_ble_eq_true rfl) rfl ?_
  refine AW.aload_n dX2_endOne_6 rfl rfl ?_
  refine AW.iconst (v := 1) dX2_endOne_7 (by decide) rfl ?_
  refine AW.put ci2 18 (by decide) q1369 dX2_endOne_8 (by decide) gM rfl (fun _ => rfl) (fun _ => rfl) (Nat.le_of_ble_eq_true rfl) ps_s18 rfl ?_
  refine AW.hp (h2 := (hp (ps s L (gq X base C1 PA (41 :: Q1) o1 true)))) rfl ?_
  refine AW.aload_n dX2_endOne_11 rfl rfl ?_
  refine AW.get ci2 16 (by decide) q1367 dX2_endOne_12 gM rfl rfl ?_
  refine AW.if_eq (tgt := 34) dX2_endOne_15 (by decide) rfl (fun c_ => by first | exact absurd c_ (by show ¬ nI (Q1.length + 1) = 0; exact nI_nz (by omega) (by omega)) | exact absurd (by show ¬ nI (Q1.length + 1) = 0; exact nI_nz (by omega) (by omega)) c_ | exact Bool.noConfusion (c_.symm.trans (by show ¬ nI (Q1.length + 1) = 0; exact nI_nz (by omega) (by omega)))) (fun _ => ?_)
  refine AW.aload_n dX2_endOne_18 rfl rfl ?_
  refine AW.get ci2 15 (by decide) q1366 dX2_endOne_19 gM rfl rfl ?_
  refine AW.aload_n dX2_endOne_22 rfl rfl ?_
  refine AW.get ci2 16 (by decide) q1367 dX2_endOne_23 gM rfl rfl ?_
  refine AW.iconst (v := 1) dX2_endOne_26 (by decide) rfl ?_
  refine AW.isub dX2_endOne_27 rfl ?_
  refine AW.stT (x := .int (nI Q1.length)) (by show Value.int (nI (Q1.length + 1) - 1) = _; rw [nI_s1 (by omega)]; rfl) ?_
  refine AW.iald dX2_endOne_28 ps_g630 (in0 Q1.length (by omega) (by decide)) (j := Q1.length) (cI_nI (by omega)) rfl ?_
  refine AW.stT (x := .int (41)) (by show Value.int (PA Q1.length) = _; rw [hp1.1]) ?_
  refine AW.bipush (v := 41) dX2_endOne_29 (by decide) rfl ?_
  refine AW.icmp_eq (tgt := 36) dX2_endOne_31 (by decide) rfl (fun _ => ?_) (fun c_ => by first | exact absurd c_ rfl | exact absurd rfl c_ | exact absurd c_ (not_not_intro rfl) | exact Bool.noConfusion (c_.symm.trans rfl))
  refine AW.aload_n dX2_endOne_36 rfl rfl ?_
  refine AW.bipush (v := 111) dX2_endOne_37 (by decide) rfl ?_
  refine AW.bipush (v := 102) dX2_endOne_39 (by decide) rfl ?_
  refine AW.callS (Y := mX2_w2) (n := 2) (r_X2_w2 _ _) (by decide) (by decide) q1537 q1538 q141 q1539 dX2_endOne_41 (by decide +kernel) rfl rfl (Nat.le_of_ble_eq_true rfl) rfl ?_
  refine AW.callV (Y := mX2_isWord) (n := 1) (r_X2_isWord _) (by decide) (by decide) rfl gM q1540 q1542 qs70 q141 q1543 dX2_endOne_44 (by decide +kernel) rfl rfl (Nat.le_of_ble_eq_true rfl) rfl ?_
  refine AW.if_neB (tgt := 52) dX2_endOne_47 (by decide) rfl (fun _ => ?_) (fun c_ => by first | exact absurd c_ ho | exact absurd ho c_ | exact absurd c_ (not_not_intro ho) | exact Bool.noConfusion (c_.symm.trans ho))
  refine AW.aload_n dX2_endOne_52 rfl rfl ?_
  refine AW.callV (Y := mX2_nextToken) (n := 0) (r_X2_nextToken n hn h300 hby k0 hk0 hL) (by decide) (by decide) rfl gM q1501 q1503 qs66 q141 q1504 dX2_endOne_53 (by decide +kernel) rfl rfl (Nat.le_of_ble_eq_true rfl) rfl ?_
  refine AW.aload_n dX2_endOne_56 rfl rfl ?_
  refine AW.get ci2 15 (by decide) q1366 dX2_endOne_57 gM rfl rfl ?_
  refine AW.aload_n dX2_endOne_60 rfl rfl ?_
  refine AW.get ci2 16 (by decide) q1367 dX2_endOne_61 gM rfl rfl ?_
  refine AW.iconst (v := 1) dX2_endOne_64 (by decide) rfl ?_
  refine AW.isub dX2_endOne_65 rfl ?_
  refine AW.stT (x := .int (nI Q1.length)) (by show Value.int (nI (Q1.length + 1) - 1) = _; rw [nI_s1 (by omega)]; rfl) ?_
  refine AW.bipush (v := 7) dX2_endOne_66 (by decide) rfl ?_
  refine AW.iast dX2_endOne_68 (by decide) ps_g630 (in0 Q1.length (by omega) (by decide)) (j := Q1.length) (cI_nI (by omega)) ps_s630 rfl ?_
  refine AW.aload_n dX2_endOne_69 rfl rfl ?_
  refine AW.iconst (v := 0) dX2_endOne_70 (by decide) rfl ?_
  refine AW.put ci2 18 (by decide) q1369 dX2_endOne_71 (by decide) gM rfl (fun _ => rfl) (fun _ => rfl) (Nat.le_of_ble_eq_true rfl) ps_s18 rfl ?_
  refine AW.iconst (v := 0) dX2_endOne_74 (by decide) rfl ?_
  exact AW.iretE dX2_endOne_75 rfl rfl rfl rfl
