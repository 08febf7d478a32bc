/-! MODEL 30: what waits (printed by tools/m30.py) -/
set_option maxRecDepth 100000
theorem r_X2_emit {s : Sg} {L : Lq} {X PA : Nat → Int32} {base : Nat} {C : Cd} {Q : List Int32} {o : Int32} {w : Bool} (hb : s.S 12 + 97 = nI base) (hb2 : base + 608 ≤ 2820) (hc : C.length < 304) (a b : Int32) : Run 1 mX2_emit [.ref 625, .int a, .int b] (hp (ps s L (gq X base C PA Q o w))) (.inl none) (hp (ps s L (gq X base (C ++ [(a, b)]) PA Q o w))) := by
  refine Run.of rfl (Nat.le_of_ble_eq_true rfl) rfl ?_
  refine AW.aload_n dX2_emit_0 rfl rfl ?_
  refine AW.get ci2 2 (by decide) q1353 dX2_emit_1 gM rfl rfl ?_
  refine AW.aload_n dX2_emit_4 rfl rfl ?_
  refine AW.get ci2 12 (by decide) q1363 dX2_emit_5 gM rfl rfl ?_
  refine AW.bipush (v := 97) dX2_emit_8 (by decide) rfl ?_
  refine AW.iadd dX2_emit_10 rfl ?_
  refine AW.iconst (v := 2) dX2_emit_11 (by decide) rfl ?_
  refine AW.aload_n dX2_emit_12 rfl rfl ?_
  refine AW.get ci2 13 (by decide) q1364 dX2_emit_13 gM rfl rfl ?_
  refine AW.imul dX2_emit_16 rfl ?_
  refine AW.iadd dX2_emit_17 rfl ?_
  refine AW.stT (x := .int (nI (base + 2 * C.length))) (by show Value.int (s.S 12 + 97 + 2 * nI C.length) = _; rw [(show s.S 12 + 97 + 2 * nI C.length = nI (base + 2 * C.length) by rw [hb, show (2 : Int32) = nI 2 from rfl, nI_mul, nI_add])]) ?_
  refine AW.iload_n dX2_emit_18 rfl rfl ?_
  refine AW.iast dX2_emit_19 (by decide) ps_g628 (in0 _ (by omega) (by decide)) (j := base + 2 * C.length) (cI_nI (by omega)) ps_s628 rfl ?_
  refine AW.aload_n dX2_emit_20 rfl rfl ?_
  refine AW.get ci2 2 (by decide) q1353 dX2_emit_21 gM rfl rfl ?_
  refine AW.aload_n dX2_emit_24 rfl rfl ?_
  refine AW.get ci2 12 (by decide) q1363 dX2_emit_25 gM rfl rfl ?_
  refine AW.bipush (v := 97) dX2_emit_28 (by decide) rfl ?_
  refine AW.iadd dX2_emit_30 rfl ?_
  refine AW.iconst (v := 2) dX2_emit_31 (by decide) rfl ?_
  refine AW.aload_n dX2_emit_32 rfl rfl ?_
  refine AW.get ci2 13 (by decide) q1364 dX2_emit_33 gM rfl rfl ?_
  refine AW.imul dX2_emit_36 rfl ?_
  refine AW.iadd dX2_emit_37 rfl ?_
  refine AW.iconst (v := 1) dX2_emit_38 (by decide) rfl ?_
  refine AW.iadd dX2_emit_39 rfl ?_
  refine AW.stT (x := .int (nI (base + 2 * C.length + 1))) (by show Value.int (s.S 12 + 97 + 2 * nI C.length + 1) = _; rw [(show s.S 12 + 97 + 2 * nI C.length + 1 = nI (base + 2 * C.length + 1) by rw [hb, show (2 : Int32) = nI 2 from rfl, nI_mul, nI_add, nI_succ])]) ?_
  refine AW.iload_n dX2_emit_40 rfl rfl ?_
  refine AW.iast dX2_emit_41 (by decide) ps_g628 (in0 _ (by omega) (by decide)) (j := base + 2 * C.length + 1) (cI_nI (by omega)) ps_s628 rfl ?_
  refine AW.aload_n dX2_emit_42 rfl rfl ?_
  refine AW.dup dX2_emit_43 rfl rfl ?_
  refine AW.get ci2 13 (by decide) q1364 dX2_emit_44 gM rfl rfl ?_
  refine AW.iconst (v := 1) dX2_emit_47 (by decide) rfl ?_
  refine AW.iadd dX2_emit_48 rfl ?_
  refine AW.put ci2 13 (by decide) q1364 dX2_emit_49 (by decide) gM rfl (fun _ => rfl) (fun _ => rfl) (Nat.le_of_ble_eq_true rfl) ps_s13 rfl ?_
  exact AW.vretE dX2_emit_52 rfl rfl (by show hp (ps s L (nI C.length + 1, nI Q.length, o, b2i w, up (up (layC X base C) (base + 2 * C.length) a) (base + 2 * C.length + 1) b, PA)) = _; rw [layC_app]; unfold gq; rw [List.length_append, ← nI_succ]; rfl)
theorem shut_cons {q : Int32} {Q : List Int32} : shutL (q :: Q) = (decide (q = 40) || shutL Q) := rfl
/-- the places of the pile from the lowest on -/
theorem pile_at {P : Nat → Int32} : ∀ {Q : List Int32}, pileR P Q → shutL Q = !(allUp (fun k => !decide (P k = 40)) Q.length)
  | [], _ => rfl
  | q :: Q, h => by
    rw [shut_cons, pile_at h.2]
    show _ = !(allUp _ Q.length && !decide (P Q.length = 40))
    rw [h.1]
    cases decide (q = 40) <;> cases allUp (fun k => !decide (P k = 40)) Q.length <;> rfl
theorem r_X2_isShut {s : Sg} {L : Lq} {X PA : Nat → Int32} {base : Nat} {C : Cd} {Q : List Int32} {o : Int32} {w : Bool} (hq : pileR PA Q) (hql : Q.length ≤ 160) : Run 1 mX2_isShut [.ref 625] (hp (ps s L (gq X base C PA Q o w))) (.inl (some (.int (b2i (shutL Q))))) (hp (ps s L (gq X base C PA Q o w))) := by
  rw [pile_at hq]
  refine Run.of rfl (Nat.le_of_ble_eq_true rfl) rfl ?_
  refine AW.iconst (v := 0) dX2_isShut_0 (by decide) rfl ?_
  refine AW.istore_n (i := 1) dX2_isShut_1 rfl rfl (Nat.le_of_ble_eq_true rfl) rfl rfl ?_
  refine loopUp (P := fun k => allUp (fun k => !decide (PA k = 40)) k = true → AW 1 mX2_isShut (hp (ps s L (gq X base C PA Q o w))) 2 [some (.ref 625), some (.int (nI k))] [] (.inl (some (.int (b2i (!(allUp (fun k => !decide (PA k = 40)) Q.length)))))) (hp (ps s L (gq X base C PA Q o w)))) Q.length ?_ ?_ 0 (by first | exact Nat.zero_le _ | omega) rfl
  · intro hr
    refine AW.iload_n dX2_isShut_2 rfl rfl ?_
    refine AW.aload_n dX2_isShut_3 rfl rfl ?_
    refine AW.get ci2 16 (by decide) q1367 dX2_isShut_4 gM rfl rfl ?_
    refine AW.icmp_ge (tgt := 29) dX2_isShut_7 (by decide) rfl (fun _ => ?_) (fun c_ => by first | exact absurd c_ (Int32.le_refl _) | exact absurd (Int32.le_refl _) c_ | exact absurd c_ (not_not_intro (Int32.le_refl _)) | exact Bool.noConfusion (c_.symm.trans (Int32.le_refl _)))
    refine AW.iconst (v := 0) dX2_isShut_29 (by decide) rfl ?_
    exact AW.bretE dX2_isShut_30 rfl rfl (by rw [hr]; rfl) rfl
  · intro k hk ihk
    intro hr
    refine AW.iload_n dX2_isShut_2 rfl rfl ?_
    refine AW.aload_n dX2_isShut_3 rfl rfl ?_
    refine AW.get ci2 16 (by decide) q1367 dX2_isShut_4 gM rfl rfl ?_
    refine AW.icmp_ge (tgt := 29) dX2_isShut_7 (by decide) rfl (fun c_ => by first | exact absurd c_ (by show ¬ nI Q.length ≤ nI k; rw [Int32.le_iff_toInt_le, nI_t (by omega), nI_t (by omega)]; omega) | exact absurd (by show ¬ nI Q.length ≤ nI k; rw [Int32.le_iff_toInt_le, nI_t (by omega), nI_t (by omega)]; omega) c_ | exact Bool.noConfusion (c_.symm.trans (by show ¬ nI Q.length ≤ nI k; rw [Int32.le_iff_toInt_le, nI_t (by omega), nI_t (by omega)]; omega))) (fun _ => ?_)
    refine AW.aload_n dX2_isShut_10 rfl rfl ?_
    refine AW.get ci2 15 (by decide) q1366 dX2_isShut_11 gM rfl rfl ?_
    refine AW.iload_n dX2_isShut_14 rfl rfl ?_
    refine AW.iald dX2_isShut_15 ps_g630 (in0 k (by omega) (by decide)) (j := k) (cI_nI (by omega)) rfl ?_
    refine AW.bipush (v := 40) dX2_isShut_16 (by decide) rfl ?_
    refine AW.icmp_ne (tgt := 23) dX2_isShut_18 (by decide) rfl (fun c18 => ?_) (fun c18 => ?_)
    · refine AW.iinc (v := 1) dX2_isShut_23 rfl (by decide) rfl rfl rfl ?_
      refine AW.goto (tgt := 2) dX2_isShut_26 (by decide) ?_
      exact AW.ls (by rw [nI_succ k]; rfl) (ihk (by show (allUp (fun k => !decide (PA k = 40)) k && !decide (PA k = 40)) = true; rw [hr, decide_eq_false (show ¬ PA k = 40 from c18)]; rfl))
    · refine AW.iconst (v := 1) dX2_isShut_21 (by decide) rfl ?_
      exact AW.bretE dX2_isShut_22 rfl rfl (by rw [allUp_false hk (show (!decide (PA k = 40)) = false by rw [decide_eq_true (show PA k = 40 from c18)]; rfl)]; rfl) rfl
