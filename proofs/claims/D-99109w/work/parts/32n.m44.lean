/-! MODEL 44: readText and text as wholes (printed by tools/m44.py) -/
set_option maxRecDepth 100000
def L0s (s : Sg) : Lq := (0, s.S 8, s.S 9, s.S 10, s.w)
/-- the reader's fuel, enough for any text -/
def TF : Nat := 400
theorem rs_id {s : Sg} : rs s (s.S 14) (s.S 19) (s.S 20) = s := by
  have e : up (up (up s.S 14 (s.S 14)) 19 (s.S 19)) 20 (s.S 20) = s.S := by
    funext j
    unfold up
    repeat' (split; rename_i h; rw [h])
    rfl
  show (s.A, up (up (up s.S 14 (s.S 14)) 19 (s.S 19)) 20 (s.S 20), s.2.2) = s
  rw [e]
  rfl
theorem ssA {s : Sg} {k : Nat} {x : Int32} {j : Nat} : (s.setS k x).A j = s.A j := rfl
theorem onc_nil : onc [] = 0 := rfl
theorem gd_0 {t : Nat → Int32} {n : Nat} {L0 : Lq} : gd t n L0 0 := fun j hj => absurd hj (Nat.not_lt_zero j)
theorem layC_at : ∀ {C : Cd} {X : Nat → Int32} {base k : Nat} {cd : Int32 × Int32}, C[k]? = some cd → layC X base C (base + 2 * k) = cd.1 ∧ layC X base C (base + 2 * k + 1) = cd.2
  | [], X, base, k, cd, h => by simp at h
  | c :: C, X, base, 0, cd, h => by
    cases h
    show layC _ (base + 2) C (base + 0) = _ ∧ layC _ (base + 2) C (base + 0 + 1) = _
    rw [layC_out (Or.inl (by omega)), layC_out (Or.inl (by omega))]
    exact ⟨(up_ne (by omega)).trans up_eq, up_eq⟩
  | c :: C, X, base, k + 1, cd, h => by
    have := layC_at (C := C) (X := up (up X base c.1) (base + 1) c.2) (base := base + 2) (k := k) (cd := cd) h
    show layC _ (base + 2) C (base + 2 * (k + 1)) = _ ∧ layC _ (base + 2) C (base + 2 * (k + 1) + 1) = _
    rw [show base + 2 * (k + 1) = base + 2 + 2 * k by omega]
    exact this
theorem TI.lay {X : Nat → Int32} {t : Nat} {cls : List Cl} {C : Cd} (h : TI X t cls) : TI (layC X (705 * t + 97) C) t cls := by
  have hl := h.2.1
  refine ⟨by rw [layC_out (Or.inl (by omega))]; exact h.1, hl, fun k cl hk => ?_⟩
  have hkl : k < cls.length := (List.getElem?_eq_some_iff.mp hk).1
  rw [layC_out (Or.inl (by omega)), layC_out (Or.inl (by omega)), layC_out (Or.inl (by omega)), layC_out (Or.inl (by omega))]
  exact h.2.2 k cl hk
theorem readText_f {s : Sg} {n t k16 : Nat} {w18 : Bool} (hn : s.S 4 = nI n) (h300 : n ≤ 300) (hby : ∀ k, k < n → 0 ≤ s.A 629 k) (ht4 : t < 4) (h1 : s.A 626 1 = nI t) (h16 : s.S 16 = nI k16) (h18 : s.S 18 = b2i w18) {r : Int32} {j : Nat} (h : rdT (byteF (s.A 629) n) (tkL (s.A 629) n (L0s s)) TF [] [] 0 = .inl (r, j)) (hr : ¬ r = 0) : ∃ X2 a2 b2 c2 C2 PA2 Q2 o2 w2, Run 12 mX2_readText [.ref 625] (hp s) (.inl (some (.int r))) (hp (ps (rs (s.setS 12 (nI (705 * t))) a2 b2 c2) (tkL (s.A 629) n (L0s s) j) (gq X2 (705 * t + 97) C2 PA2 Q2 o2 w2))) ∧ ∀ m, m < 705 * t → X2 m = s.A 628 m := by
  have hG : ((0, s.S 16, s.S 17, s.S 18, up (s.A 628) (705 * t) 0, s.A 630) : Gq) = gq (up (s.A 628) (705 * t) 0) (705 * t + 97) [] (s.A 630) (List.replicate k16 0) (s.S 17) w18 := by
    unfold gq
    rw [h16, h18, List.length_replicate]
    rfl
  have e : hp s = hp (ps (rs s (s.S 14) (s.S 19) (s.S 20)) (s.S 7, s.S 8, s.S 9, s.S 10, s.w) (s.S 13, s.S 16, s.S 17, s.S 18, s.A 628, s.A 630)) := by rw [rs_id, ps_id]
  have hl := rt_loopf (s := s.setS 12 (nI (705 * t))) (L0 := L0s s) ht4 rfl rfl hn h300 hby TF (s.S 14) (s.S 19) (up (s.A 628) (705 * t) 0) (s.A 630) [] (List.replicate k16 0) (s.S 17) w18 0 [] r j (TI.nil up_eq) gd_0 (Nat.le_refl _) h hr
  simp only [ssA] at hl
  rw [onc_nil, ← hG] at hl
  obtain ⟨X2, a2, b2, c2, C2, PA2, Q2, o2, w2, hw, hX⟩ := hl
  exact ⟨X2, a2, b2, c2, C2, PA2, Q2, o2, w2, Run.of rfl (Nat.le_of_ble_eq_true rfl) rfl (AW.hp e (rt_pre hn h300 hby ht4 h1 hw)), fun m hm => (hX m hm).trans (up_ne (by omega))⟩
theorem readText_t {s : Sg} {n t k16 : Nat} {w18 : Bool} (hn : s.S 4 = nI n) (h300 : n ≤ 300) (hby : ∀ k, k < n → 0 ≤ s.A 629 k) (ht4 : t < 4) (h1 : s.A 626 1 = nI t) (h16 : s.S 16 = nI k16) (h18 : s.S 18 = b2i w18) {cls : List Cl} {C : Cd} {j : Nat} (h : rdT (byteF (s.A 629) n) (tkL (s.A 629) n (L0s s)) TF [] [] 0 = .inr (cls, C, j)) : C.length ≤ n ∧ ∃ X2 a2 b2 c2 PA2 Q2 o2 w2, Run 12 mX2_readText [.ref 625] (hp s) (.inl (some (.int 0))) (hp (ps (rs (s.setS 12 (nI (705 * t))) a2 b2 c2) (tkL (s.A 629) n (L0s s) j) (gq X2 (705 * t + 97) C PA2 Q2 o2 w2))) ∧ TI X2 t cls ∧ ∀ m, m < 705 * t → X2 m = s.A 628 m := by
  have hG : ((0, s.S 16, s.S 17, s.S 18, up (s.A 628) (705 * t) 0, s.A 630) : Gq) = gq (up (s.A 628) (705 * t) 0) (705 * t + 97) [] (s.A 630) (List.replicate k16 0) (s.S 17) w18 := by
    unfold gq
    rw [h16, h18, List.length_replicate]
    rfl
  have e : hp s = hp (ps (rs s (s.S 14) (s.S 19) (s.S 20)) (s.S 7, s.S 8, s.S 9, s.S 10, s.w) (s.S 13, s.S 16, s.S 17, s.S 18, s.A 628, s.A 630)) := by rw [rs_id, ps_id]
  have hl := rt_loopt (s := s.setS 12 (nI (705 * t))) (L0 := L0s s) ht4 rfl rfl hn h300 hby TF (s.S 14) (s.S 19) (up (s.A 628) (705 * t) 0) (s.A 630) [] (List.replicate k16 0) (s.S 17) w18 0 [] cls C j (TI.nil up_eq) gd_0 (Nat.le_refl _) h
  simp only [ssA] at hl
  rw [onc_nil, ← hG] at hl
  obtain ⟨g1, g2, X2, a2, b2, PA2, Q2, o2, w2, hw, hT, hX⟩ := hl
  exact ⟨Nat.le_trans g2 (gd_le h300 g1), X2, a2, b2, _, PA2, Q2, o2, w2, Run.of rfl (Nat.le_of_ble_eq_true rfl) rfl (AW.hp e (rt_pre hn h300 hby ht4 h1 hw)), hT, fun m hm => (hX m hm).trans (up_ne (by omega))⟩
theorem text_n {s : Sg} (h1 : s.A 626 1 = 4) : Run 13 mX2_text [.ref 625] (hp s) (.inl (some (.int (-1)))) (hp s) := by
  refine Run.of rfl (Nat.le_of_ble_eq_true rfl) rfl ?_
  refine AW.aload_n dX2_text_0 rfl rfl ?_
  refine AW.get ci2 0 (by decide) q1351 dX2_text_1 gM rfl rfl ?_
  refine AW.iconst (v := 1) dX2_text_4 (by decide) rfl ?_
  refine AW.iald dX2_text_5 g626 (vp_in_iff.mpr (by decide)) (j := 1) (by decide) rfl ?_
  refine AW.iconst (v := 4) dX2_text_6 (by decide) rfl ?_
  refine AW.icmp_ne (tgt := 12) dX2_text_7 (by decide) rfl (fun c_ => by first | exact absurd c_ h1 | exact absurd h1 c_ | exact Bool.noConfusion (c_.symm.trans h1)) (fun _ => ?_)
  refine AW.iconst (v := (-1)) dX2_text_10 (by decide) rfl ?_
  exact AW.iretE dX2_text_11 rfl rfl rfl rfl
theorem text_f {s s2 : Sg} {r : Int32} (h1 : ¬ s.A 626 1 = 4) (hr : Run 12 mX2_readText [.ref 625] (hp s) (.inl (some (.int r))) (hp s2)) (hr0 : ¬ r = 0) : Run 13 mX2_text [.ref 625] (hp s) (.inl (some (.int (-1)))) (hp (((s2.setS 5 r).setS 6 (s2.S 8)).setS 4 0)) := by
  refine Run.of rfl (Nat.le_of_ble_eq_true rfl) rfl ?_
  refine AW.aload_n dX2_text_0 rfl rfl ?_
  refine AW.get ci2 0 (by decide) q1351 dX2_text_1 gM rfl rfl ?_
  refine AW.iconst (v := 1) dX2_text_4 (by decide) rfl ?_
  refine AW.iald dX2_text_5 g626 (vp_in_iff.mpr (by decide)) (j := 1) (by decide) rfl ?_
  refine AW.iconst (v := 4) dX2_text_6 (by decide) rfl ?_
  refine AW.icmp_ne (tgt := 12) dX2_text_7 (by decide) rfl (fun _ => ?_) (fun c_ => by first | exact absurd c_ h1 | exact absurd h1 c_ | exact absurd c_ (not_not_intro h1) | exact Bool.noConfusion (c_.symm.trans h1))
  refine AW.aload_n dX2_text_12 rfl rfl ?_
  refine AW.aload_n dX2_text_13 rfl rfl ?_
  refine AW.callV (Y := mX2_readText) (n := 0) (hr) (by decide) (by decide) rfl gM q1497 q1499 qs65 q141 q1500 dX2_text_14 (by decide +kernel) rfl rfl (Nat.le_of_ble_eq_true rfl) rfl ?_
  refine AW.put ci2 5 (by decide) q1356 dX2_text_17 (by decide) gM rfl (fun _ => rfl) (fun _ => rfl) (Nat.le_of_ble_eq_true rfl) sM5 rfl ?_
  refine AW.aload_n dX2_text_20 rfl rfl ?_
  refine AW.aload_n dX2_text_21 rfl rfl ?_
  refine AW.get ci2 5 (by decide) q1356 dX2_text_22 gM rfl rfl ?_
  refine AW.if_ne (tgt := 32) dX2_text_25 (by decide) rfl (fun _ => ?_) (fun c_ => by first | exact absurd c_ hr0 | exact absurd hr0 c_ | exact absurd c_ (not_not_intro hr0) | exact Bool.noConfusion (c_.symm.trans hr0))
  refine AW.aload_n dX2_text_32 rfl rfl ?_
  refine AW.get ci2 8 (by decide) q1359 dX2_text_33 gM rfl rfl ?_
  refine AW.put ci2 6 (by decide) q1357 dX2_text_36 (by decide) gM rfl (fun _ => rfl) (fun _ => rfl) (Nat.le_of_ble_eq_true rfl) sM6 rfl ?_
  refine AW.aload_n dX2_text_39 rfl rfl ?_
  refine AW.iconst (v := 0) dX2_text_40 (by decide) rfl ?_
  refine AW.put ci2 4 (by decide) q1355 dX2_text_41 (by decide) gM rfl (fun _ => rfl) (fun _ => rfl) (Nat.le_of_ble_eq_true rfl) sM4 rfl ?_
  refine AW.aload_n dX2_text_44 rfl rfl ?_
  refine AW.get ci2 5 (by decide) q1356 dX2_text_45 gM rfl rfl ?_
  refine AW.if_eq (tgt := 53) dX2_text_48 (by decide) rfl (fun c_ => by first | exact absurd c_ hr0 | exact absurd hr0 c_ | exact Bool.noConfusion (c_.symm.trans hr0)) (fun _ => ?_)
  refine AW.iconst (v := (-1)) dX2_text_51 (by decide) rfl ?_
  exact AW.iretE dX2_text_52 rfl rfl rfl rfl
theorem text_t {s s2 : Sg} (h1 : ¬ s.A 626 1 = 4) (hr : Run 12 mX2_readText [.ref 625] (hp s) (.inl (some (.int 0))) (hp s2)) {t : Nat} (h2 : s2.A 626 1 = nI t) : Run 13 mX2_text [.ref 625] (hp s) (.inl (some (.int (nI t)))) (hp ((((s2.setS 5 0).setS 6 (-1)).setS 4 0).setA 626 (up (s2.A 626) 1 (nI (t + 1))))) := by
  refine Run.of rfl (Nat.le_of_ble_eq_true rfl) rfl ?_
  refine AW.aload_n dX2_text_0 rfl rfl ?_
  refine AW.get ci2 0 (by decide) q1351 dX2_text_1 gM rfl rfl ?_
  refine AW.iconst (v := 1) dX2_text_4 (by decide) rfl ?_
  refine AW.iald dX2_text_5 g626 (vp_in_iff.mpr (by decide)) (j := 1) (by decide) rfl ?_
  refine AW.iconst (v := 4) dX2_text_6 (by decide) rfl ?_
  refine AW.icmp_ne (tgt := 12) dX2_text_7 (by decide) rfl (fun _ => ?_) (fun c_ => by first | exact absurd c_ h1 | exact absurd h1 c_ | exact absurd c_ (not_not_intro h1) | exact Bool.noConfusion (c_.symm.trans h1))
  refine AW.aload_n dX2_text_12 rfl rfl ?_
  refine AW.aload_n dX2_text_13 rfl rfl ?_
  refine AW.callV (Y := mX2_readText) (n := 0) (hr) (by decide) (by decide) rfl gM q1497 q1499 qs65 q141 q1500 dX2_text_14 (by decide +kernel) rfl rfl (Nat.le_of_ble_eq_true rfl) rfl ?_
  refine AW.put ci2 5 (by decide) q1356 dX2_text_17 (by decide) gM rfl (fun _ => rfl) (fun _ => rfl) (Nat.le_of_ble_eq_true rfl) sM5 rfl ?_
  refine AW.aload_n dX2_text_20 rfl rfl ?_
  refine AW.aload_n dX2_text_21 rfl rfl ?_
  refine AW.get ci2 5 (by decide) q1356 dX2_text_22 gM rfl rfl ?_
  refine AW.if_ne (tgt := 32) dX2_text_25 (by decide) rfl (fun c_ => by first | exact absurd c_ rfl | exact absurd rfl c_ | exact Bool.noConfusion (c_.symm.trans rfl)) (fun _ => ?_)
  refine AW.iconst (v := (-1)) dX2_text_28 (by decide) rfl ?_
  refine AW.goto (tgt := 36) dX2_text_29 (by decide) ?_
  refine AW.put ci2 6 (by decide) q1357 dX2_text_36 (by decide) gM rfl (fun _ => rfl) (fun _ => rfl) (Nat.le_of_ble_eq_true rfl) sM6 rfl ?_
  refine AW.aload_n dX2_text_39 rfl rfl ?_
  refine AW.iconst (v := 0) dX2_text_40 (by decide) rfl ?_
  refine AW.put ci2 4 (by decide) q1355 dX2_text_41 (by decide) gM rfl (fun _ => rfl) (fun _ => rfl) (Nat.le_of_ble_eq_true rfl) sM4 rfl ?_
  refine AW.aload_n dX2_text_44 rfl rfl ?_
  refine AW.get ci2 5 (by decide) q1356 dX2_text_45 gM rfl rfl ?_
  refine AW.if_eq (tgt := 53) dX2_text_48 (by decide) rfl (fun _ => ?_) (fun c_ => by first | exact absurd c_ rfl | exact absurd rfl c_ | exact absurd c_ (not_not_intro rfl) | exact Bool.noConfusion (c_.symm.trans rfl))
  refine AW.aload_n dX2_text_53 rfl rfl ?_
  refine AW.get ci2 0 (by decide) q1351 dX2_text_54 gM rfl rfl ?_
  refine AW.iconst (v := 1) dX2_text_57 (by decide) rfl ?_
  refine AW.dup2 dX2_text_58 rfl rfl rfl ?_
  refine AW.iald dX2_text_59 g626 (vp_in_iff.mpr (by decide)) (j := 1) (by decide) rfl ?_
  refine AW.stT (x := .int (nI t)) (by show Value.int (s2.A 626 1) = _; rw [h2]) ?_
  refine AW.iconst (v := 1) dX2_text_60 (by decide) rfl ?_
  refine AW.iadd dX2_text_61 rfl ?_
  refine AW.stT (x := .int (nI (t + 1))) (by rw [nI_succ]) ?_
  refine AW.iast dX2_text_62 (by decide) g626 (vp_in_iff.mpr (by decide)) (j := 1) (by decide) s626 rfl ?_
  refine AW.aload_n dX2_text_63 rfl rfl ?_
  refine AW.get ci2 0 (by decide) q1351 dX2_text_64 gM rfl rfl ?_
  refine AW.iconst (v := 1) dX2_text_67 (by decide) rfl ?_
  refine AW.iald dX2_text_68 g626 (vp_in_iff.mpr (by decide)) (j := 1) (by decide) rfl ?_
  refine AW.stT (x := .int (nI (t + 1))) (by show Value.int (up (s2.A 626) 1 (nI (t + 1)) 1) = _; rw [up_eq]) ?_
  refine AW.iconst (v := 1) dX2_text_69 (by decide) rfl ?_
  refine AW.isub dX2_text_70 rfl ?_
  refine AW.stT (x := .int (nI t)) (by rw [nI_s1 (by omega)]; rfl) ?_
  exact AW.iretE dX2_text_71 rfl rfl rfl rfl
/-- what text leaves -/
def TxQ (s : Sg) (t : Nat) (ok : Bool) (r pl : Int32) (cls : List Cl) (C : Cd) : AH → Prop := fun h' => ∃ s' : Sg, h' = hp s' ∧ (∀ k, k ≠ 626 → k ≠ 628 → k ≠ 630 → s'.A k = s.A k) ∧ s'.A 626 = (if ok = true then up (s.A 626) 1 (nI (t + 1)) else s.A 626) ∧ (∀ m, m < 705 * t → s'.A 628 m = s.A 628 m) ∧ (ok = true → TI (s'.A 628) t cls ∧ C.length ≤ 300 ∧ ∀ k cd, C[k]? = some cd → s'.A 628 (705 * t + 97 + 2 * k) = cd.1 ∧ s'.A 628 (705 * t + 97 + 2 * k + 1) = cd.2) ∧ s'.V = s.V ∧ s'.T = s.T ∧ s'.b = s.b ∧ (∀ k, (k < 4 ∨ 20 < k) → s'.S k = s.S k) ∧ s'.S 4 = 0 ∧ s'.S 5 = r ∧ s'.S 6 = pl ∧ (∃ k, s'.S 16 = nI k) ∧ ∃ w, s'.S 18 = b2i w
theorem r_X2_text_n {s : Sg} (h1 : s.A 626 1 = 4) : Run 13 mX2_text [.ref 625] (hp s) (.inl (some (.int (-1)))) (hp s) := text_n h1
theorem ne4 {t : Nat} (h : t < 4) : ¬ nI t = 4 := fun z => by
  have h1 := nI_t (k := t) (by omega)
  rw [z] at h1
  have h2 : (4 : Int32).toInt = 4 := rfl
  omega
theorem tx_f {s s2 : Sg} {t : Nat} {r pl : Int32} (hA : ∀ k, k ≠ 628 → k ≠ 630 → s2.A k = s.A k) (hX : ∀ m, m < 705 * t → s2.A 628 m = s.A 628 m) (hS : ∀ k, (k < 4 ∨ 20 < k) → s2.S k = s.S k) (hV : s2.V = s.V) (hT : s2.T = s.T) (hb : s2.b = s.b) (h8 : s2.S 8 = pl) (h16 : ∃ k, s2.S 16 = nI k) (h18 : ∃ w, s2.S 18 = b2i w) : TxQ s t false r pl [] [] (hp (((s2.setS 5 r).setS 6 (s2.S 8)).setS 4 0)) := by
  refine ⟨_, rfl, fun k h1 h2 h3 => hA k h2 h3, hA 626 (by decide) (by decide), hX, fun z => absurd z (by decide), hV, hT, hb, fun k hk => ?_, rfl, rfl, h8, h16, h18⟩
  show up (up (up s2.S 5 _) 6 _) 4 _ k = _
  rw [up_ne (by omega), up_ne (by omega), up_ne (by omega)]
  exact hS k hk
theorem tx_t {s s2 : Sg} {t : Nat} {cls : List Cl} {C : Cd} (hA : ∀ k, k ≠ 628 → k ≠ 630 → s2.A k = s.A k) (hX : ∀ m, m < 705 * t → s2.A 628 m = s.A 628 m) (hTI : TI (s2.A 628) t cls) (hC : C.length ≤ 300) (hcd : ∀ k cd, C[k]? = some cd → s2.A 628 (705 * t + 97 + 2 * k) = cd.1 ∧ s2.A 628 (705 * t + 97 + 2 * k + 1) = cd.2) (hS : ∀ k, (k < 4 ∨ 20 < k) → s2.S k = s.S k) (hV : s2.V = s.V) (hT : s2.T = s.T) (hb : s2.b = s.b) (h16 : ∃ k, s2.S 16 = nI k) (h18 : ∃ w, s2.S 18 = b2i w) : TxQ s t true 0 (-1) cls C (hp ((((s2.setS 5 0).setS 6 (-1)).setS 4 0).setA 626 (up (s2.A 626) 1 (nI (t + 1))))) := by
  refine ⟨_, rfl, fun k h1 h2 h3 => (up_ne h1).trans (hA k h2 h3), ?_, hX, fun _ => ⟨hTI, hC, hcd⟩, hV, hT, hb, fun k hk => ?_, rfl, rfl, rfl, h16, h18⟩
  · show up s2.A 626 _ 626 = _
    rw [up_eq, hA 626 (by decide) (by decide)]
    rfl
  · show up (up (up s2.S 5 _) 6 _) 4 _ k = _
    rw [up_ne (by omega), up_ne (by omega), up_ne (by omega)]
    exact hS k hk
theorem psf_8 {s : Sg} {L : Lq} {G : Gq} : (ps s L G).S 8 = L.2.1 := rfl
theorem psf_16 {s : Sg} {L : Lq} {X PA : Nat → Int32} {base : Nat} {C : Cd} {Q : List Int32} {o : Int32} {w : Bool} : (ps s L (gq X base C PA Q o w)).S 16 = nI Q.length := rfl
theorem psf_18 {s : Sg} {L : Lq} {X PA : Nat → Int32} {base : Nat} {C : Cd} {Q : List Int32} {o : Int32} {w : Bool} : (ps s L (gq X base C PA Q o w)).S 18 = b2i w := rfl
theorem psf_628 {s : Sg} {L : Lq} {X PA : Nat → Int32} {base : Nat} {C : Cd} {Q : List Int32} {o : Int32} {w : Bool} : (ps s L (gq X base C PA Q o w)).A 628 = layC X base C := rfl
theorem psf_V {s : Sg} {x a b c : Int32} {L : Lq} {G : Gq} : (ps (rs (s.setS 12 x) a b c) L G).V = s.V ∧ (ps (rs (s.setS 12 x) a b c) L G).T = s.T ∧ (ps (rs (s.setS 12 x) a b c) L G).b = s.b ∧ (ps (rs (s.setS 12 x) a b c) L G).A 626 = s.A 626 := ⟨rfl, rfl, rfl, rfl⟩
theorem psf_A {s : Sg} {x a b c : Int32} {L : Lq} {G : Gq} {k : Nat} (h : k ≠ 628) (h2 : k ≠ 630) : (ps (rs (s.setS 12 x) a b c) L G).A k = s.A k := ps_A h h2
theorem psf_S {s : Sg} {x a b c : Int32} {L : Lq} {G : Gq} {k : Nat} (hk : k < 4 ∨ 20 < k) : (ps (rs (s.setS 12 x) a b c) L G).S k = s.S k := by
  unfold ps rs Sg.setS Sg.S up
  dsimp only
  rw [if_neg (by omega), if_neg (by omega), if_neg (by omega), if_neg (by omega), if_neg (by omega), if_neg (by omega), if_neg (by omega), if_neg (by omega), if_neg (by omega), if_neg (by omega), if_neg (by omega), if_neg (by omega)]
theorem r_X2_text_f {s : Sg} {n t k16 : Nat} {w18 : Bool} (hn : s.S 4 = nI n) (h300 : n ≤ 300) (hby : ∀ k, k < n → 0 ≤ s.A 629 k) (ht4 : t < 4) (h1 : s.A 626 1 = nI t) (h16 : s.S 16 = nI k16) (h18 : s.S 18 = b2i w18) {r : Int32} {j : Nat} (h : rdT (byteF (s.A 629) n) (tkL (s.A 629) n (L0s s)) TF [] [] 0 = .inl (r, j)) (hr : ¬ r = 0) : RX (TxQ s t false r (tkL (s.A 629) n (L0s s) j).2.1 [] []) 13 mX2_text [.ref 625] (hp s) (some (.int (-1))) := by
  obtain ⟨X2, a2, b2, c2, C2, PA2, Q2, o2, w2, hw, hX⟩ := readText_f hn h300 hby ht4 h1 h16 h18 h hr
  exact ⟨_, tx_f (s2 := ps (rs (s.setS 12 (nI (705 * t))) a2 b2 c2) (tkL (s.A 629) n (L0s s) j) (gq X2 (705 * t + 97) C2 PA2 Q2 o2 w2)) (fun k h2 h3 => psf_A h2 h3) (fun m hm => by rw [psf_628, layC_out (Or.inl (by omega))]; exact hX m hm) (fun k hk => psf_S hk) psf_V.1 psf_V.2.1 psf_V.2.2.1 psf_8 ⟨_, psf_16⟩ ⟨_, psf_18⟩, text_f (by rw [h1]; exact ne4 ht4) hw hr⟩
theorem r_X2_text_t {s : Sg} {n t k16 : Nat} {w18 : Bool} (hn : s.S 4 = nI n) (h300 : n ≤ 300) (hby : ∀ k, k < n → 0 ≤ s.A 629 k) (ht4 : t < 4) (h1 : s.A 626 1 = nI t) (h16 : s.S 16 = nI k16) (h18 : s.S 18 = b2i w18) {cls : List Cl} {C : Cd} {j : Nat} (h : rdT (byteF (s.A 629) n) (tkL (s.A 629) n (L0s s)) TF [] [] 0 = .inr (cls, C, j)) : RX (TxQ s t true 0 (-1) cls C) 13 mX2_text [.ref 625] (hp s) (some (.int (nI t))) := by
  obtain ⟨g1, X2, a2, b2, c2, PA2, Q2, o2, w2, hw, hT, hX⟩ := readText_t hn h300 hby ht4 h1 h16 h18 h
  exact ⟨_, tx_t (s2 := ps (rs (s.setS 12 (nI (705 * t))) a2 b2 c2) (tkL (s.A 629) n (L0s s) j) (gq X2 (705 * t + 97) C PA2 Q2 o2 w2)) (fun k h2 h3 => psf_A h2 h3) (fun m hm => by rw [psf_628, layC_out (Or.inl (by omega))]; exact hX m hm) (by rw [psf_628]; exact hT.lay) (by omega) (fun k cd hk => by rw [psf_628]; exact layC_at hk) (fun k hk => psf_S hk) psf_V.1 psf_V.2.1 psf_V.2.2.1 ⟨_, psf_16⟩ ⟨_, psf_18⟩, text_t (by rw [h1]; exact ne4 ht4) hw (t := t) (psf_V.2.2.2.symm ▸ h1)⟩
