/-! MODEL 43: readText (printed by tools/m43.py) -/
set_option maxRecDepth 100000
theorem ps_s12 {s : Sg} {a b c x : Int32} {L : Lq} {G : Gq} : (hp (ps (rs s a b c) L G)).set 625 (.inr (2, (mfl (ps (rs s a b c) L G)).set 12 (.int x))) = hp (ps (rs (s.setS 12 x) a b c) L G) := by
  rw [sM12]
  have e : up (ps (rs s a b c) L G).S 12 x = (ps (rs (s.setS 12 x) a b c) L G).S := by
    funext j
    by_cases h : j = 12
    · rw [h, up_eq]; rfl
    · rw [up_ne h]
      unfold ps rs Sg.setS Sg.S up
      dsimp only
      simp only [h, if_false]
  show hp ((ps (rs s a b c) L G).A, up (ps (rs s a b c) L G).S 12 x, (ps (rs s a b c) L G).2.2) = _
  rw [e]
  rfl
theorem rt_end {s : Sg} {a b c : Int32} {X PA : Nat → Int32} {base : Nat} {C : Cd} {Q : List Int32} {o : Int32} {w : Bool} {n : Nat} {L0 : Lq} {i : Nat} (h0 : (tkL (s.A 629) n L0 i).2.2.1 = 0) : AW 12 mX2_readText (hp (ps (rs s a b c) (tkL (s.A 629) n L0 i) (gq X base C PA Q o w))) 43 [some (.ref 625), none] [] (.inl (some (.int 0))) (hp (ps (rs s a b c) (tkL (s.A 629) n L0 i) (gq X base C PA Q o w))) := by
  refine AW.aload_n dX2_readText_43 rfl rfl ?_
  refine AW.get ci2 9 (by decide) q1360 dX2_readText_44 gM rfl rfl ?_
  refine AW.if_eq (tgt := 64) dX2_readText_47 (by decide) rfl (fun _ => ?_) (fun c_ => by first | exact absurd c_ h0 | exact absurd h0 c_ | exact absurd c_ (not_not_intro h0) | exact Bool.noConfusion (c_.symm.trans h0))
  refine AW.iconst (v := 0) dX2_readText_64 (by decide) rfl ?_
  exact AW.iretE dX2_readText_65 rfl rfl rfl rfl
theorem rt_f {s : Sg} {a b c : Int32} {X PA : Nat → Int32} {base : Nat} {C : Cd} {Q : List Int32} {o : Int32} {w : Bool} {n : Nat} {L0 : Lq} {i : Nat} {r : Int32} {h2 : AH} (h0 : ¬ (tkL (s.A 629) n L0 i).2.2.1 = 0) (hr : Run 11 mX2_clause [.ref 625] (hp (ps (rs s a b c) (tkL (s.A 629) n L0 i) (gq X base C PA Q o w))) (.inl (some (.int r))) h2) (hr0 : ¬ r = 0) : AW 12 mX2_readText (hp (ps (rs s a b c) (tkL (s.A 629) n L0 i) (gq X base C PA Q o w))) 43 [some (.ref 625), none] [] (.inl (some (.int r))) h2 := by
  refine AW.aload_n dX2_readText_43 rfl rfl ?_
  refine AW.get ci2 9 (by decide) q1360 dX2_readText_44 gM rfl rfl ?_
  refine AW.if_eq (tgt := 64) dX2_readText_47 (by decide) rfl (fun c_ => by first | exact absurd c_ h0 | exact absurd h0 c_ | exact Bool.noConfusion (c_.symm.trans h0)) (fun _ => ?_)
  refine AW.aload_n dX2_readText_50 rfl rfl ?_
  refine AW.callV (Y := mX2_clause) (n := 0) (hr) (by decide) (by decide) rfl gM q1520 q1522 qs68 q141 q1523 dX2_readText_51 (by decide +kernel) rfl rfl (Nat.le_of_ble_eq_true rfl) rfl ?_
  refine AW.istore_n (i := 1) dX2_readText_54 rfl rfl (Nat.le_of_ble_eq_true rfl) rfl rfl ?_
  refine AW.iload_n dX2_readText_55 rfl rfl ?_
  refine AW.if_eq (tgt := 61) dX2_readText_56 (by decide) rfl (fun c_ => by first | exact absurd c_ hr0 | exact absurd hr0 c_ | exact Bool.noConfusion (c_.symm.trans hr0)) (fun _ => ?_)
  refine AW.iload_n dX2_readText_59 rfl rfl ?_
  exact AW.iretE dX2_readText_60 rfl rfl rfl rfl
theorem rt_c {s : Sg} {a b c : Int32} {X PA : Nat → Int32} {base : Nat} {C : Cd} {Q : List Int32} {o : Int32} {w : Bool} {n : Nat} {L0 : Lq} {i : Nat} {oo : OR} {h2 hh : AH} (h0 : ¬ (tkL (s.A 629) n L0 i).2.2.1 = 0) (hr : Run 11 mX2_clause [.ref 625] (hp (ps (rs s a b c) (tkL (s.A 629) n L0 i) (gq X base C PA Q o w))) (.inl (some (.int 0))) h2) (k : AW 12 mX2_readText h2 43 [some (.ref 625), none] [] oo hh) : AW 12 mX2_readText (hp (ps (rs s a b c) (tkL (s.A 629) n L0 i) (gq X base C PA Q o w))) 43 [some (.ref 625), none] [] oo hh := by
  refine AW.aload_n dX2_readText_43 rfl rfl ?_
  refine AW.get ci2 9 (by decide) q1360 dX2_readText_44 gM rfl rfl ?_
  refine AW.if_eq (tgt := 64) dX2_readText_47 (by decide) rfl (fun c_ => by first | exact absurd c_ h0 | exact absurd h0 c_ | exact Bool.noConfusion (c_.symm.trans h0)) (fun _ => ?_)
  refine AW.aload_n dX2_readText_50 rfl rfl ?_
  refine AW.callV (Y := mX2_clause) (n := 0) (hr) (by decide) (by decide) rfl gM q1520 q1522 qs68 q141 q1523 dX2_readText_51 (by decide +kernel) rfl rfl (Nat.le_of_ble_eq_true rfl) rfl ?_
  refine AW.istore_n (i := 1) dX2_readText_54 rfl rfl (Nat.le_of_ble_eq_true rfl) rfl rfl ?_
  refine AW.iload_n dX2_readText_55 rfl rfl ?_
  refine AW.if_eq (tgt := 61) dX2_readText_56 (by decide) rfl (fun _ => ?_) (fun c_ => by first | exact absurd c_ rfl | exact absurd rfl c_ | exact absurd c_ (not_not_intro rfl) | exact Bool.noConfusion (c_.symm.trans rfl))
  refine AW.goto (tgt := 43) dX2_readText_61 (by decide) ?_
  exact AW.fg 1 rfl k
theorem rt_pre {s : Sg} {a b c : Int32} {L : Lq} {G : Gq} {n t : Nat} {oo : OR} {hh : AH} (hn : s.S 4 = nI n) (h300 : n ≤ 300) (hby : ∀ k, k < n → 0 ≤ s.A 629 k) (ht4 : t < 4) (h1 : s.A 626 1 = nI t) (k : AW 12 mX2_readText (hp (ps (rs (s.setS 12 (nI (705 * t))) a b 0) (lexL (s.A 629) n 0 (0, L.2.1, L.2.2.1, L.2.2.2.1, L.2.2.2.2)) (0, G.2.1, G.2.2.1, G.2.2.2.1, up G.2.2.2.2.1 (705 * t) 0, G.2.2.2.2.2))) 43 [some (.ref 625), none] [] oo hh) : AW 12 mX2_readText (hp (ps (rs s a b c) L G)) 0 [some (.ref 625), none] [] oo hh := by
  have hnx := r_X2_nextToken (s := (rs (s.setS 12 (nI (705 * t))) a b 0)) (L := (0, L.2.1, L.2.2.1, L.2.2.2.1, L.2.2.2.2)) (G := (0, G.2.1, G.2.2.1, G.2.2.2.1, up G.2.2.2.2.1 (705 * t) 0, G.2.2.2.2.2)) n hn h300 hby 0 (Nat.zero_le _) rfl
  rw [show (rs (s.setS 12 (nI (705 * t))) a b 0).A 629 = s.A 629 from rfl] at hnx
  refine AW.aload_n dX2_readText_0 rfl rfl ?_
  refine AW.sipush (v := 705) dX2_readText_1 (by decide) rfl ?_
  refine AW.aload_n dX2_readText_4 rfl rfl ?_
  refine AW.get ci2 0 (by decide) q1351 dX2_readText_5 gM rfl rfl ?_
  refine AW.iconst (v := 1) dX2_readText_8 (by decide) rfl ?_
  refine AW.iald dX2_readText_9 ps_g626 (vp_in_iff.mpr (by decide)) (j := 1) (by decide) rfl ?_
  refine AW.imul dX2_readText_10 rfl ?_
  refine AW.stT (x := .int (nI (705 * t))) (by show Value.int (705 * s.A 626 1) = _; rw [h1, show (705 : Int32) = nI 705 from rfl, nI_mul]) ?_
  refine AW.put ci2 12 (by decide) q1363 dX2_readText_11 (by decide) gM rfl (fun _ => rfl) (fun _ => rfl) (Nat.le_of_ble_eq_true rfl) ps_s12 rfl ?_
  refine AW.aload_n dX2_readText_14 rfl rfl ?_
  refine AW.get ci2 2 (by decide) q1353 dX2_readText_15 gM rfl rfl ?_
  refine AW.aload_n dX2_readText_18 rfl rfl ?_
  refine AW.get ci2 12 (by decide) q1363 dX2_readText_19 gM rfl rfl ?_
  refine AW.stT (x := .int (nI (705 * t))) (by show Value.int (nI (705 * t)) = _; rfl) ?_
  refine AW.iconst (v := 0) dX2_readText_22 (by decide) rfl ?_
  refine AW.iast dX2_readText_23 (by decide) ps_g628 (in0 (705 * t) (by omega) (by decide)) (j := 705 * t) (cI_nI (by omega)) ps_s628 rfl ?_
  refine AW.aload_n dX2_readText_24 rfl rfl ?_
  refine AW.iconst (v := 0) dX2_readText_25 (by decide) rfl ?_
  refine AW.put ci2 13 (by decide) q1364 dX2_readText_26 (by decide) gM rfl (fun _ => rfl) (fun _ => rfl) (Nat.le_of_ble_eq_true rfl) ps_s13 rfl ?_
  refine AW.aload_n dX2_readText_29 rfl rfl ?_
  refine AW.iconst (v := 0) dX2_readText_30 (by decide) rfl ?_
  refine AW.put ci2 20 (by decide) q1371 dX2_readText_31 (by decide) gM rfl (fun _ => rfl) (fun _ => rfl) (Nat.le_of_ble_eq_true rfl) ps_s20 rfl ?_
  refine AW.aload_n dX2_readText_34 rfl rfl ?_
  refine AW.iconst (v := 0) dX2_readText_35 (by decide) rfl ?_
  refine AW.put ci2 7 (by decide) q1358 dX2_readText_36 (by decide) gM rfl (fun _ => rfl) (fun _ => rfl) (Nat.le_of_ble_eq_true rfl) ps_s7 rfl ?_
  refine AW.aload_n dX2_readText_39 rfl rfl ?_
  refine AW.callV (Y := mX2_nextToken) (n := 0) (hnx) (by decide) (by decide) rfl gM q1501 q1503 qs66 q141 q1504 dX2_readText_40 (by decide +kernel) rfl rfl (Nat.le_of_ble_eq_true rfl) rfl ?_
  exact k
/-- the loop over the clauses, by the reader's fuel -/
theorem rt_loopf {s : Sg} {base n : Nat} {L0 : Lq} {t : Nat} (ht4 : t < 4) (h12 : s.S 12 = nI (705 * t)) (hb2 : base = 705 * t + 97) (hn : s.S 4 = nI n) (h300 : n ≤ 300) (hby : ∀ k, k < n → 0 ≤ s.A 629 k) : ∀ (f : Nat) (a b : Int32) (X PA : Nat → Int32) (C : Cd) (Q : List Int32) (o : Int32) (w : Bool) (i : Nat) (cls : List Cl) (r : Int32) (j : Nat), TI X t cls → gd (s.A 629) n L0 i → C.length ≤ i → rdT (byteF (s.A 629) n) (tkL (s.A 629) n L0) f cls C i = .inl (r, j) → ¬ r = 0 →
    ∃ X2 a2 b2 c2 C2 PA2 Q2 o2 w2, AW 12 mX2_readText (hp (ps (rs s a b (onc cls)) (tkL (s.A 629) n L0 i) (gq X base C PA Q o w))) 43 [some (.ref 625), none] [] (.inl (some (.int r))) (hp (ps (rs s a2 b2 c2) (tkL (s.A 629) n L0 j) (gq X2 base C2 PA2 Q2 o2 w2))) ∧ ∀ m, m < 705 * t → X2 m = X m
  | 0, a, b, X, PA, C, Q, o, w, i, cls, r, j, hT, hg, hc, h, hr => by
    obtain ⟨e1, e2⟩ := Prod.mk.inj (Sum.inl.inj h)
    exact absurd e1.symm hr
  | f + 1, a, b, X, PA, C, Q, o, w, i, cls, r, j, hT, hg, hc, h, hr => by
    unfold rdT at h
    by_cases h0 : (tkL (s.A 629) n L0 i).2.2.1 = 0
    · rw [if_pos h0] at h
      exact (inr_inl h).elim
    · rw [if_neg h0] at h
      cases hcl : clR (byteF (s.A 629) n) (tkL (s.A 629) n L0) cls C i with
      | inl q =>
        rw [hcl] at h
        obtain ⟨r9, j9⟩ := q
        obtain ⟨e1, e2⟩ := Prod.mk.inj (Sum.inl.inj h)
        subst e1
        subst e2
        obtain ⟨X2, a2, b2, c2, C2, PA2, Q2, o2, w2, hw, hX⟩ := clause_f (a := a) (b := b) (PA := PA) (Q := Q) (o := o) (w := w) ht4 h12 hb2 hn h300 hby hT hg hc hcl hr
        exact ⟨X2, a2, b2, c2, C2, PA2, Q2, o2, w2, rt_f h0 hw hr, hX⟩
      | inr q =>
        rw [hcl] at h
        obtain ⟨cl, C9, j9⟩ := q
        obtain ⟨g1, g2, X2, a2, b2, PA2, Q2, o2, w2, hw, hT2, hX⟩ := clause_t (a := a) (b := b) (PA := PA) (Q := Q) (o := o) (w := w) ht4 h12 hb2 hn h300 hby hT hg hc hcl
        obtain ⟨X3, a3, b3, c3, C3, PA3, Q3, o3, w3, hw3, hX3⟩ := rt_loopf ht4 h12 hb2 hn h300 hby f a2 b2 X2 PA2 C9 Q2 o2 w2 j9 (cls ++ [cl]) r j hT2 g1 g2 h hr
        exact ⟨X3, a3, b3, c3, C3, PA3, Q3, o3, w3, rt_c h0 hw hw3, fun m hm => (hX3 m hm).trans (hX m hm)⟩
theorem rt_loopt {s : Sg} {base n : Nat} {L0 : Lq} {t : Nat} (ht4 : t < 4) (h12 : s.S 12 = nI (705 * t)) (hb2 : base = 705 * t + 97) (hn : s.S 4 = nI n) (h300 : n ≤ 300) (hby : ∀ k, k < n → 0 ≤ s.A 629 k) : ∀ (f : Nat) (a b : Int32) (X PA : Nat → Int32) (C : Cd) (Q : List Int32) (o : Int32) (w : Bool) (i : Nat) (cls cls2 : List Cl) (C2 : Cd) (j : Nat), TI X t cls → gd (s.A 629) n L0 i → C.length ≤ i → rdT (byteF (s.A 629) n) (tkL (s.A 629) n L0) f cls C i = .inr (cls2, C2, j) →
    gd (s.A 629) n L0 j ∧ C2.length ≤ j ∧ ∃ X2 a2 b2 PA2 Q2 o2 w2, AW 12 mX2_readText (hp (ps (rs s a b (onc cls)) (tkL (s.A 629) n L0 i) (gq X base C PA Q o w))) 43 [some (.ref 625), none] [] (.inl (some (.int 0))) (hp (ps (rs s a2 b2 (onc cls2)) (tkL (s.A 629) n L0 j) (gq X2 base C2 PA2 Q2 o2 w2))) ∧ TI X2 t cls2 ∧ ∀ m, m < 705 * t → X2 m = X m
  | 0, a, b, X, PA, C, Q, o, w, i, cls, cls2, C2, j, hT, hg, hc, h => (inl_inr h).elim
  | f + 1, a, b, X, PA, C, Q, o, w, i, cls, cls2, C2, j, hT, hg, hc, h => by
    unfold rdT at h
    by_cases h0 : (tkL (s.A 629) n L0 i).2.2.1 = 0
    · rw [if_pos h0] at h
      obtain ⟨e1, e2⟩ := Prod.mk.inj (Sum.inr.inj h)
      obtain ⟨e2, e3⟩ := Prod.mk.inj e2
      subst e1
      subst e2
      subst e3
      exact ⟨hg, hc, X, a, b, PA, Q, o, w, rt_end h0, hT, fun m hm => rfl⟩
    · rw [if_neg h0] at h
      cases hcl : clR (byteF (s.A 629) n) (tkL (s.A 629) n L0) cls C i with
      | inl q =>
        rw [hcl] at h
        exact (inl_inr h).elim
      | inr q =>
        rw [hcl] at h
        obtain ⟨cl, C9, j9⟩ := q
        obtain ⟨g1, g2, X2, a2, b2, PA2, Q2, o2, w2, hw, hT2, hX⟩ := clause_t (a := a) (b := b) (PA := PA) (Q := Q) (o := o) (w := w) ht4 h12 hb2 hn h300 hby hT hg hc hcl
        obtain ⟨g3, g4, X3, a3, b3, PA3, Q3, o3, w3, hw3, hT3, hX3⟩ := rt_loopt ht4 h12 hb2 hn h300 hby f a2 b2 X2 PA2 C9 Q2 o2 w2 j9 (cls ++ [cl]) cls2 C2 j hT2 g1 g2 h
        exact ⟨g3, g4, X3, a3, b3, PA3, Q3, o3, w3, rt_c h0 hw hw3, hT3, fun m hm => (hX3 m hm).trans (hX m hm)⟩
