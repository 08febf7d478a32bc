/-! SYSTEM 39: a text played (printed by tools/x39.py) -/
set_option maxRecDepth 100000
abbrev D5 : Type := Int32 × Int32 × Int32 × Int32 × Int32
/-- the doings of a list, as far as they are done -/
def playD (L : Lw) : List D5 → (Nat → Int32) → Int32 × (Nat → Int32)
  | [], a => (-1, a)
  | d :: r, a => if (doM a L (d.1 - 200) d.2.1 d.2.2.1 d.2.2.2.1).1 = true then playD L r (doM a L (d.1 - 200) d.2.1 d.2.2.1 d.2.2.2.1).2 else (d.2.2.2.2, (doM a L (d.1 - 200) d.2.1 d.2.2.1 d.2.2.2.1).2)
def okCl (c : Cl) : Prop := (c.1 = 0 ∨ c.1 = 1 ∨ c.1 = 2 ∨ c.1 = 3 ∨ c.1 = 4 ∨ c.1 = 5 ∨ c.1 = 6 ∨ c.1 = 7 ∨ c.1 = 8) ∧ dayOk c.1 c.2.1
theorem okCl_hi {c : Cl} (h : okCl c) (h2 : ¬ c.1 ≤ 2) : c.1 = 3 ∨ c.1 = 4 ∨ c.1 = 5 ∨ c.1 = 6 ∨ c.1 = 7 ∨ c.1 = 8 := by
  rcases h.1 with z | z | z | z | z | z | z | z | z
  · exact absurd (by rw [z]; decide) h2
  · exact absurd (by rw [z]; decide) h2
  · exact absurd (by rw [z]; decide) h2
  · exact Or.inl z
  · exact Or.inr (Or.inl z)
  · exact Or.inr (Or.inr (Or.inl z))
  · exact Or.inr (Or.inr (Or.inr (Or.inl z)))
  · exact Or.inr (Or.inr (Or.inr (Or.inr (Or.inl z))))
  · exact Or.inr (Or.inr (Or.inr (Or.inr (Or.inr z))))
theorem sub200 {q : Int32} : 200 + q - 200 = q := by rw [Int32.add_comm, Int32.add_sub_cancel]
theorem dos_ok : ∀ (l : List Cl) (k : Nat), (∀ c, c ∈ l → okCl c) → ∀ d, d ∈ dosL l k → ∃ q, d.1 = 200 + q ∧ (q = 3 ∨ q = 4 ∨ q = 5 ∨ q = 6 ∨ q = 7 ∨ q = 8) ∧ dayOk q d.2.1
  | [], _, _, d, hd => absurd hd (List.not_mem_nil)
  | c :: l, k, h, d, hd => by
    have ih := dos_ok l (k + 1) (fun c hc => h c (List.mem_cons_of_mem _ hc))
    have e : dosL (c :: l) k = if c.1 ≤ 2 then dosL l (k + 1) else (200 + c.1, c.2.1, c.2.2.1, c.2.2.2, nI k) :: dosL l (k + 1) := rfl
    rw [e] at hd
    by_cases z : c.1 ≤ 2
    · rw [if_pos z] at hd; exact ih d hd
    · rw [if_neg z] at hd
      rcases List.mem_cons.mp hd with y | y
      · subst y
        have hc := h c List.mem_cons_self
        exact ⟨c.1, rfl, okCl_hi hc z, hc.2⟩
      · exact ih d y
theorem dos_len : ∀ (l : List Cl) (k : Nat), (dosL l k).length ≤ l.length := dosL_len
theorem doM_cg {a : Nat → Int32} {L : Lw} {q v w w2 u u2 : Int32} (h1 : q = 3 ∨ q = 5 ∨ q = 7 → w = w2) (h2 : q = 3 → u = u2) : doM a L q v w u = doM a L q v w2 u2 := by
  unfold doM
  by_cases q3 : q = 3
  · rw [h1 (Or.inl q3), h2 q3]
  · rw [if_neg q3, if_neg q3]
    by_cases q4 : q = 4
    · rw [if_pos q4, if_pos q4]
    · rw [if_neg q4, if_neg q4]
      by_cases q5 : q = 5
      · rw [h1 (Or.inr (Or.inl q5))]
      · rw [if_neg q5, if_neg q5]
        by_cases q6 : q = 6
        · rw [if_pos q6, if_pos q6]
        · rw [if_neg q6, if_neg q6]
          by_cases q7 : q = 7
          · rw [h1 (Or.inr (Or.inr q7))]
          · rw [if_neg q7, if_neg q7]
theorem doM_law {a : Nat → Int32} {L : Lw} {q v w u : Int32} (h : q = 0 ∨ q = 1 ∨ q = 2) : doM a L q v w u = (true, a) := by
  unfold doM
  rcases h with rfl | rfl | rfl <;> rw [if_neg (by decide), if_neg (by decide), if_neg (by decide), if_neg (by decide), if_neg (by decide), if_neg (by decide)]
theorem lo3 {x : Int32} {v : Int32 × Int32 × Int32} (h : okCl (x, v)) (h2 : x ≤ 2) : x = 0 ∨ x = 1 ∨ x = 2 := by
  rcases h.1 with z | z | z | z | z | z | z | z | z
  · exact Or.inl z
  · exact Or.inr (Or.inl z)
  · exact Or.inr (Or.inr z)
  all_goals exact absurd h2 (by have z2 : x = _ := z; rw [z2]; decide)
/-- the model's playing is that of the list -/
theorem play_eq {D : Nat → Int32 × Int32 × Int32 × Int32} {L : Lw} : ∀ (l : List Cl) (k : Nat) (a : Nat → Int32), (∀ c, c ∈ l → okCl c) → (∀ j cl, l[j]? = some cl → (D (k + j)).1 = cl.1 ∧ (D (k + j)).2.1 = cl.2.1 ∧ (cl.1 = 3 ∨ cl.1 = 5 ∨ cl.1 = 7 → (D (k + j)).2.2.1 = cl.2.2.1) ∧ (cl.1 = 3 → (D (k + j)).2.2.2 = cl.2.2.2)) → playM D L l.length k a = playD L (dosL l k) a
  | [], _, _, _, _ => rfl
  | c :: l, k, a, h, hD => by
    have ih := fun a => play_eq (D := D) (L := L) l (k + 1) a (fun c hc => h c (List.mem_cons_of_mem _ hc)) (fun j cl hj => by
      have z := hD (j + 1) cl (by rw [List.getElem?_cons_succ]; exact hj)
      rw [show k + (j + 1) = k + 1 + j by omega] at z
      exact z)
    obtain ⟨d1, d2, d3, d4⟩ := hD 0 c rfl
    rw [Nat.add_zero] at d1 d2 d3 d4
    have e : dosL (c :: l) k = if c.1 ≤ 2 then dosL l (k + 1) else (200 + c.1, c.2.1, c.2.2.1, c.2.2.2, nI k) :: dosL l (k + 1) := rfl
    have eM : playM D L (c :: l).length k a = if (doM a L (D k).1 (D k).2.1 (D k).2.2.1 (D k).2.2.2).1 = true then playM D L l.length (k + 1) (doM a L (D k).1 (D k).2.1 (D k).2.2.1 (D k).2.2.2).2 else (nI k, (doM a L (D k).1 (D k).2.1 (D k).2.2.1 (D k).2.2.2).2) := rfl
    rw [e, eM, d1, d2, doM_cg (w2 := c.2.2.1) (u2 := c.2.2.2) d3 d4]
    by_cases z : c.1 ≤ 2
    · rw [if_pos z, doM_law (lo3 (x := c.1) (v := c.2) (h c List.mem_cons_self) z), if_pos rfl]
      exact ih a
    · rw [if_neg z]
      have eD : playD L ((200 + c.1, c.2.1, c.2.2.1, c.2.2.2, nI k) :: dosL l (k + 1)) a = if (doM a L (200 + c.1 - 200) c.2.1 c.2.2.1 c.2.2.2).1 = true then playD L (dosL l (k + 1)) (doM a L (200 + c.1 - 200) c.2.1 c.2.2.1 c.2.2.2).2 else (nI k, (doM a L (200 + c.1 - 200) c.2.1 c.2.2.1 c.2.2.2).2) := rfl
      rw [eD, sub200]
      generalize doM a L c.1 c.2.1 c.2.2.1 c.2.2.2 = r
      by_cases y : r.1 = true
      · rw [if_pos y, if_pos y]; exact ih _
      · rw [if_neg y, if_neg y]
theorem q_played_f {N nt c e g : Nat} {a : Nat → Int32} {s : Sg} (h : RelX N nt c e g a s.A) (t : Int32) (hc : inI t 0 (a 1 - 1) = false) : Run 3 mX0_played [.ref 512, .int t] (hp s) (.inl (some (.int (-2)))) (hp s) := by
  have e1 : s.A 514 1 = a 1 := by have := h.1.2.1; exact this.2.1.trans this.1.symm
  rw [← e1] at hc
  refine Run.of rfl (Nat.le_of_ble_eq_true rfl) rfl ?_
  refine AW.aload_n dX0_played_0 rfl rfl ?_
  refine AW.iload_n dX0_played_1 rfl rfl ?_
  refine AW.callV (Y := mX0_isText) (n := 1) (r_X0_isText _) (by decide) (by decide) rfl gX q842 q844 qs23 q138 q845 dX0_played_2 (by decide +kernel) rfl rfl (Nat.le_of_ble_eq_true rfl) rfl ?_
  refine AW.if_neB (tgt := 11) dX0_played_5 (by decide) rfl (fun c_ => by first | exact absurd c_ hc | exact absurd hc c_ | exact Bool.noConfusion (c_.symm.trans hc)) (fun _ => ?_)
  refine AW.bipush (v := (-2)) dX0_played_8 (by decide) rfl ?_
  exact AW.iretE dX0_played_10 rfl rfl rfl rfl
theorem q_played_t {N nt c e g x : Nat} {a : Nat → Int32} {s : Sg} {L : Lw} (hb : 128 ≤ s.b.n) (h : RelX N nt c e g a s.A) (hR : Rl s x L) {tt X lo Dl ix : Nat} {cls : List Cl} {C : Cd} {L2 : Lw} (htt : tt < 4) (hc : inI (nI tt) 0 (a 1 - 1) = true) (hT : s.T (2 * tt) = .ref X) (hS : RdS s.b lo X Dl ix cls C L2) (hcl : ∀ c, c ∈ cls → okCl c) (h24 : cls.length ≤ 24) : RX (QF s (playD L (dosL cls 0) a).2 24 72) 72 mX0_played [.ref 512, .int (nI tt)] (hp s) (some (.int ((playD L (dosL cls 0) a).1))) := by
  have e1 : s.A 514 1 = a 1 := by have := h.1.2.1; exact this.2.1.trans this.1.symm
  rw [← e1] at hc
  obtain ⟨E, ve, vl, vq, dv, ⟨hl1, hl2, hl3, hl4, -⟩, g0, hAL, hEl, -⟩ := hS
  obtain ⟨al1, al2, ⟨m0, al3⟩, al4, al5, al6, al7, al8⟩ := hAL
  have gX4 : (hp s).g X = _ := (hp_gb (nfx (by omega))).trans g0
  have hlen := dos_len cls 0
  have hok := dos_ok cls 0 hcl
  have cD : ∀ (t : Sg) (c u : Nat), Ext c u s.b t.b → (hp t).g Dl = some (.inr (16, [.int m0, .ref E, .int (nI (dosL cls 0).length)])) := fun t c u xt => (hp_gb (nfx (by omega))).trans ((xt.2.2.2.2 _ al2).trans al3)
  have cap := capN_le ix
  have cG : ∀ (k : Nat), k < (dosL cls 0).length → ∀ (t : Sg) (c u : Nat), Ext c u s.b t.b → Run 3 mJ2_get [.ref Dl, .int (nI k)] (hp t) (.inl (some (.ref (dv k)))) (hp t) := fun k hk t c u xt => by
    rcases al8 with ⟨z, -⟩ | ⟨z1, z2, z3, z4, gg, z5, z6⟩
    · subst z; exact absurd al4 (by show ¬ (dosL cls 0).length ≤ 0; omega)
    · have q := r_J2_get (cD t c u xt) ((hp_gb (nfx (by omega))).trans ((xt.2.2.2.2 _ z3).trans z5)) (nI k) (nI_pos (by omega)) (nI_lt hk (by omega)) (vp_in_nI (by omega) (by omega)) (by rw [cI_nI (by omega), z6 k hk]; exact Or.inr ⟨_, rfl⟩)
      rw [cI_nI (by omega), z6 k hk] at q
      exact q
  have cO : ∀ (k : Nat) (d : D5), (dosL cls 0)[k]? = some d → ∀ (t : Sg) (c u : Nat), Ext c u s.b t.b → (hp t).g (dv k) = some (.inr (15, [.int d.1, .int d.2.1, .int d.2.2.1, .int d.2.2.2.1, .int d.2.2.2.2])) := fun k d hd t c u xt => by
    obtain ⟨e1, e2, e3⟩ := hEl k d hd
    exact (hp_gb (nfx (by omega))).trans ((xt.2.2.2.2 _ e2).trans e3)
  refine RX.of rfl (Nat.le_of_ble_eq_true rfl) rfl ?_
  refine AX.map (fun _ k_ => AW.aload_n dX0_played_0 rfl rfl k_) ?_
  refine AX.map (fun _ k_ => AW.iload_n dX0_played_1 rfl rfl k_) ?_
  refine AX.map (fun _ k_ => AW.callV (Y := mX0_isText) (n := 1) (r_X0_isText _) (by decide) (by decide) rfl gX q842 q844 qs23 q138 q845 dX0_played_2 (by decide +kernel) rfl rfl (Nat.le_of_ble_eq_true rfl) rfl k_) ?_
  refine AX.map (fun _ k_ => AW.if_neB (tgt := 11) dX0_played_5 (by decide) rfl (fun _ => k_) (fun c_ => by first | exact absurd c_ hc | exact absurd hc c_ | exact absurd c_ (not_not_intro hc) | exact Bool.noConfusion (c_.symm.trans hc))) ?_
  refine AX.map (fun _ k_ => AW.aload_n dX0_played_11 rfl rfl k_) ?_
  refine AX.map (fun _ k_ => AW.get ci0 0 (by decide) q229 dX0_played_12 gX rfl rfl k_) ?_
  refine AX.map (fun _ k_ => AW.getN ci1 5 (by decide) q201 dX0_played_15 gN rfl rfl k_) ?_
  refine AX.map (fun _ k_ => AW.iload_n dX0_played_18 rfl rfl k_) ?_
  refine AX.map (fun _ k_ => AW.aald dX0_played_19 g565 rfl rfl (vp_in_nI (by omega) (by omega)) (j := tt) (nI_cl (by omega)) rfl k_) ?_
  refine AX.stE (st1 := [.ref X]) (by show [s.T (2 * tt)] = _; rw [hT]) ?_
  refine AX.map (fun _ k_ => AW.getN ci4 4 (by decide) q374 dX0_played_20 gX4 rfl rfl k_) ?_
  refine AX.map (fun _ k_ => AW.astore_n (i := 2) dX0_played_23 rfl rfl (Nat.le_of_ble_eq_true rfl) rfl rfl k_) ?_
  refine AX.map (fun _ k_ => AW.iconst (v := 0) dX0_played_24 (by decide) rfl k_) ?_
  refine AX.map (fun _ k_ => AW.istore_n (i := 3) dX0_played_25 rfl rfl (Nat.le_of_ble_eq_true rfl) rfl rfl k_) ?_
  refine loopUp (P := fun k => ∀ (t : Sg) (b : Nat → Int32), Fr k (3 * k) s t → Rel b t.A → b 2 = a 2 → playD L ((dosL cls 0).drop k) b = playD L (dosL cls 0) a → AX (QF s (playD L (dosL cls 0) a).2 24 72) 72 mX0_played (hp t) 26 [some (.ref 512), some (.int (nI tt)), some (.ref Dl), some (.int (nI k))] [] (.inl (some (.int ((playD L (dosL cls 0) a).1))))) (dosL cls 0).length ?_ ?_ 0 (by first | exact Nat.zero_le _ | omega) s a (Fr.refl s) h.rel rfl rfl
  · intro t b ft rt e2 hP
    rw [List.drop_length] at hP
    have gD := cD t _ _ ft.x
    refine AX.map (fun _ k_ => AW.iload_n dX0_played_26 rfl rfl k_) ?_
    refine AX.map (fun _ k_ => AW.aload_n dX0_played_27 rfl rfl k_) ?_
    refine AX.map (fun _ k_ => AW.callV (Y := mJ2_size) (n := 0) (r_J2_size gD) (by decide) (by decide) rfl gD q1071 q775 q776 q146 q777 dX0_played_28 (by decide +kernel) rfl rfl (Nat.le_of_ble_eq_true rfl) rfl k_) ?_
    refine AX.map (fun _ k_ => AW.icmp_ge (tgt := 67) dX0_played_31 (by decide) rfl (fun _ => k_) (fun c_ => by first | exact absurd c_ (Int32.le_refl _) | exact absurd (Int32.le_refl _) c_ | exact absurd c_ (not_not_intro (Int32.le_refl _)) | exact Bool.noConfusion (c_.symm.trans (Int32.le_refl _)))) ?_
    refine AX.map (fun _ k_ => AW.iconst (v := (-1)) dX0_played_67 (by decide) rfl k_) ?_
    exact ⟨_, ⟨t, ft.mono (by omega) (by omega), by rw [← hP]; exact rt, rfl⟩, AW.iretE dX0_played_68 rfl rfl (by rw [← hP]; rfl) rfl⟩
  · intro k hk ihk
    intro t b ft rt0 e2 hP
    obtain ⟨N1, nt1, c1, e1_, g1, rt⟩ := rt0
    have gD := cD t _ _ ft.x
    have kR := hR.rel h.rel ft rt.rel e2
    obtain ⟨d, hd⟩ : ∃ d, (dosL cls 0)[k]? = some d := ⟨_, List.getElem?_eq_getElem hk⟩
    have gO := cO k d hd t _ _ ft.x
    have hmem : d ∈ (dosL cls 0) := List.mem_of_getElem? hd
    have hdrop : (dosL cls 0).drop k = d :: (dosL cls 0).drop (k + 1) := by rw [List.drop_eq_getElem_cons hk]; rw [List.getElem?_eq_getElem hk] at hd; rw [Option.some.inj hd]
    have gOx := fun (t : Sg) (c u : Nat) (xt : Ext c u s.b t.b) => cO k d hd t c u xt
    obtain ⟨d1, v, w, u, nn⟩ := d
    obtain ⟨q, hq1, hq, hd8⟩ := hok _ hmem
    have hq1 : d1 = 200 + q := hq1
    subst hq1
    have gO0 := gO
    rw [hdrop] at hP
    have eP : playD L ((200 + q, v, w, u, nn) :: (dosL cls 0).drop (k + 1)) b = if (doM b L (200 + q - 200) v w u).1 = true then playD L ((dosL cls 0).drop (k + 1)) (doM b L (200 + q - 200) v w u).2 else (nn, (doM b L (200 + q - 200) v w u).2) := rfl
    rw [eP, sub200] at hP
    refine AX.map (fun _ k_ => AW.iload_n dX0_played_26 rfl rfl k_) ?_
    refine AX.map (fun _ k_ => AW.aload_n dX0_played_27 rfl rfl k_) ?_
    refine AX.map (fun _ k_ => AW.callV (Y := mJ2_size) (n := 0) (r_J2_size gD) (by decide) (by decide) rfl gD q1071 q775 q776 q146 q777 dX0_played_28 (by decide +kernel) rfl rfl (Nat.le_of_ble_eq_true rfl) rfl k_) ?_
    refine AX.map (fun _ k_ => AW.icmp_ge (tgt := 67) dX0_played_31 (by decide) rfl (fun c_ => by first | exact absurd c_ (nI_ge hk (by omega)) | exact absurd (nI_ge hk (by omega)) c_ | exact Bool.noConfusion (c_.symm.trans (nI_ge hk (by omega)))) (fun _ => k_)) ?_
    refine AX.map (fun _ k_ => AW.aload_n dX0_played_34 rfl rfl k_) ?_
    refine AX.map (fun _ k_ => AW.aload_n dX0_played_35 rfl rfl k_) ?_
    refine AX.map (fun _ k_ => AW.iload_n dX0_played_36 rfl rfl k_) ?_
    refine AX.map (fun _ k_ => AW.callV (Y := mJ2_get) (n := 1) (cG k hk t _ _ ft.x) (by decide) (by decide) rfl gD q1072 q779 q780 q146 q781 dX0_played_37 (by decide +kernel) rfl rfl (Nat.le_of_ble_eq_true rfl) rfl k_) ?_
    refine AX.map (fun _ k_ => AW.castS dX0_played_40 q1073 gO rfl rfl rfl k_) ?_
    obtain ⟨_, ⟨t2, f2, r2, rfl⟩, run⟩ := q_does (by have := ft.x.1; omega) rt kR hq hd8 gO0
    refine AX.map (fun _ k_ => AW.callV (Y := mX0_does) (n := 1) (run) (by decide) (by decide) rfl gX q1074 q1076 qs41 q138 q1077 dX0_played_43 (by decide +kernel) rfl rfl (Nat.le_of_ble_eq_true rfl) rfl k_) ?_
    refine AX.brT (fun _ kt_ kf_ => AW.if_neB (tgt := 61) dX0_played_46 (by decide) rfl kt_ kf_) (fun c46 => ?_) (fun c46 => ?_)
    · refine AX.map (fun _ k_ => AW.iinc (v := 1) dX0_played_61 rfl (by decide) rfl rfl rfl k_) ?_
      refine AX.map (fun _ k_ => AW.goto (tgt := 26) dX0_played_64 (by decide) k_) ?_
      rw [if_pos c46] at hP
      exact AX.lsE (by rw [nI_succ k]; rfl) (ihk t2 _ ((ft.trans f2).mono (by omega) (by omega)) r2 ((doM_ok rt.mi).2.trans e2) hP)
    · have gO2 := gOx t2 _ _ (ft.trans f2).x
      have gD := cD t2 _ _ (ft.trans f2).x
      refine AX.map (fun _ k_ => AW.aload_n dX0_played_49 rfl rfl k_) ?_
      refine AX.map (fun _ k_ => AW.iload_n dX0_played_50 rfl rfl k_) ?_
      refine AX.map (fun _ k_ => AW.callV (Y := mJ2_get) (n := 1) (cG k hk t2 _ _ (ft.trans f2).x) (by decide) (by decide) rfl gD q1072 q779 q780 q146 q781 dX0_played_51 (by decide +kernel) rfl rfl (Nat.le_of_ble_eq_true rfl) rfl k_) ?_
      refine AX.map (fun _ k_ => AW.castS dX0_played_54 q1073 gO2 rfl rfl rfl k_) ?_
      refine AX.map (fun _ k_ => AW.callV (Y := mX15_number) (n := 0) (r_X15_number gO2) (by decide) (by decide) rfl gO2 q1108 q1109 q1110 q171 q1111 dX0_played_57 (by decide +kernel) rfl rfl (Nat.le_of_ble_eq_true rfl) rfl k_) ?_
      rw [if_neg (by rw [c46]; decide)] at hP
      exact ⟨_, ⟨t2, (ft.trans f2).mono (by omega) (by omega), by rw [← hP]; exact r2, rfl⟩, AW.iretE dX0_played_60 rfl rfl (by rw [← hP]) rfl⟩
