/-! MUTATORS: house, marry, hat, forget, undo, seen, gossip, by: the system's state follows the model's row (by hand) -/
set_option maxRecDepth 100000
section MUTS
variable {N nt c e g x : Nat} {a : Nat → Int32} {s : Sg} {L : Lw}
theorem telS_oo {z : Sg} {x k : Nat} {v : Int32} : (telS z x v k).S = z.S ∧ (telS z x v k).V = z.V ∧ (telS z x v k).w = z.w ∧ (telS z x v k).T = z.T ∧ (telS z x v k).b = z.b := ⟨rfl, rfl, rfl, rfl, rfl⟩
theorem Fr.tel {z : Sg} {x k : Nat} {v : Int32} (hk : k ≤ 30) : Fr 0 0 z (telS z x v k) := ⟨fun j _ _ h2 _ _ => telS_out (by omega), rfl, rfl, rfl, rfl, Ext.refl _⟩
theorem Fr.set4 {s : Sg} {f : Nat → Int32} : Fr 0 0 s (s.setA 514 f) := ⟨fun k h _ _ _ _ => setA_ne h, rfl, rfl, rfl, rfl, Ext.refl _⟩
theorem Fr.house {d1 d2 d3 pu fr : Int32} {k : Nat} (hk : k ≤ 30) : Fr 0 0 s (houseS s d1 d2 d3 pu fr k) := ((((((Fr.set4.tr0 Fr.set).tr0 (Fr.tel hk)).tr0 Fr.set).tr0 (Fr.tel hk)).tr0 Fr.set).tr0 (Fr.tel hk))
theorem q_house_f (h : RelX N nt c e g a s.A) (d1 d2 d3 pu fr : Int32) (hc : okH (a 0) d1 d2 d3 pu fr = false) : Run 2 mX0_house [.ref 512, .int d1, .int d2, .int d3, .int pu, .int fr] (hp s) (.inl (some (.int (-1)))) (hp s) := r_X0_house_f d1 d2 d3 pu fr (by rw [ok_same, h.n0.2.1, ← h.n0.1]; exact hc)
theorem q_house_t (h : RelX N nt c e g a s.A) (d1 d2 d3 pu fr : Int32) (hc : okH (a 0) d1 d2 d3 pu fr = true) : RX (QF s (houseM a N d1 d2 d3 pu fr) 0 0) 3 mX0_house [.ref 512, .int d1, .int d2, .int d3, .int pu, .int fr] (hp s) (some (.int (nI N))) := by
  obtain ⟨hN, hr⟩ := house_rel h hc
  obtain ⟨n1, n2, n7⟩ := h.n0
  obtain ⟨c1, c2, c3⟩ := h.n3
  have q := r_X0_house_t (s := s) d1 d2 d3 pu fr (by rw [ok_same, n2, ← n1]; exact hc) c N c1 c2 n2 hN
  rw [n2] at q
  exact ⟨_, ⟨_, Fr.house c2, hr.rel, rfl⟩, q⟩
theorem RelX.sh0 (h : RelX N nt c e g a s.A) {k : Nat} (hk : k < N) : (vwM a).sh (nI k) = a (12 + 8 * k + 0) ∧ shOk (a (12 + 8 * k + 0)) := by
  obtain ⟨n1, n2, n7⟩ := h.n0
  exact ⟨by rw [vwM_sh (N_hou n1 n7 hk), g0_n (by omega)], (h.cr.at0 hk).2⟩
theorem and4_cg {a b c d d2 : Bool} (h : a = true → b = true → d = d2) : (a && b && c && d) = (a && b && c && d2) := by
  cases a
  · rfl
  · cases b
    · rfl
    · rw [h rfl rfl]
theorem dec_wed {x y : Int32} (hx : shOk x) (hy : shOk y) : (!decide (wedS x y = -1)) = decide (bitsI (wedI x y) ≤ 3) := by
  have w := (wed_can hx hy).1
  by_cases z : bitsI (wedI x y) ≤ 3
  · rw [decide_eq_true z, decide_eq_false (w.mp z)]; rfl
  · rw [decide_eq_false z, decide_eq_true (Decidable.of_not_not (fun q => z (w.mpr q)))]; rfl
theorem weds_same (h : RelX N nt c e g a s.A) (p q : Int32) : (vwS (s.A 514) (s.A 515)).wedsS p q = (vwM a).weds p q := by
  obtain ⟨n1, n2, n7⟩ := h.n0
  rw [← h.vw]
  unfold Vw.wedsS Vw.weds
  refine and4_cg (fun hp hq => ?_)
  obtain ⟨i, hi, rfl⟩ := hou_V n1 n7 (Vw.her_hou hp)
  obtain ⟨j, hj, rfl⟩ := hou_V n1 n7 (Vw.her_hou hq)
  obtain ⟨e1, o1⟩ := h.sh0 hi
  obtain ⟨e2, o2⟩ := h.sh0 hj
  rw [e1, e2]
  exact dec_wed o1 o2
theorem q_marry_f (h : RelX N nt c e g a s.A) (p q : Int32) (hc : (vwM a).weds p q = false) : Run 4 mX0_marry [.ref 512, .int p, .int q] (hp s) (.inl (some (.int (-1)))) (hp s) := r_X0_marry_f h.ok p q (by rw [weds_same h]; exact hc)
theorem wed_pos {p q : Int32} (h : shOk p) (k : shOk q) (h3 : bitsI (wedI p q) ≤ 3) : 0 ≤ wedI p q ∧ ¬ wedI p q = -1 := by
  have hs := sh_wed h k h3
  refine ⟨?_, sh_nm1 hs⟩
  obtain ⟨⟨m, m1, m2⟩, -⟩ := hs
  rw [m2]
  exact nI_pos' (by omega)
theorem q_marry_t (h : RelX N nt c e g a s.A) (p q : Int32) (hc : (vwM a).weds p q = true) : (0 ≤ wedI ((vwM a).sh p) ((vwM a).sh q) ∧ ¬ wedI ((vwM a).sh p) ((vwM a).sh q) = -1) ∧ RX (QF s (marryM (keepI a) p q (wedI ((vwM a).sh p) ((vwM a).sh q))) 0 0) 4 mX0_marry [.ref 512, .int p, .int q] (hp s) (some (.int (wedI ((vwM a).sh p) ((vwM a).sh q)))) := by
  obtain ⟨n1, n2, n7⟩ := h.n0
  obtain ⟨c1, c2, c3⟩ := h.n3
  have q0 := r_X0_marry_t (s := s) h.ok p q (by rw [weds_same h]; exact hc) c c1 c2
  simp only [Vw.weds, Bool.and_eq_true, Bool.not_eq_true', decide_eq_false_iff_not, decide_eq_true_eq] at hc
  obtain ⟨⟨⟨hp, hq⟩, hpq⟩, h3⟩ := hc
  obtain ⟨i, hi, rfl⟩ := hou_V n1 n7 (Vw.her_hou hp)
  obtain ⟨j, hj, rfl⟩ := hou_V n1 n7 (Vw.her_hou hq)
  obtain ⟨e1, o1⟩ := h.sh0 hi
  obtain ⟨e2, o2⟩ := h.sh0 hj
  rw [e1, e2] at h3 ⊢
  refine ⟨wed_pos o1 o2 h3, ?_⟩
  obtain ⟨c2', hk⟩ := keep_rel h
  have ei : keepM a c (12 + 8 * i + 0) = a (12 + 8 * i + 0) := kM_lo h (by omega) (by omega)
  have ej : keepM a c (12 + 8 * j + 0) = a (12 + 8 * j + 0) := kM_lo h (by omega) (by omega)
  have e5 : (keepS s c).A 515 = s.A 515 := keepS_515 c2
  have hm := marry_eq hk.cr n7 hi hj (fun z => hpq (by rw [z])) (by rw [ei, ej]; exact h3)
  rw [ei, ej, e5] at hm
  obtain ⟨m1, m2, m3⟩ := hm
  rw [m3] at q0
  rw [h.kI]
  exact ⟨_, ⟨_, (Fr.keep c2).tr0 Fr.set, (hk.row m2 m1).rel, rfl⟩, q0⟩
theorem draws_same (h : RelX N nt c e g a s.A) (y : Int32) : (vwS (s.A 514) (s.A 515)).canHatS y = (vwM a).draws y := by
  rw [← h.vw]
  unfold Vw.canHatS Vw.draws
  rw [bcI_bits]
theorem q_hat_f (h : RelX N nt c e g a s.A) (y : Int32) (hc : (vwM a).draws y = false) : Run 5 mX0_hat [.ref 512, .int y] (hp s) (.inl (some (.int (-1)))) (hp s) := r_X0_hat_f h.ok y (by rw [draws_same h]; exact hc)
/-- a hat that comes: the states and what is answered -/
theorem hat_rel (h : RelX N nt c e g a s.A) (y : Int32) (hc : (vwM a).draws y = true) : (hatL y 20 (s.A 515)).1 = (hatR y 20 (keepI a)).1 ∧ QF s (hatR y 20 (keepI a)).2 0 0 (hp ((keepS s c).setA 515 (hatL y 20 (s.A 515)).2)) := by
  obtain ⟨n1, n2, n7⟩ := h.n0
  obtain ⟨c1, c2, c3⟩ := h.n3
  simp only [Vw.draws, Bool.and_eq_true, decide_eq_true_eq] at hc
  obtain ⟨hp, h3⟩ := hc
  obtain ⟨i, hi, rfl⟩ := hou_V n1 n7 (Vw.her_hou hp)
  obtain ⟨e1, o1⟩ := h.sh0 hi
  obtain ⟨c2', hk⟩ := keep_rel h
  have ei : keepM a c (12 + 8 * i + 0) = a (12 + 8 * i + 0) := kM_lo h (by omega) (by omega)
  have e5 : (keepS s c).A 515 = s.A 515 := keepS_515 c2
  rw [e1] at h3
  have hm := hat_eq n7 hi 20 _ _ hk.cr (by rw [ei]; exact (bits_lt (c := 3) (by decide)).mp h3)
  rw [e5] at hm
  obtain ⟨m1, m2, m3⟩ := hm
  rw [h.kI]
  exact ⟨m1.symm, _, (Fr.keep c2).tr0 Fr.set, (hk.row m3 m2).rel, rfl⟩
theorem q_hat_t (h : RelX N nt c e g a s.A) (y : Int32) (hc : (vwM a).draws y = true) : RX (QF s (hatR y 20 (keepI a)).2 0 0) 5 mX0_hat [.ref 512, .int y] (hp s) (some (.int (hatR y 20 (keepI a)).1)) := by
  obtain ⟨c1, c2, c3⟩ := h.n3
  have q0 := r_X0_hat_t (s := s) h.ok y (by rw [draws_same h]; exact hc) c c1 c2
  obtain ⟨e1, e2⟩ := hat_rel h y hc
  rw [e1] at q0
  exact ⟨_, e2, q0⟩
theorem q_hatted_f (h : RelX N nt c e g a s.A) (y : Int32) (hc : (vwM a).draws y = false) : Run 6 mX0_hatted [.ref 512, .int y] (hp s) (.inl (some (.int (b2i false)))) (hp s) := r_X0_hatted_f h.ok y (by rw [draws_same h]; exact hc)
theorem q_hatted_t (h : RelX N nt c e g a s.A) (y : Int32) (hc : (vwM a).draws y = true) : RX (QF s (hatR y 20 (keepI a)).2 0 0) 6 mX0_hatted [.ref 512, .int y] (hp s) (some (.int (b2i true))) := by
  obtain ⟨c1, c2, c3⟩ := h.n3
  have q0 := r_X0_hatted_t (s := s) h.ok y (by rw [draws_same h]; exact hc) c c1 c2
  exact ⟨_, (hat_rel h y hc).2, q0⟩
theorem q_forget_f (h : RelX N nt c e g a s.A) (d y : Int32) (hc : (vwM a).forgets d y = false) : Run 5 mX0_forget [.ref 512, .int d, .int y] (hp s) (.inl (some (.int (b2i false)))) (hp s) := r_X0_forget_f h.ok d y (by rw [← h.vw]; exact hc)
theorem forgets_k (h : RelX N nt c e g a s.A) {d y : Int32} (hc : (vwM a).forgets d y = true) : ∃ k i, k < 20 ∧ i < N ∧ d = nI k ∧ y = nI i ∧ hasI (a (12 + 8 * i + 0)) (nI k) = true := by
  obtain ⟨n1, n2, n7⟩ := h.n0
  simp only [Vw.forgets, Bool.and_eq_true] at hc
  obtain ⟨hp, hd, hs⟩ := hc
  obtain ⟨i, hi, rfl⟩ := hou_V n1 n7 (Vw.her_hou hp)
  have q := inI_iff.mp hd
  have q0 : 0 ≤ d.toInt := q.1
  have q9 : d.toInt ≤ 19 := q.2
  rw [(h.sh0 hi).1] at hs
  refine ⟨cI d, i, by have := cI_of q0; omega, hi, (nI_cI q0).symm, rfl, ?_⟩
  rw [nI_cI q0]
  exact hs
theorem q_forget_t (h : RelX N nt c e g a s.A) (d y : Int32) (hc : (vwM a).forgets d y = true) : RX (QF s (forgetM (keepI a) d y) 0 0) 5 mX0_forget [.ref 512, .int d, .int y] (hp s) (some (.int (b2i true))) := by
  obtain ⟨n1, n2, n7⟩ := h.n0
  obtain ⟨c1, c2, c3⟩ := h.n3
  have q0 := r_X0_forget_t (s := s) h.ok d y (by rw [← h.vw]; exact hc) c c1 c2
  obtain ⟨k, i, hk, hi, rfl, rfl, hb⟩ := forgets_k h hc
  obtain ⟨c2', hkk⟩ := keep_rel h
  have ei : keepM a c (12 + 8 * i + 0) = a (12 + 8 * i + 0) := kM_lo h (by omega) (by omega)
  have e5 : (keepS s c).A 515 = s.A 515 := keepS_515 c2
  have hm := forget_eq hkk.cr n7 hi hk (by rw [ei]; exact hb)
  rw [e5] at hm
  rw [h.kI]
  exact ⟨_, ⟨_, (Fr.keep c2).tr0 Fr.set, (hkk.row hm.2 hm.1).rel, rfl⟩, q0⟩
theorem q_undo_0 (h : RelX N nt 0 e g a s.A) : Run 3 mX0_undo [.ref 512] (hp s) (.inl (some (.int (-1)))) (hp s) := r_X0_undo_0 h.n3.1
theorem q_undo_t (h : RelX N nt (c + 1) e g a s.A) : ∃ n, n ≤ 7 ∧ a (108 + 72 * c) = nI n ∧ RX (QF s (undoM a c n N) 0 0) 3 mX0_undo [.ref 512] (hp s) (some (.int (nI c))) := by
  obtain ⟨n, n7, hx, hr⟩ := undo_rel h
  have h3 := h.n3
  refine ⟨n, n7, hx, _, ⟨undS s c, ?_, hr.rel, rfl⟩, r_X0_undo c h3.1 (by omega)⟩
  refine ⟨fun k h1 h2 _ _ _ => ?_, rfl, rfl, rfl, rfl, Ext.refl _⟩
  unfold undS
  dsimp only
  rw [sA_ne h2, sA_ne h1]
end MUTS
