/-! PURE 8: doings -/
set_option maxRecDepth 100000
def setA_u {s : Sg} {f g : Nat → Int32} : (s.setA 626 f).setA 626 g = s.setA 626 g := setA_setA
theorem houseM_lo {a : Nat → Int32} {n : Nat} {d1 d2 d3 pu fr : Int32} {j : Nat} (hn : n < 7) (hj0 : j ≠ 0) (hj : j < 12) : houseM a n d1 d2 d3 pu fr j = a j := by
  unfold houseM
  rw [up_ne hj0, beginM_out (by omega), up_ne (by omega), up_ne (by omega), up_ne (by omega)]
theorem marryM_lo {a : Nat → Int32} {h e : Nat} {w : Int32} {j : Nat} (hh : h < 7) (he : e < 7) (hj : j < 12) : marryM a (nI h) (nI e) w j = a j := by
  unfold marryM
  exact (ptM_out (w := 3) (by omega) (by decide) (by omega)).trans ((ptM_out (w := 2) (by omega) (by decide) (by omega)).trans ((ptM_out (w := 1) (by omega) (by decide) (by omega)).trans (ptM_out (w := 0) (by omega) (by decide) (by omega))))
/-- one doing: whether it is done, what comes of it -/
def doM (a : Nat → Int32) (L : Lw) (q v w u : Int32) : Bool × (Nat → Int32) :=
  if q = 3 then (if okH (a 0) v (-1) (-1) w u = true then (true, houseM a (cI (a 0)) v (-1) (-1) w u) else (false, a))
  else if q = 4 then (if (vwM a).her v = true then (true, knockM (keepI a) L v) else (false, a))
  else if q = 5 then (if (vwM a).weds v w = true then (decide (0 ≤ wedI ((vwM a).sh v) ((vwM a).sh w)), marryM (keepI a) v w (wedI ((vwM a).sh v) ((vwM a).sh w))) else (false, a))
  else if q = 6 then ((vwM a).draws v, if (vwM a).draws v = true then (hatR v 20 (keepI a)).2 else a)
  else if q = 7 then (if (vwM a).forgets v w = true then (true, forgetM (keepI a) v w) else (false, a))
  else if q = 8 then (arePF a L (cI v - 0) 0, keepsM a L (cI v))
  else (true, a)
theorem weds_hou {v : Vw} {h e : Int32} (k : v.weds h e = true) : v.hou h = true ∧ v.hou e = true := by
  simp only [Vw.weds, Bool.and_eq_true] at k
  exact ⟨Vw.her_hou k.1.1.1, Vw.her_hou k.1.1.2⟩
theorem okH_n {n d1 d2 d3 pu fr : Int32} (k : okH n d1 d2 d3 pu fr = true) : ¬ n = 7 := by
  simp only [okH, Bool.and_eq_true, Bool.not_eq_true', decide_eq_false_iff_not] at k
  exact k.2
theorem doM_ok {a : Nat → Int32} {L : Lw} {q v w u : Int32} (k : MI a) : MI (doM a L q v w u).2 ∧ (doM a L q v w u).2 2 = a 2 := by
  have kk := MI_keep k
  have e0 := keepI_lo k (j := 0) (by decide) (by decide)
  have e2 := keepI_lo k (j := 2) (by decide) (by decide)
  have e10 := keepI_lo k (j := 10) (by decide) (by decide)
  have hk : ∀ {h : Int32}, (vwM a).hou h = true → (vwM (keepI a)).hou h = true := fun q => hou_of0 e0.symm q
  unfold doM
  split
  · split
    · rename_i h
      have h7 := okH_n h
      have h0 := k.1
      have h9 : cI (a 0) < 7 := by
        have q1 := cI_of h0.1
        have q2 := h0.2
        have q3 : (a 0).toInt ≠ 7 := fun z => h7 (Int32.toInt_inj.mp (z.trans rfl))
        show cI (a 0) < 7
        have q4 : (cI (a 0) : Int) = (a 0).toInt := q1
        have q5 : (a 0).toInt ≤ 7 := q2
        omega
      refine ⟨⟨?_, ?_, ?_⟩, houseM_lo (j := 2) h9 (by decide) (by decide)⟩
      · show 0 ≤ (houseM a (cI (a 0)) v (-1) (-1) w u 0).toInt ∧ (houseM a (cI (a 0)) v (-1) (-1) w u 0).toInt ≤ 7
        have e : houseM a (cI (a 0)) v (-1) (-1) w u 0 = nI (cI (a 0) + 1) := up_eq
        rw [e, nI_t (by omega)]
        omega
      · dsimp only; rw [houseM_lo (j := 3) h9 (by decide) (by decide)]; exact k.2.1
      · dsimp only; rw [houseM_lo (j := 10) h9 (by decide) (by decide)]; exact k.2.2
    · exact ⟨k, rfl⟩
  · split
    · split
      · rename_i h
        exact ⟨MI_knock kk (hk (Vw.her_hou h)), (knockM_same kk.1 (hk (Vw.her_hou h))).2.1.trans e2⟩
      · exact ⟨k, rfl⟩
    · split
      · split
        · rename_i h
          have h2 := weds_hou h
          obtain ⟨x, hx, rfl⟩ := hou_nat k.1 h2.1
          obtain ⟨y, hy, rfl⟩ := hou_nat k.1 h2.2
          have hl : ∀ j w, j < 12 → marryM (keepI a) (nI x) (nI y) w j = keepI a j := fun j w hj => marryM_lo hx hy hj
          refine ⟨⟨ok_of (hl 0 _ (by decide)).symm kk.1, by dsimp only; rw [hl 3 _ (by decide)]; exact kk.2.1, by dsimp only; rw [hl 10 _ (by decide)]; exact kk.2.2⟩, (hl 2 _ (by decide)).trans e2⟩
        · exact ⟨k, rfl⟩
      · split
        · split
          · rename_i h
            exact ⟨MI_hat kk (hk (draws_hou h)), (hat_same kk.1 (hk (draws_hou h))).2.1.trans e2⟩
          · exact ⟨k, rfl⟩
        · split
          · split
            · rename_i h
              exact ⟨MI_forget kk (hk (forgets_hou h)), (forget_same kk.1 (hk (forgets_hou h))).2.1.trans e2⟩
            · exact ⟨k, rfl⟩
          · split
            · have h := keepsM_ok (L := L) k (cI v)
              exact ⟨h.1, h.2.2⟩
            · exact ⟨k, rfl⟩
/-- the doings of a text, one after the other, as far as they are done -/
def playM (D : Nat → Int32 × Int32 × Int32 × Int32) (L : Lw) : Nat → Nat → (Nat → Int32) → Int32 × (Nat → Int32)
  | 0, _, a => (-1, a)
  | m + 1, k, a => if (doM a L (D k).1 (D k).2.1 (D k).2.2.1 (D k).2.2.2).1 = true then playM D L m (k + 1) (doM a L (D k).1 (D k).2.1 (D k).2.2.1 (D k).2.2.2).2 else (nI k, (doM a L (D k).1 (D k).2.1 (D k).2.2.1 (D k).2.2.2).2)
/-- the clause k of a text laid at t -/
def clauseD (X : Nat → Int32) (t k : Nat) : Int32 × Int32 × Int32 × Int32 := (X (705 * t + 1 + 4 * k), X (705 * t + 1 + 4 * k + 1), X (705 * t + 1 + 4 * k + 2), X (705 * t + 1 + 4 * k + 3))
def dayOk (q v : Int32) : Prop := q = 8 → 0 ≤ v.toInt ∧ v.toInt ≤ 60
