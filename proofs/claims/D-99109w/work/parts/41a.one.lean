/-! ONE: doings leave the number of texts alone (by hand) -/
set_option maxRecDepth 100000
section ONE
variable {a : Nat → Int32} {L : Lw} {h : Int32}
theorem passI_1 (k : MI a) : passM a L 1 = a 1 := passM_out k.1 (Or.inl (by decide))
theorem knock_1 (k : MI a) (hh : (vwM a).hou h = true) : knockM a L h 1 = a 1 := by
  obtain ⟨q, hq, rfl⟩ := hou_nat k.1 hh
  exact (ptM_out (w := 2) (by omega) (by decide) (by omega)).trans (writeM_out (by decide) (by decide))
theorem hat_1 {m : Nat} (k : MI a) (hh : (vwM a).hou h = true) : (hatR h m a).2 1 = a 1 := by
  obtain ⟨q, hq, rfl⟩ := hou_nat k.1 hh
  exact hatR_out (by omega) m a (by decide) (by omega)
theorem forget_1 {dt : Int32} (k : MI a) (hh : (vwM a).hou h = true) : forgetM a dt h 1 = a 1 := by
  obtain ⟨q, hq, rfl⟩ := hou_nat k.1 hh
  exact ptM_out (w := 0) (by omega) (by decide) (by omega)
theorem marry_1 {e w : Int32} (k : MI a) (hh : (vwM a).hou h = true) (he : (vwM a).hou e = true) : marryM a h e w 1 = a 1 := by
  obtain ⟨q, hq, rfl⟩ := hou_nat k.1 hh
  obtain ⟨p, hp, rfl⟩ := hou_nat k.1 he
  exact marryM_lo hq hp (by decide)
theorem keep_1 (k : MI a) : keepI a 1 = a 1 := keepI_lo k (by decide) (by decide)
theorem happ_1 {x : Int32} (k : MI a) : happM a L x 1 = a 1 := by
  unfold happM
  split
  · split
    · rename_i h; exact hat_1 k (draws_hou h.2)
    · rfl
  · split
    · split
      · rename_i h; exact forget_1 k (forgets_hou h.2)
      · rfl
    · split
      · split
        · exact passI_1 k
        · rfl
      · split
        · rename_i h; exact knock_1 k (Vw.her_hou h)
        · rfl
theorem year_1 (k : MI a) : ∀ m, yearM a L m 1 = a 1
  | 0 => rfl
  | m + 1 => by
    have h1 := (yearM_ok (L := L) k m).1
    exact (happ_1 (MI_draw h1)).trans ((up_ne (by decide)).trans (year_1 k m))
theorem keeps_1 (k : MI a) : ∀ m, keepsM a L m 1 = a 1
  | 0 => rfl
  | m + 1 => by
    have h1 := (keepsM_ok (L := L) k m).1
    have e : keepsM a L (m + 1) = if keepsM a L m 8 = 9999 then keepsM a L m else passM (keepI (keepsM a L m)) L := rfl
    rw [e]
    split
    · exact keeps_1 k m
    · exact (passI_1 (MI_keep h1)).trans ((keep_1 h1).trans (keeps_1 k m))
theorem do_1 {q v w u : Int32} (k : MI a) : (doM a L q v w u).2 1 = a 1 := by
  have kk := MI_keep k
  have e0 := keepI_lo k (j := 0) (by decide) (by decide)
  have hk : ∀ {h : Int32}, (vwM a).hou h = true → (vwM (keepI a)).hou h = true := fun q => hou_of0 e0.symm q
  unfold doM
  split
  · split
    · rename_i h
      have h7 := okH_n h
      have h0 := k.1
      have h9 : cI (a 0) < 7 := by
        have q1 := cI_of h0.1
        have q2 := h0.2
        have q3 : (a 0).toInt ≠ 7 := fun z => h7 (Int32.toInt_inj.mp (z.trans rfl))
        show cI (a 0) < 7
        have q4 : (cI (a 0) : Int) = (a 0).toInt := q1
        have q5 : (a 0).toInt ≤ 7 := q2
        omega
      exact houseM_lo (j := 1) h9 (by decide) (by decide)
    · rfl
  split
  · split
    · rename_i h; exact (knock_1 kk (hk (Vw.her_hou h))).trans (keep_1 k)
    · rfl
  split
  · split
    · rename_i h; exact (marry_1 kk (hk (weds_hou h).1) (hk (weds_hou h).2)).trans (keep_1 k)
    · rfl
  split
  · show (if (vwM a).draws v = true then (hatR v 20 (keepI a)).2 else a) 1 = a 1
    split
    · rename_i h; exact (hat_1 kk (hk (draws_hou h))).trans (keep_1 k)
    · rfl
  split
  · split
    · rename_i h; exact (forget_1 kk (hk (forgets_hou h))).trans (keep_1 k)
    · rfl
  split
  · exact keeps_1 k _
  · rfl
theorem play_1 (D : Nat → Int32 × Int32 × Int32 × Int32) : ∀ (m k : Nat) (a : Nat → Int32), MI a → (playM D L m k a).2 1 = a 1
  | 0, _, _, _ => rfl
  | m + 1, k, a, h => by
    have e : playM D L (m + 1) k a = if (doM a L (D k).1 (D k).2.1 (D k).2.2.1 (D k).2.2.2).1 = true then playM D L m (k + 1) (doM a L (D k).1 (D k).2.1 (D k).2.2.1 (D k).2.2.2).2 else (nI k, (doM a L (D k).1 (D k).2.1 (D k).2.2.1 (D k).2.2.2).2) := rfl
    rw [e]
    split
    · exact (play_1 D m (k + 1) _ (doM_ok h).1).trans (do_1 h)
    · exact do_1 h
theorem undo_1 {c n m : Nat} : undoM a c n m 1 = a 1 := by
  unfold undoM
  rw [mv_out (by omega), undoH_out (by omega), mv_out (by omega), up_ne (by decide)]
end ONE
