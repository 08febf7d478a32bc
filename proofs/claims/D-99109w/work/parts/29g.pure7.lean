/-! PURE 7: what is kept by what happens -/
set_option maxRecDepth 100000
def MI (a : Nat → Int32) : Prop := (vwM a).ok ∧ (∃ c, c ≤ 30 ∧ a 3 = nI c) ∧ ∃ w, w ≤ 40 ∧ a 10 = nI w
theorem MI.n {a : Nat → Int32} (h : MI a) : (vwM a).ok := h.1
/-- outside of the houses, the day, the draws and the book all is as it was -/
def sameM (a b : Nat → Int32) : Prop := b 0 = a 0 ∧ b 2 = a 2 ∧ b 3 = a 3
theorem sameM.refl (a : Nat → Int32) : sameM a a := ⟨rfl, rfl, rfl⟩
theorem sameM.trans {a b c : Nat → Int32} (h : sameM a b) (k : sameM b c) : sameM a c := ⟨k.1.trans h.1, k.2.1.trans h.2.1, k.2.2.trans h.2.2⟩
theorem MI.of {a b : Nat → Int32} (h : MI a) (k : sameM a b) (w : ∃ w, w ≤ 40 ∧ b 10 = nI w) : MI b := ⟨ok_of k.1.symm h.1, by rw [k.2.2]; exact h.2.1, w⟩
theorem LawM.by {a b X : Nat → Int32} {L : Lw} (k : sameM a b) (h : LawM a X L) : LawM b X L := h.to k.2.1.symm
theorem hou_nat {a : Nat → Int32} {h : Int32} (hn : (vwM a).ok) (hh : (vwM a).hou h = true) : ∃ k, k < 7 ∧ h = nI k := by
  have := Vw.hou_b hn hh
  exact ⟨cI h, by have := cI_of this.1; omega, (nI_cI this.1).symm⟩
theorem passM_same {a : Nat → Int32} {L : Lw} (hn : (vwM a).ok) : sameM a (passM a L) := by
  have h7 := Vw.n7 hn
  refine ⟨?_, ?_, ?_⟩ <;> exact (up_ne (by decide)).trans (passH_out h7 (by omega))
theorem passM_10 {a : Nat → Int32} {L : Lw} (hn : (vwM a).ok) : passM a L 10 = a 10 := (up_ne (by decide)).trans (passH_out (Vw.n7 hn) (by omega))
theorem MI_pass {a : Nat → Int32} {L : Lw} (h : MI a) : MI (passM a L) := h.of (passM_same h.1) (by rw [passM_10 h.1]; exact h.2.2)
theorem ptM_same {a : Nat → Int32} {h w : Nat} {v : Int32} (hh : h < 8) (hw : w < 8) : sameM a (ptM a (nI h) (nI w) v) := ⟨ptM_out hh hw (by omega), ptM_out hh hw (by omega), ptM_out hh hw (by omega)⟩
theorem writeM_out {a : Nat → Int32} {w : Nat} {h z : Int32} {j : Nat} (hj : j ≠ 10) (hj2 : j < 2268) : writeM a w h z j = a j := by
  unfold writeM
  split
  · unfold pageM shiftB
    rw [up_ne hj, up_ne (by omega), up_ne hj, mv_out (by omega)]
  · unfold pageM
    rw [up_ne hj, up_ne (by omega)]
theorem writeM_10 {a : Nat → Int32} {w : Nat} {h z : Int32} (hw : w ≤ 40) : ∃ w2, w2 ≤ 40 ∧ writeM a w h z 10 = nI w2 := by
  unfold writeM
  split
  · exact ⟨40, by omega, up_eq⟩
  · exact ⟨w + 1, by omega, up_eq⟩
/-- a knock -/
def knockB (a : Nat → Int32) (h : Int32) : Nat → Int32 := writeM a (cI (a 10)) h (b2i (hasI (gtM a h 0) (a 8 % 20)))
def knockM (a : Nat → Int32) (L : Lw) (h : Int32) : Nat → Int32 := ptM (knockB a h) h 2 (cutI (gtM (knockB a h) h 2 + (if hasI (gtM a h 0) (a 8 % 20) then -1 else b2i (letF L (vwM (knockB a h)) h (knockB a h 8)))) 0 99)
theorem knockB_same {a : Nat → Int32} {h : Int32} : sameM a (knockB a h) := ⟨writeM_out (by decide) (by decide), writeM_out (by decide) (by decide), writeM_out (by decide) (by decide)⟩
theorem MI_knockB {a : Nat → Int32} {h : Int32} (k : MI a) : MI (knockB a h) := k.of knockB_same (by
  obtain ⟨w, h1, h2⟩ := k.2.2
  unfold knockB
  rw [h2, cI_nI (by omega)]
  exact writeM_10 h1)
theorem knockM_same {a : Nat → Int32} {L : Lw} {h : Int32} (hn : (vwM a).ok) (hh : (vwM a).hou h = true) : sameM a (knockM a L h) := by
  obtain ⟨k, hk, rfl⟩ := hou_nat hn hh
  exact knockB_same.trans (ptM_same (w := 2) (by omega) (by decide))
theorem MI_knock {a : Nat → Int32} {L : Lw} {h : Int32} (k : MI a) (hh : (vwM a).hou h = true) : MI (knockM a L h) := by
  have k2 := MI_knockB (h := h) k
  refine k.of (knockM_same k.1 hh) ?_
  obtain ⟨q, hq, rfl⟩ := hou_nat k.1 hh
  unfold knockM
  rw [show (2 : Int32) = nI 2 from rfl, ptM_out (by omega) (by decide) (by omega)]
  exact k2.2.2
theorem keepM_lo {a : Nat → Int32} {c j : Nat} (hc : c ≤ 30) (hj : j < 108) (h3 : j ≠ 3) : keepM a c j = a j := by
  unfold keepM
  split
  · unfold keepT shiftM
    rw [up_ne h3, gt_keepR (h := 0) (by omega) hj, up_ne h3, mv_out (by omega)]
  · unfold keepT
    rw [up_ne h3, gt_keepR (h := 0) (by omega) hj]
theorem keepM_3 {a : Nat → Int32} {c : Nat} (hc : c ≤ 30) : ∃ c2, c2 ≤ 30 ∧ keepM a c 3 = nI c2 := by
  unfold keepM
  split
  · exact ⟨30, by omega, up_eq⟩
  · exact ⟨c + 1, by omega, up_eq⟩
def keepI (a : Nat → Int32) : Nat → Int32 := keepM a (cI (a 3))
theorem keepI_lo {a : Nat → Int32} {j : Nat} (k : MI a) (hj : j < 108) (h3 : j ≠ 3) : keepI a j = a j := by
  obtain ⟨c, h1, h2⟩ := k.2.1
  exact keepM_lo (by rw [h2, cI_nI (by omega)]; exact h1) hj h3
theorem MI_keep {a : Nat → Int32} (k : MI a) : MI (keepI a) := by
  refine ⟨ok_of (keepI_lo k (by decide) (by decide)).symm k.1, ?_, by rw [keepI_lo k (by decide) (by decide)]; exact k.2.2⟩
  obtain ⟨c, h1, h2⟩ := k.2.1
  exact keepM_3 (by rw [h2, cI_nI (by omega)]; exact h1)
theorem LawM.keep {a X : Nat → Int32} {L : Lw} (k : MI a) (h : LawM a X L) : LawM (keepI a) X L := h.to (keepI_lo k (by decide) (by decide)).symm
theorem hatR_out {h : Nat} (hh : h < 8) : ∀ (m : Nat) (a : Nat → Int32) {j : Nat}, j ≠ 9 → j ≠ 12 + 8 * h → (hatR (nI h) m a).2 j = a j
  | 0, _, _, _, _ => rfl
  | m + 1, a, j, h9, hj => by
    unfold hatR
    split
    · exact (hatR_out hh m _ h9 hj).trans (up_ne h9)
    · exact (ptM_out (w := 0) hh (by decide) hj).trans (up_ne h9)
theorem hat_same {a : Nat → Int32} {h : Int32} {m : Nat} (hn : (vwM a).ok) (hh : (vwM a).hou h = true) : sameM a (hatR h m a).2 := by
  obtain ⟨k, hk, rfl⟩ := hou_nat hn hh
  exact ⟨hatR_out (by omega) m a (by decide) (by omega), hatR_out (by omega) m a (by decide) (by omega), hatR_out (by omega) m a (by decide) (by omega)⟩
theorem MI_hat {a : Nat → Int32} {h : Int32} {m : Nat} (k : MI a) (hh : (vwM a).hou h = true) : MI (hatR h m a).2 := by
  refine k.of (hat_same k.1 hh) ?_
  obtain ⟨q, hq, rfl⟩ := hou_nat k.1 hh
  rw [hatR_out (by omega) m a (by decide) (by omega)]
  exact k.2.2
def forgetM (a : Nat → Int32) (dt h : Int32) : Nat → Int32 := ptM a h 0 (gtM a h 0 &&& (bit dt ^^^ -1))
theorem forget_same {a : Nat → Int32} {h dt : Int32} (hn : (vwM a).ok) (hh : (vwM a).hou h = true) : sameM a (forgetM a dt h) := by
  obtain ⟨k, hk, rfl⟩ := hou_nat hn hh
  exact ptM_same (w := 0) (by omega) (by decide)
theorem MI_forget {a : Nat → Int32} {h dt : Int32} (k : MI a) (hh : (vwM a).hou h = true) : MI (forgetM a dt h) := by
  refine k.of (forget_same k.1 hh) ?_
  obtain ⟨q, hq, rfl⟩ := hou_nat k.1 hh
  unfold forgetM
  rw [show (0 : Int32) = nI 0 from rfl, ptM_out (by omega) (by decide) (by omega)]
  exact k.2.2
theorem draw_same {a : Nat → Int32} : sameM a (drawN a) := ⟨up_ne (by decide), up_ne (by decide), up_ne (by decide)⟩
theorem MI_draw {a : Nat → Int32} (k : MI a) : MI (drawN a) := k.of draw_same (by unfold drawN; rw [up_ne (by decide)]; exact k.2.2)
theorem MI_9 {a : Nat → Int32} {x : Int32} (k : MI a) : MI (up a 9 x) := k.of ⟨up_ne (by decide), up_ne (by decide), up_ne (by decide)⟩ (by rw [up_ne (by decide)]; exact k.2.2)
/-- days that pass one by one, each kept -/
def keepsM (a : Nat → Int32) (L : Lw) : Nat → (Nat → Int32) := fun k => iter (fun b => if b 8 = 9999 then b else passM (keepI b) L) k a
def goesM (a : Nat → Int32) (L : Lw) : Nat → (Nat → Int32) := fun k => iter (fun b => if b 8 < 9999 then passM b L else b) k a
def happM (a : Nat → Int32) (L : Lw) (x : Int32) : Nat → Int32 :=
  if x % 6 = 2 then (if x % 4 = 0 ∧ (vwM a).draws (x % a 0) = true then (hatR (x % a 0) 20 a).2 else a)
  else if x % 6 = 3 then (if x % 3 = 0 ∧ (vwM a).forgets (x % 20) (x % a 0) = true then forgetM a (x % 20) (x % a 0) else a)
  else if x % 6 = 4 ∨ x % 6 = 5 then (if a 8 < 9999 then passM a L else a)
  else if (vwM a).her (x % a 0) = true then knockM a L (x % a 0) else a
def yearM (a : Nat → Int32) (L : Lw) : Nat → (Nat → Int32) := fun k => iter (fun b => happM (drawN b) L (b 9)) k a
theorem draws_hou {v : Vw} {h : Int32} (k : v.draws h = true) : v.hou h = true := Vw.her_hou (Bool.and_eq_true_iff.mp k).1
theorem forgets_hou {v : Vw} {dt h : Int32} (k : v.forgets dt h = true) : v.hou h = true := Vw.her_hou (Bool.and_eq_true_iff.mp k).1
theorem happM_ok {a : Nat → Int32} {L : Lw} {x : Int32} (k : MI a) : MI (happM a L x) ∧ sameM a (happM a L x) := by
  unfold happM
  split
  · split
    · rename_i h; exact ⟨MI_hat k (draws_hou h.2), hat_same k.1 (draws_hou h.2)⟩
    · exact ⟨k, sameM.refl _⟩
  · split
    · split
      · rename_i h; exact ⟨MI_forget k (forgets_hou h.2), forget_same k.1 (forgets_hou h.2)⟩
      · exact ⟨k, sameM.refl _⟩
    · split
      · split
        · exact ⟨MI_pass k, passM_same k.1⟩
        · exact ⟨k, sameM.refl _⟩
      · split
        · rename_i h; exact ⟨MI_knock k (Vw.her_hou h), knockM_same k.1 (Vw.her_hou h)⟩
        · exact ⟨k, sameM.refl _⟩
theorem yearM_ok {a : Nat → Int32} {L : Lw} (k : MI a) : ∀ m, MI (yearM a L m) ∧ sameM a (yearM a L m)
  | 0 => ⟨k, sameM.refl _⟩
  | m + 1 => by
    obtain ⟨h1, h2⟩ := yearM_ok k m
    have h3 := happM_ok (L := L) (x := yearM a L m 9) (MI_draw h1)
    exact ⟨h3.1, h2.trans (draw_same.trans h3.2)⟩
theorem goesM_ok {a : Nat → Int32} {L : Lw} (k : MI a) : ∀ m, MI (goesM a L m) ∧ sameM a (goesM a L m)
  | 0 => ⟨k, sameM.refl _⟩
  | m + 1 => by
    obtain ⟨h1, h2⟩ := goesM_ok k m
    have e : goesM a L (m + 1) = if goesM a L m 8 < 9999 then passM (goesM a L m) L else goesM a L m := rfl
    rw [e]
    split
    · exact ⟨MI_pass h1, h2.trans (passM_same h1.1)⟩
    · exact ⟨h1, h2⟩
theorem keepsM_ok {a : Nat → Int32} {L : Lw} (k : MI a) : ∀ m, MI (keepsM a L m) ∧ keepsM a L m 0 = a 0 ∧ keepsM a L m 2 = a 2
  | 0 => ⟨k, rfl, rfl⟩
  | m + 1 => by
    obtain ⟨h1, h2, h3⟩ := keepsM_ok (L := L) k m
    have e : keepsM a L (m + 1) = if keepsM a L m 8 = 9999 then keepsM a L m else passM (keepI (keepsM a L m)) L := rfl
    rw [e]
    split
    · exact ⟨h1, h2, h3⟩
    · have k2 := MI_keep h1
      have k3 := passM_same (L := L) k2.1
      exact ⟨MI_pass k2, k3.1.trans ((keepI_lo h1 (by decide) (by decide)).trans h2), k3.2.1.trans ((keepI_lo h1 (by decide) (by decide)).trans h3)⟩
