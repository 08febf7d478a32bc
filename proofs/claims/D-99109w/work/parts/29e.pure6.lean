/-! PURE 6: a day that passes -/
set_option maxRecDepth 100000
def moreF (L : Lw) (v : Vw) (h day : Int32) : Int32 := if hasI (v.sh h) (day % 20) then -(loseF L v h day) else earnF L v h day
def passH (a : Nat → Int32) (L : Lw) : Nat → (Nat → Int32)
  | 0 => a
  | m + 1 => if gtM (passH a L m) (nI m) 3 = 1 then passH a L m else ptM (passH a L m) (nI m) 1 (cutI (gtM (passH a L m) (nI m) 1 + moreF L (vwM (passH a L m)) (nI m) (passH a L m 8)) 0 9999)
def passM (a : Nat → Int32) (L : Lw) : Nat → Int32 := up (passH a L (vwM a).n) 8 (a 8 + 1)
theorem ptM_out {a : Nat → Int32} {h w j : Nat} {v : Int32} (hh : h < 8) (hw : w < 8) (hj : j ≠ 12 + 8 * h + w) : ptM a (nI h) (nI w) v j = a j := by
  unfold ptM
  have e3 : cI (12 + 8 * nI h + nI w) = 12 + 8 * h + w := at3 12 8 h w (by omega)
  rw [e3, up_ne hj]
theorem passH_out {a : Nat → Int32} {L : Lw} {j : Nat} : ∀ {m : Nat}, m ≤ 7 → (∀ h, h < 7 → j ≠ 12 + 8 * h + 1) → passH a L m j = a j
  | 0, _, _ => rfl
  | m + 1, h, hj => by
    unfold passH
    split
    · exact passH_out (by omega) hj
    · exact (ptM_out (w := 1) (by omega) (by omega) (hj m (by omega))).trans (passH_out (by omega) hj)
theorem SumL_of {a b X : Nat → Int32} {q : Int32} {f : Option SumF} (e : a 2 = b 2) (h : SumL a X q f) : SumL b X q f := by unfold SumL at *; rwa [← e]
theorem AskL_of {a b X : Nat → Int32} {q : Int32} {f : Option AskF} (e : a 2 = b 2) (h : AskL a X q f) : AskL b X q f := by unfold AskL at *; rwa [← e]
theorem LawM.to {a b X : Nat → Int32} {L : Lw} (e : a 2 = b 2) (h : LawM a X L) : LawM b X L := ⟨SumL_of e h.1, SumL_of e h.2.1, AskL_of e h.2.2.1, h.2.2.2⟩
theorem ok_of {a b : Nat → Int32} (e : a 0 = b 0) (h : (vwM a).ok) : (vwM b).ok := by unfold Vw.ok Vw.N at *; show 0 ≤ (b 0).toInt ∧ (b 0).toInt ≤ 7; rw [← e]; exact h
theorem n_of {a b : Nat → Int32} (e : a 0 = b 0) : (vwM a).n = (vwM b).n := congrArg cI e
theorem hou_of0 {a b : Nat → Int32} (e : a 0 = b 0) {h : Int32} (hh : (vwM a).hou h = true) : (vwM b).hou h = true := by unfold Vw.hou Vw.N at *; show inI h 0 (b 0 - 1) = true; rw [← e]; exact hh
