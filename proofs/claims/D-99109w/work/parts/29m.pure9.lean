/-! PURE 9: days to come -/
set_option maxRecDepth 100000
theorem passM_out {a : Nat → Int32} {L : Lw} {j : Nat} (hn : (vwM a).ok) (hj : j < 8 ∨ 68 ≤ j) : passM a L j = a j := (up_ne (by omega)).trans (passH_out (Vw.n7 hn) (by omega))
theorem goesM_out {a : Nat → Int32} {L : Lw} {j : Nat} (k : MI a) (hj : j < 8 ∨ 68 ≤ j) : ∀ m, goesM a L m j = a j
  | 0 => rfl
  | m + 1 => by
    have h := goesM_ok (L := L) k m
    have e : goesM a L (m + 1) = if goesM a L m 8 < 9999 then passM (goesM a L m) L else goesM a L m := rfl
    rw [e]
    split
    · rw [passM_out h.1.1 hj, goesM_out k hj m]
    · exact goesM_out k hj m
theorem back_goes {a F : Nat → Int32} {L : Lw} {m : Nat} (k : MI a) : mv (goesM a L m) 8 (fun j => mv F 8 (fun i => a (8 + i)) 60 (8 + j)) 60 = a := by
  funext j
  by_cases h : 8 ≤ j ∧ j < 68
  · rw [mv_in h.1 (by omega), mv_in (by omega) (by omega)]
    congr 1
    omega
  · rw [mv_out (by omega), goesM_out k (by omega)]
def Vw.poor (v : Vw) : Nat → Int32
  | 0 => -1
  | k + 1 => if v.her (nI k) && (decide (v.poor k = -1) || decide (v.pu (nI k) < v.pu (v.poor k))) then nI k else v.poor k
theorem Vw.poor_hou {v : Vw} (hn : v.ok) : ∀ k, k ≤ v.n → v.poor k = -1 ∨ v.hou (v.poor k) = true
  | 0, _ => Or.inl rfl
  | k + 1, h => by
    have e : v.poor (k + 1) = if v.her (nI k) && (decide (v.poor k = -1) || decide (v.pu (nI k) < v.pu (v.poor k))) then nI k else v.poor k := rfl
    rw [e]
    split
    · exact Or.inr (Vw.hou_k hn (by omega))
    · exact poor_hou hn k (by omega)
def Vw.sumPu (v : Vw) : Nat → Int32 := sumUp (fun k => if v.her (nI k) then v.pu (nI k) else 0)
/-- the first of the greatest above -1 -/
def mostOf (f : Nat → Int32) : Nat → Int32 × Int32
  | 0 => (-1, -1)
  | k + 1 => if f k ≤ (mostOf f k).2 then mostOf f k else (nI k, f k)
def earnedF (L : Lw) (v : Vw) (day date : Int32) : Int32 := sumUp (fun k => if v.opn (nI k) date then earnF L v (nI k) (day + (date - day % 20 + 20) % 20) else 0) v.n
def Qs (s : Sg) (h' : AH) : Prop := ∃ F N V B, h' = hp (sn (s.setA 634 F) N V B)
theorem Qs.of {s : Sg} {F N : Nat → Int32} {V : Nat → Int64} {B : Nat → Bool} : Qs s (hp (sn (s.setA 634 F) N V B)) := ⟨_, _, _, _, rfl⟩
theorem setA_com {s : Sg} {j k : Nat} {f g : Nat → Int32} (h : j ≠ k) : (s.setA j f).setA k g = (s.setA k g).setA j f := by
  show (up (up s.A j f) k g, s.2) = (up (up s.A k g) j f, s.2)
  rw [up_com h]
/-- the state with its days kept aside -/
def asd (s : Sg) (F : Nat → Int32) : Sg := s.setA 634 F
theorem asd_626 {s : Sg} {F : Nat → Int32} : (asd s F).A 626 = s.A 626 := setA_ne (by decide)
theorem asd_628 {s : Sg} {F : Nat → Int32} : (asd s F).A 628 = s.A 628 := setA_ne (by decide)
theorem asd_634 {s : Sg} {F : Nat → Int32} : (asd s F).A 634 = F := setA_at
