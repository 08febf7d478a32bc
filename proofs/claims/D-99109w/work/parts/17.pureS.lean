/-! PURE 2: the system's rows as views -/
set_option maxRecDepth 100000
def vwS (n r : Nat → Int32) : Vw := (n 0, fun h => if inI h 0 (n 0 - 1) then hasI (r 2) h else false, fun h => if inI h 0 (n 0 - 1) then r (cI (3 + h)) else 0, fun h => if inI h 0 (n 0 - 1) then r (cI (10 + h)) else 0, fun h => if inI h 0 (n 0 - 1) then r (cI (17 + h)) else 0)
theorem vwS_go {n r : Nat → Int32} {h : Int32} (hh : (vwS n r).hou h = true) : (vwS n r).go h = hasI (r 2) h := if_pos hh
theorem vwS_sh {n r : Nat → Int32} {h : Int32} (hh : (vwS n r).hou h = true) : (vwS n r).sh h = r (cI (3 + h)) := if_pos hh
theorem vwS_pu {n r : Nat → Int32} {h : Int32} (hh : (vwS n r).hou h = true) : (vwS n r).pu h = r (cI (10 + h)) := if_pos hh
theorem vwS_fr {n r : Nat → Int32} {h : Int32} (hh : (vwS n r).hou h = true) : (vwS n r).fr h = r (cI (17 + h)) := if_pos hh
theorem in_row {v : Vw} {h c : Int32} (hn : v.ok) (hh : v.hou h = true) (h3 : 0 ≤ c.toInt) (h4 : c.toInt ≤ 138) : vp_in (c + h) 145 := by
  have := Vw.hou_b hn hh
  rw [vp_in_iff, addI (by omega) (by omega)]
  omega
def bkS (r : Nat → Int32) : Bw := (r 24, fun i => if i < cI (r 24) then r (25 + 3 * i) else 0, fun i => if i < cI (r 24) then r (26 + 3 * i) else 0, fun i => if i < cI (r 24) then r (27 + 3 * i) else 0)
theorem bkS_d {r : Nat → Int32} {i : Nat} (h : i < (bkS r).n) : (bkS r).d i = r (25 + 3 * i) := if_pos h
theorem bkS_h {r : Nat → Int32} {i : Nat} (h : i < (bkS r).n) : (bkS r).h i = r (26 + 3 * i) := if_pos h
theorem bkS_s {r : Nat → Int32} {i : Nat} (h : i < (bkS r).n) : (bkS r).s i = r (27 + 3 * i) := if_pos h
theorem nI_mul (a b : Nat) : nI a * nI b = nI (a * b) := by
  show Int32.ofNat a * Int32.ofNat b = Int32.ofNat (a * b)
  rw [Int32.ofNat_mul]
/-- where a page begins, and a place in it -/
theorem pg {i : Nat} : (25 : Int32) + 3 * nI i = nI (25 + 3 * i) := by
  rw [show (25 : Int32) = nI 25 from rfl, show (3 : Int32) = nI 3 from rfl, nI_mul, nI_add]
theorem pg_in {i w : Nat} (h : i < 40) (hw : w < 3) : vp_in (nI (25 + 3 * i) + nI w) 145 := by
  rw [nI_add]
  exact vp_in_nI (by omega) (by omega)
theorem pg_at {i w : Nat} (h : i < 40) (hw : w < 3) : cI (nI (25 + 3 * i) + nI w) = 25 + w + 3 * i := by
  rw [nI_add, cI_nI (by omega)]
  omega
def Bw.offS (b : Bw) (n : Nat) : Int32 := Nat.rec (-1) (fun k q => if (if q = -1 then 0 else b.knocksAt q 1) < b.knocksAt (nI k) 1 then nI k else q) n
theorem Bw.off_eq (b : Bw) (n : Nat) (hn : n ≤ 7) : (b.offended n).1 = b.offS n ∧ (b.offended n).2 = if b.offS n = -1 then 0 else b.knocksAt (b.offS n) 1 := by
  induction n with
  | zero => exact ⟨rfl, rfl⟩
  | succ k ih =>
    obtain ⟨h1, h2⟩ := ih (by omega)
    have e : b.offended (k + 1) = if (b.offended k).2 < b.knocksAt (nI k) 1 then (nI k, b.knocksAt (nI k) 1) else b.offended k := rfl
    have e2 : b.offS (k + 1) = if (if b.offS k = -1 then 0 else b.knocksAt (b.offS k) 1) < b.knocksAt (nI k) 1 then nI k else b.offS k := rfl
    rw [e, e2, ← h2]
    by_cases hc : (b.offended k).2 < b.knocksAt (nI k) 1
    · rw [if_pos hc, if_pos hc]
      refine ⟨rfl, ?_⟩
      rw [if_neg]
      intro q
      have h9 := nI_t (k := k) (by omega)
      rw [q] at h9
      rw [tm1] at h9
      omega
    · rw [if_neg hc, if_neg hc]
      exact ⟨h1, h2⟩
def Vw.thereI (v : Vw) (g : Int32) : Int32 := (1 <<< (v.N &&& 31) - 1) &&& (g ^^^ -1)
