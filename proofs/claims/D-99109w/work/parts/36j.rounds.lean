/-! ROUNDS: the lowest set that is a round, in two orders that are one (by hand) -/
set_option maxRecDepth 100000
def fS (p : Int32 → Bool) : List Int32 → Int32 → Int32
  | [], c => c
  | x :: r, c => if p x = true then x else fS p r c
theorem fS_app {p : Int32 → Bool} {c : Int32} : ∀ (l r : List Int32), fS p (l ++ r) c = fS p l (fS p r c)
  | [], _ => rfl
  | x :: l, r => by
    show (if p x = true then x else fS p (l ++ r) c) = (if p x = true then x else fS p l (fS p r c))
    rw [fS_app l r]
theorem srch_fS {p : Int32 → Bool} {f : Nat → Int32} {c : Int32} : ∀ m k, srch (fun j => p (f j)) f c m k = fS p ((List.range' k m).map f) c
  | 0, _ => rfl
  | m + 1, k => by
    show (if p (f k) = true then f k else srch (fun j => p (f j)) f c m (k + 1)) = _
    rw [srch_fS m (k + 1), List.range'_succ]
    rfl
def rL2 (f : Nat → Nat → Int32) : Nat → Nat → List Int32
  | 0, _ => []
  | m + 1, k => (List.range' 0 k).map (fun x => f k x) ++ rL2 f m (k + 1)
theorem nst_fS {p : Int32 → Bool} {g : Nat → Int32 → Int32} {ll : Nat → List Int32} (hg : ∀ k c, g k c = fS p (ll k) c) {c : Int32} : ∀ m k, nst g c m k = fS p (((List.range' k m).map ll).flatten) c
  | 0, _ => rfl
  | m + 1, k => by
    show g k (nst g c m (k + 1)) = _
    rw [nst_fS hg m (k + 1), hg, ← fS_app, List.range'_succ]
    rfl
def setA1 : List Int32 := (List.range' 0 20).map (fun x => bit (nI x))
def setA2 : List Int32 := ((List.range' 0 20).map (fun y => (List.range' 0 y).map (fun x => bit (nI x) ||| bit (nI y)))).flatten
def setA3 : List Int32 := ((List.range' 0 20).map (fun u => ((List.range' 0 u).map (fun y => (List.range' 0 y).map (fun x => bit (nI x) ||| bit (nI y) ||| bit (nI u)))).flatten)).flatten
def genL : Nat → Int32 → List Int32
  | 0, _ => []
  | n + 1, x => x :: genL n (likeI x)
theorem gen_it (x : Int32) : ∀ C k, (List.range' k C).map (fun j => iter likeI j x) = genL C (iter likeI k x)
  | 0, _ => rfl
  | C + 1, k => by
    rw [List.range'_succ, List.map_cons, gen_it x C (k + 1)]
    rfl
theorem gen1 : genL 20 1 = setA1 := by decide +kernel
theorem gen2 : genL 190 3 = setA2 := by decide +kernel
theorem gen3 : genL 1140 7 = setA3 := by decide +kernel
theorem rounds_M (v : Vw) : v.rounds = if v.rnd 0 = true then 0 else fS v.rnd setA1 (fS v.rnd setA2 (fS v.rnd setA3 15)) := by
  have e1 : ∀ c, v.rd1 c 0 = fS v.rnd setA1 c := fun c => srch_fS (p := v.rnd) (f := fun x => bit (nI x)) 20 0
  have e2 : ∀ c, v.ry c 0 = fS v.rnd setA2 c := fun c => nst_fS (p := v.rnd) (ll := fun y => (List.range' 0 y).map (fun x => bit (nI x) ||| bit (nI y))) (fun y c => srch_fS (p := v.rnd) (f := fun x => bit (nI x) ||| bit (nI y)) y 0) 20 0
  have e3 : v.ru 0 = fS v.rnd setA3 15 := nst_fS (p := v.rnd) (ll := fun u => ((List.range' 0 u).map (fun y => (List.range' 0 y).map (fun x => bit (nI x) ||| bit (nI y) ||| bit (nI u)))).flatten) (fun u c => nst_fS (p := v.rnd) (ll := fun y => (List.range' 0 y).map (fun x => bit (nI x) ||| bit (nI y) ||| bit (nI u))) (fun y c => srch_fS (p := v.rnd) (f := fun x => bit (nI x) ||| bit (nI y) ||| bit (nI u)) y 0) u 0) 20 0
  unfold Vw.rounds
  rw [e3, e2, e1]
theorem rndS_fS (v : Vw) (c : Int32) (C : Nat) (x : Int32) : rndS v c C x = fS v.rnd (genL C x) c := by
  have q := srch_fS (p := v.rnd) (f := fun k => iter likeI k x) (c := c) C 0
  rw [gen_it x C 0] at q
  exact q
/-! who is there -/
theorem msk7 : ∀ N, N ≤ 7 → ∀ i, i < 32 → tb ((1 : Int32) <<< (nI N &&& 31) - 1) i = decide (i < N) := by decide
section THERE
variable {N : Nat} {a r n : Nat → Int32}
theorem there_tb (n0 : n 0 = nI N) (h7 : N ≤ 7) {i : Nat} (hi : i < 32) : tb ((vwS n r).thereI (r 2)) i = (decide (i < N) && !tb (r 2) i) := by
  unfold Vw.thereI
  rw [tb_andn, show (vwS n r).N = nI N from n0, msk7 N h7 i hi]
theorem her_tb (n0 : n 0 = nI N) (h7 : N ≤ 7) {k : Nat} (hk : k < N) : (vwS n r).her (nI k) = !tb (r 2) k := by
  have hh : (vwS n r).hou (nI k) = true := N_hou (a := n) n0 h7 hk
  rw [her_go hh, vwS_go hh, has_tb (by omega)]
theorem srch_v {p : Nat → Bool} {f : Nat → Int32} {d : Int32} : ∀ m k, ((∀ j, k ≤ j → j < k + m → p j = false) ∧ srch p f d m k = d) ∨ ∃ j, k ≤ j ∧ j < k + m ∧ p j = true ∧ srch p f d m k = f j
  | 0, k => Or.inl ⟨fun j h1 h2 => by omega, rfl⟩
  | m + 1, k => by
    have e : srch p f d (m + 1) k = if p k then f k else srch p f d m (k + 1) := rfl
    cases z : p k
    · rw [z] at e
      rcases srch_v m (k + 1) with ⟨h1, h2⟩ | ⟨j, h1, h2, h3, h4⟩
      · refine Or.inl ⟨fun j q1 q2 => ?_, e.trans h2⟩
        by_cases y : j = k
        · subst y; exact z
        · exact h1 j (by omega) (by omega)
      · exact Or.inr ⟨j, by omega, by omega, h3, e.trans h4⟩
    · rw [z] at e
      exact Or.inr ⟨k, Nat.le_refl _, by omega, z, e⟩
theorem rnd_0 (n0 : n 0 = nI N) (h7 : N ≤ 7) : ((vwS n r).rnd 0 = true) ↔ (vwS n r).thereI (r 2) = 0 := by
  have en : (vwS n r).n = N := by show cI (n 0) = N; rw [n0]; exact cI_nI (by omega)
  unfold Vw.rnd Vw.isRound
  rw [en, Nat.sub_zero]
  refine Iff.trans ?_ zero_tb.symm
  have q := srch_v (p := fun k => (vwS n r).her (nI k) && decide ((0 : Int32) &&& ((vwS n r).sh (nI k) ^^^ -1) = 0)) (f := fun _ => 0) (d := 1) N 0
  rcases q with ⟨h1, h2⟩ | ⟨j, h1, h2, h3, h4⟩
  · rw [h2]
    refine ⟨fun _ i hi => ?_, fun _ => rfl⟩
    rw [there_tb n0 h7 hi]
    by_cases z : i < N
    · have := h1 i (Nat.zero_le _) (by omega)
      rw [zero_and', decide_eq_true rfl, Bool.and_true, her_tb n0 h7 z] at this
      rw [this, Bool.and_false]
    · rw [decide_eq_false z]; rfl
  · rw [h4]
    refine ⟨fun q => absurd q (by decide), fun q => ?_⟩
    exfalso
    have := q j (by omega)
    rw [there_tb n0 h7 (by omega), decide_eq_true (by omega : j < N), Bool.true_and] at this
    rw [zero_and', decide_eq_true rfl, Bool.and_true, her_tb n0 h7 (by omega), this] at h3
    exact Bool.noConfusion h3
theorem rounds_eq (n0 : n 0 = nI N) (h7 : N ≤ 7) : (vwS n r).roundsS (r 2) = (vwS n r).rounds := by
  rw [rounds_M]
  unfold Vw.roundsS
  rw [rndS_fS, rndS_fS, rndS_fS, gen1, gen2, gen3]
  have q := rnd_0 (r := r) n0 h7
  by_cases z : (vwS n r).thereI (r 2) = 0
  · rw [if_pos z, if_pos (q.mpr z)]
  · rw [if_neg z, if_neg (fun y => z (q.mp y))]
end THERE
