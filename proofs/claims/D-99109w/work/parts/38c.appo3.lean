/-! APPOINTMENTS 3: the system's search, the members, both sides (by hand) -/
set_option maxRecDepth 100000
section VIS
variable {x : Int32} {n N : Nat} {mm ix : Nat → Nat} {v : Vw} {d0 : Int32}
theorem fndL_0 {rec : Int32 → Nat → Option (List Nat)} {day : Nat} (m : Nat) : ∀ k, k + m < 32 → fndL v d0 n ix rec 0 day m k = (rec 0 (day + 1)).map (n :: ·) := by
  induction m with
  | zero => exact fun k _ => rfl
  | succ m ih =>
    intro k hk
    have e : fndL v d0 n ix rec 0 day (m + 1) k = if hasI 0 (nI k) = true then (if hasI (v.sh (nI k)) ((d0 + nI day) % 20) = true then fndL v d0 n ix rec 0 day m (k + 1) else (match rec (0 &&& (bit (nI k) ^^^ -1)) (day + 1) with
      | some r => some (ix k :: r)
      | none => fndL v d0 n ix rec 0 day m (k + 1))) else fndL v d0 n ix rec 0 day m (k + 1) := rfl
    rw [e, if_neg (by rw [has_tb (by omega), tb_0]; decide)]
    exact ih (k + 1) (by omega)
theorem fnd_0 (hN : N ≤ 7) (f : Nat) : ∀ day, fnd v d0 n N ix f 0 day = some (List.replicate f n) := by
  induction f with
  | zero => exact fun _ => rfl
  | succ f ih =>
    intro day
    have e : fnd v d0 n N ix (f + 1) 0 day = fndL v d0 n ix (fnd v d0 n N ix f) 0 day N 0 := rfl
    rw [e, fndL_0 N 0 (by omega), ih]
    rfl
/-- what the search leaves: whether, where -/
def VisR (n : Nat) (mm : Nat → Nat) (r : Vd) (o : Option (List Nat)) (left : Int32) (dy : Nat) (D : Nat → Int32) : Prop := r.1 = o.isSome ∧ (∀ h, tb left h = false → r.2 h = D h) ∧ ∀ ds, o = some ds → ∀ (j i : Nat), ds[j]? = some i → i ≠ n → r.2 (mm i) = nI (dy + j)
theorem vis_fnd (h : MemB x n N mm ix) (hN : N ≤ 7) (hv : v.n = N) (f : Nat) : ∀ (left : Int32) (dy : Nat) (D : Nat → Int32), (∀ k, tb left k = true → tb x k = true) → dy + f < 1000 → VisR n mm (visL v d0 (nI (dy + f)) f left (nI dy) D) (fnd v d0 n N ix f left dy) left dy D := by
  induction f with
  | zero =>
    intro left dy D hs hd
    show VisR n mm (decide (left = 0), D) (if left = 0 then some [] else none) left dy D
    by_cases z : left = 0
    · rw [if_pos z, decide_eq_true z]
      refine ⟨rfl, fun _ _ => rfl, fun ds q j i hj => ?_⟩
      have e := Option.some.inj q
      subst e
      simp at hj
    · rw [if_neg z, decide_eq_false z]
      exact ⟨rfl, fun _ _ => rfl, fun ds q => (Option.some_ne_none _ q.symm).elim⟩
  | succ f ih =>
    intro left dy D hs hd
    have ed : nI (dy + (f + 1)) = nI (dy + 1 + f) := congrArg nI (by omega)
    have eV : visL v d0 (nI (dy + (f + 1))) (f + 1) left (nI dy) D = if left = 0 then (true, D) else if nI (dy + (f + 1)) - nI dy < bcI left then (false, D) else visH v (visL v d0 (nI (dy + (f + 1))) f) left (nI dy) ((d0 + nI dy) % 20) v.n 0 D := rfl
    have eF : fnd v d0 n N ix (f + 1) left dy = fndL v d0 n ix (fnd v d0 n N ix f) left dy N 0 := rfl
    by_cases hz : left = 0
    · subst hz
      rw [eV, if_pos rfl, fnd_0 hN]
      refine ⟨rfl, fun _ _ => rfl, fun ds q j i hj hi => ?_⟩
      have e := Option.some.inj q
      subst e
      exact absurd (List.eq_of_mem_replicate (List.mem_of_getElem? hj)) hi
    · rw [eV, if_neg hz]
      have e1 : nI (dy + (f + 1)) - nI dy = nI (f + 1) := by rw [pk_sub (by omega), show dy + (f + 1) - dy = f + 1 by omega]
      have hp := pcN_le left
      have e2 : (nI (dy + (f + 1)) - nI dy < bcI left) ↔ f + 1 < pcN left := by
        rw [e1, bcI_bits]
        exact nI_ltI (by omega) (by omega)
      by_cases hc : f + 1 < pcN left
      · rw [if_pos (e2.mpr hc)]
        cases ho : fnd v d0 n N ix (f + 1) left dy with
        | none => exact ⟨rfl, fun _ _ => rfl, fun ds q => (Option.some_ne_none _ q.symm).elim⟩
        | some ds =>
          exfalso
          obtain ⟨a1, a2, a3, -⟩ := (fnd_min (v := v) (d0 := d0) h hN (f + 1) left dy hs).2 ds ho
          have := VL_len h hN ds left dy a2 a3
          omega
      · rw [if_neg (fun q => hc (e2.mp q)), hv, eF, ed]
        have lp : ∀ (m k : Nat) (D : Nat → Int32), k + m = N → VisR n mm (visH v (visL v d0 (nI (dy + 1 + f)) f) left (nI dy) ((d0 + nI dy) % 20) m k D) (fndL v d0 n ix (fnd v d0 n N ix f) left dy m k) left dy D := by
          intro m
          induction m with
          | zero =>
            intro k D hk
            have q := ih left (dy + 1) D hs (by omega)
            rw [← nI_1] at q
            have e1 : visH v (visL v d0 (nI (dy + 1 + f)) f) left (nI dy) ((d0 + nI dy) % 20) 0 k D = visL v d0 (nI (dy + 1 + f)) f left (nI dy + 1) D := rfl
            have e2 : fndL v d0 n ix (fnd v d0 n N ix f) left dy 0 k = (fnd v d0 n N ix f left (dy + 1)).map (n :: ·) := rfl
            rw [e1, e2]
            obtain ⟨q1, q2, q3⟩ := q
            cases ho : fnd v d0 n N ix f left (dy + 1) with
            | none =>
              rw [ho] at q1
              exact ⟨q1, q2, fun ds y => (Option.some_ne_none _ y.symm).elim⟩
            | some r0 =>
              rw [ho] at q1
              refine ⟨q1, q2, fun ds y j i hj hi => ?_⟩
              have e := Option.some.inj y
              subst e
              cases j with
              | zero => exact absurd (Option.some.inj hj).symm hi
              | succ j =>
                have := q3 r0 ho j i hj hi
                rw [this]
                exact congrArg nI (by omega)
          | succ m ihm =>
            intro k D hk
            have eH : visH v (visL v d0 (nI (dy + 1 + f)) f) left (nI dy) ((d0 + nI dy) % 20) (m + 1) k D = if hasI left (nI k) = true then (if hasI (v.sh (nI k)) ((d0 + nI dy) % 20) = true then visH v (visL v d0 (nI (dy + 1 + f)) f) left (nI dy) ((d0 + nI dy) % 20) m (k + 1) D else (if (visL v d0 (nI (dy + 1 + f)) f (left &&& (bit (nI k) ^^^ -1)) (nI dy + 1) (up D k (nI dy))).1 = true then visL v d0 (nI (dy + 1 + f)) f (left &&& (bit (nI k) ^^^ -1)) (nI dy + 1) (up D k (nI dy)) else visH v (visL v d0 (nI (dy + 1 + f)) f) left (nI dy) ((d0 + nI dy) % 20) m (k + 1) (visL v d0 (nI (dy + 1 + f)) f (left &&& (bit (nI k) ^^^ -1)) (nI dy + 1) (up D k (nI dy))).2)) else visH v (visL v d0 (nI (dy + 1 + f)) f) left (nI dy) ((d0 + nI dy) % 20) m (k + 1) D := rfl
            have eG : fndL v d0 n ix (fnd v d0 n N ix f) left dy (m + 1) k = if hasI left (nI k) = true then (if hasI (v.sh (nI k)) ((d0 + nI dy) % 20) = true then fndL v d0 n ix (fnd v d0 n N ix f) left dy m (k + 1) else (match fnd v d0 n N ix f (left &&& (bit (nI k) ^^^ -1)) (dy + 1) with
              | some r => some (ix k :: r)
              | none => fndL v d0 n ix (fnd v d0 n N ix f) left dy m (k + 1))) else fndL v d0 n ix (fnd v d0 n N ix f) left dy m (k + 1) := rfl
            by_cases hl : hasI left (nI k) = true
            · have hl2 : tb left k = true := by rw [← has_tb (by omega)]; exact hl
              by_cases hc2 : hasI (v.sh (nI k)) ((d0 + nI dy) % 20) = true
              · rw [eH, eG, if_pos hl, if_pos hl, if_pos hc2, if_pos hc2]
                exact ihm (k + 1) D (by omega)
              · have q := ih (left &&& (bit (nI k) ^^^ -1)) (dy + 1) (up D k (nI dy)) (fun q hq => by rw [tb_andn, Bool.and_eq_true] at hq; exact hs q hq.1) (by omega)
                rw [← nI_1] at q
                rw [eH, eG, if_pos hl, if_pos hl, if_neg hc2, if_neg hc2]
                generalize visL v d0 (nI (dy + 1 + f)) f (left &&& (bit (nI k) ^^^ -1)) (nI dy + 1) (up D k (nI dy)) = R at q ⊢
                obtain ⟨q1, q2, q3⟩ := q
                have hout : ∀ h, tb left h = false → R.2 h = D h := fun y hy => by
                  rw [q2 y (by rw [tb_andn, hy]; rfl), up_ne (fun z => by rw [z, hl2] at hy; exact Bool.noConfusion hy)]
                cases ho : fnd v d0 n N ix f (left &&& (bit (nI k) ^^^ -1)) (dy + 1) with
                | none =>
                  rw [ho] at q1
                  rw [if_neg (by rw [q1]; decide)]
                  obtain ⟨p1, p2, p3⟩ := ihm (k + 1) R.2 (by omega)
                  exact ⟨p1, fun y hy => (p2 y hy).trans (hout y hy), p3⟩
                | some r0 =>
                  rw [ho] at q1
                  rw [if_pos (show R.1 = true from q1)]
                  refine ⟨q1, hout, fun ds y j i hj hi => ?_⟩
                  have e := Option.some.inj y
                  subst e
                  cases j with
                  | zero =>
                    have e : ix k = i := Option.some.inj hj
                    rw [← e, (h.2.1 k (hs k hl2)).2.2, q2 k (by rw [tb_andn, tb_bit (by omega)]; simp), up_eq, Nat.add_zero]
                  | succ j =>
                    have := q3 r0 ho j i hj hi
                    rw [this]
                    exact congrArg nI (by omega)
            · rw [eH, eG, if_neg hl, if_neg hl]
              exact ihm (k + 1) D (by omega)
        exact lp N 0 D (by omega)
/-! the members as the model lays them -/
theorem memF_1 {M : Nat → Int32} : ∀ k, k ≤ 32 → (memF x M k).1 = cB x k
  | 0, _ => rfl
  | k + 1, hk => by
    have ih := memF_1 (M := M) k (by omega)
    have e : memF x M (k + 1) = if hasI x (nI k) = true then ((memF x M k).1 + 1, up (memF x M k).2 (memF x M k).1 (nI k)) else memF x M k := rfl
    have e2 : cB x (k + 1) = cB x k + (tb x k).toNat := rfl
    rw [e, e2, has_tb (by omega)]
    cases tb x k
    · rw [if_neg (by decide)]; exact ih
    · rw [if_pos rfl]; show (memF x M k).1 + 1 = _; rw [ih]; rfl
theorem memF_2 {M : Nat → Int32} : ∀ K, K ≤ 32 → ∀ k, k < K → tb x k = true → (memF x M K).2 (cB x k) = nI k
  | 0, _, k, hk, _ => absurd hk (Nat.not_lt_zero k)
  | K + 1, hK, k, hk, hx => by
    have e : memF x M (K + 1) = if hasI x (nI K) = true then ((memF x M K).1 + 1, up (memF x M K).2 (memF x M K).1 (nI K)) else memF x M K := rfl
    have mono : ∀ j, k < j → cB x k < cB x j := fun j hj => by
      induction j with
      | zero => omega
      | succ j ihj =>
        have e2 : cB x (j + 1) = cB x j + (tb x j).toNat := rfl
        by_cases z : j = k
        · subst z; rw [e2, hx]; show cB x j < cB x j + 1; omega
        · have := ihj (by omega); omega
    by_cases z : k = K
    · subst z
      rw [e, has_tb (by omega), if_pos hx, memF_1 k (by omega)]
      exact up_eq
    · have ih := memF_2 (M := M) K (by omega) k (by omega) hx
      rw [e, has_tb (by omega)]
      cases y : tb x K
      · rw [if_neg (by decide)]; exact ih
      · rw [if_pos rfl, memF_1 K (by omega)]
        show up _ _ _ _ = _
        rw [up_ne (by have := mono K (by omega); omega)]
        exact ih
theorem cB_surj : ∀ K i, i < cB x K → ∃ k, k < K ∧ tb x k = true ∧ cB x k = i
  | 0, i, h => absurd h (Nat.not_lt_zero i)
  | K + 1, i, h => by
    have e2 : cB x (K + 1) = cB x K + (tb x K).toNat := rfl
    by_cases z : i < cB x K
    · obtain ⟨k, a, b, c⟩ := cB_surj K i z
      exact ⟨k, by omega, b, c⟩
    · cases y : tb x K
      · rw [y] at e2; have : (false : Bool).toNat = 0 := rfl; omega
      · rw [y] at e2; have : (true : Bool).toNat = 1 := rfl
        exact ⟨K, by omega, y, by omega⟩
theorem cB_lt {k K : Nat} (hk : k < K) (hx : tb x k = true) : cB x k < cB x K := by
  induction K with
  | zero => omega
  | succ K ih =>
    have e2 : cB x (K + 1) = cB x K + (tb x K).toNat := rfl
    by_cases z : k = K
    · subst z; rw [e2, hx]; show cB x k < cB x k + 1; omega
    · have := ih (by omega); omega
theorem mem_B (hN : N ≤ 7) (hx : ∀ k, tb x k = true → k < N) (M : Nat → Int32) : ∃ mm, MemB x (cB x N) N mm (cB x) ∧ (∀ i, i < cB x N → (memF x M N).2 i = nI (mm i)) ∧ (memF x M N).1 = cB x N := by
  refine ⟨fun i => cI ((memF x M N).2 i), ⟨fun i hi => ?_, fun k hk => ?_, rfl, rfl, fun k => rfl⟩, fun i hi => ?_, memF_1 N (by omega)⟩
  · obtain ⟨k, a, b, c⟩ := cB_surj N i hi
    have e := memF_2 (M := M) N (by omega) k a b
    rw [c] at e
    dsimp only
    rw [e, cI_nI (by omega)]
    exact ⟨b, a, c⟩
  · have a := hx k hk
    refine ⟨a, cB_lt a hk, ?_⟩
    dsimp only
    rw [memF_2 N (by omega) k a hk, cI_nI (by omega)]
  · obtain ⟨k, a, b, c⟩ := cB_surj N i hi
    have e := memF_2 (M := M) N (by omega) k a b
    rw [c] at e
    dsimp only
    rw [e, cI_nI (by omega)]
theorem shC_8 {i dd : Nat} (hd : d0 = nI dd) (hdd : dd < 100000) (hs : ∃ m, m < 1048576 ∧ v.sh (nI (mm i)) = nI m) : shC v d0 mm i 8 0 ≤ pcN (v.sh (nI (mm i))) := by
  obtain ⟨m, m1, m2⟩ := hs
  have eo : ∀ k, k < 100 → (!opI v d0 mm i k).toNat = (tb (v.sh (nI (mm i))) ((dd % 20 + k) % 20)).toNat := fun k hk => by
    unfold opI
    rw [hd, nI_add, day_date (by omega), has_tb (by omega), Bool.not_not, show (dd % 20 + k) % 20 = (dd + k) % 20 by omega]
  have e8 : shC v d0 mm i 8 0 = (!opI v d0 mm i 0).toNat + ((!opI v d0 mm i 1).toNat + ((!opI v d0 mm i 2).toNat + ((!opI v d0 mm i 3).toNat + ((!opI v d0 mm i 4).toNat + ((!opI v d0 mm i 5).toNat + ((!opI v d0 mm i 6).toNat + ((!opI v d0 mm i 7).toNat + 0))))))) := rfl
  have hw := win8 (fun k => (tb (v.sh (nI (mm i))) k).toNat) (dd % 20) (Nat.mod_lt _ (by decide))
  have h20 : pcN (v.sh (nI (mm i))) = rC (v.sh (nI (mm i))) 20 0 := pcN_rC (fun k hk => by
    rw [m2, tb_n, tb_hi m1 hk, Bool.and_false])
  rw [e8, eo 0 (by decide), eo 1 (by decide), eo 2 (by decide), eo 3 (by decide), eo 4 (by decide), eo 5 (by decide), eo 6 (by decide), eo 7 (by decide), h20]
  exact hw
theorem shC_mono (i : Nat) : ∀ (m day k : Nat), shC v d0 mm i m day ≤ shC v d0 mm i (m + k) day
  | 0, _, _ => Nat.zero_le _
  | m + 1, day, k => by
    have := shC_mono i m (day + 1) k
    rw [show m + 1 + k = (m + k) + 1 by omega]
    show (!opI v d0 mm i day).toNat + shC v d0 mm i m (day + 1) ≤ (!opI v d0 mm i day).toNat + shC v d0 mm i (m + k) (day + 1)
    omega
end VIS
