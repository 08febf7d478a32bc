/-! WEDDINGS: the model's rows one after the other are the system's, depth first (by hand) -/
set_option maxRecDepth 100000
section WED
variable {v : Vw} {n : Nat}
abbrev Mf : Type := Nat → Int32
def prM (M : Mf) (h e : Nat) : Mf := up (up M h (nI e)) e (nI h)
/-- all rows that go on from M, whose houses below h are done -/
def LsM (v : Vw) : Nat → Nat → Mf → List Mf
  | 0, _, M => [M]
  | m + 1, h, M => if v.her (nI h) = true ∧ M h = -1 then LsM v m (h + 1) M ++ ((List.range' (h + 1) m).map (fun e => if v.her (nI e) = true ∧ M e = -1 then LsM v m (h + 1) (prM M h e) else [])).flatten else LsM v m (h + 1) M
/-- one step of the model's change, at h -/
def stM (v : Vw) (h : Nat) (M : Mf) : Bool × Mf :=
  if v.her (nI h) = false ∨ ¬ M h = -1 ∧ M h < nI h then (false, M)
  else if nmF v (freeM M h) (if M h = -1 then h + 1 else cI (M h) + 1) = -1 then (false, freeM M h)
  else (true, up (up (freeM M h) h (nmF v (freeM M h) (if M h = -1 then h + 1 else cI (M h) + 1))) (cI (nmF v (freeM M h) (if M h = -1 then h + 1 else cI (M h) + 1))) (nI h))
/-- the change, from the last house down to h -/
def runM (v : Vw) : Nat → Nat → Mf → Bool × Mf
  | 0, _, M => (false, M)
  | m + 1, h, M => if (runM v m (h + 1) M).1 = true then runM v m (h + 1) M else stM v h (runM v m (h + 1) M).2
theorem nrF_s (k : Nat) (M : Mf) : nrF v (k + 1) M = if (stM v k M).1 = true then stM v k M else nrF v k (stM v k M).2 := by
  have e : nrF v (k + 1) M = if v.her (nI k) = false ∨ ¬ M k = -1 ∧ M k < nI k then nrF v k M
      else if nmF v (freeM M k) (if M k = -1 then k + 1 else cI (M k) + 1) = -1 then nrF v k (freeM M k)
      else (true, up (up (freeM M k) k (nmF v (freeM M k) (if M k = -1 then k + 1 else cI (M k) + 1))) (cI (nmF v (freeM M k) (if M k = -1 then k + 1 else cI (M k) + 1))) (nI k)) := rfl
  rw [e]
  unfold stM
  by_cases h1 : v.her (nI k) = false ∨ ¬ M k = -1 ∧ M k < nI k
  · rw [if_pos h1, if_pos h1, if_neg (show ¬ (false : Bool) = true from Bool.false_ne_true)]
  · rw [if_neg h1, if_neg h1]
    by_cases h2 : nmF v (freeM M k) (if M k = -1 then k + 1 else cI (M k) + 1) = -1
    · rw [if_pos h2, if_pos h2, if_neg (show ¬ (false : Bool) = true from Bool.false_ne_true)]
    · rw [if_neg h2, if_neg h2, if_pos rfl]
theorem nrF_run (m : Nat) : ∀ (h : Nat) (M : Mf), nrF v (h + m) M = if (runM v m h M).1 = true then runM v m h M else nrF v h (runM v m h M).2 := by
  induction m with
  | zero =>
    intro h M
    exact (if_neg (show ¬ (runM v 0 h M).1 = true from Bool.false_ne_true)).symm
  | succ m ih =>
    intro h M
    have e : runM v (m + 1) h M = if (runM v m (h + 1) M).1 = true then runM v m (h + 1) M else stM v h (runM v m (h + 1) M).2 := rfl
    rw [show h + (m + 1) = h + 1 + m by omega, ih (h + 1) M, e]
    by_cases z : (runM v m (h + 1) M).1 = true
    · rw [if_pos z, if_pos z, if_pos z]
    · rw [if_neg z, if_neg z, nrF_s]
theorem nrF_all (M : Mf) : nrF v n M = runM v n 0 M := by
  have q := nrF_run (v := v) n 0 M
  rw [Nat.zero_add] at q
  rw [q]
  by_cases z : (runM v n 0 M).1 = true
  · rw [if_pos z]
  · rw [if_neg z]
    show (false, (runM v n 0 M).2) = runM v n 0 M
    exact Prod.ext (by cases y : (runM v n 0 M).1; rfl; exact absurd y z) rfl
/-- a list of which each gives the next; the last gives r -/
def Good (st : Mf → Bool × Mf) : List Mf → Bool × Mf → Prop
  | [], _ => False
  | K :: l, r => (l = [] ∧ st K = r) ∨ ∃ K2 l2, l = K2 :: l2 ∧ st K = (true, K2) ∧ Good st l r
theorem Good.app {st : Mf → Bool × Mf} {r : Bool × Mf} {K2 : Mf} {l2 : List Mf} : ∀ (l : List Mf), Good st l (true, K2) → Good st (K2 :: l2) r → Good st (l ++ K2 :: l2) r
  | [], h, _ => h.elim
  | K :: l, h, k => by
    rcases h with ⟨rfl, h⟩ | ⟨K3, l3, h1, h2, h3⟩
    · exact Or.inr ⟨K2, l2, rfl, h, k⟩
    · have q := Good.app l h3 k
      subst h1
      exact Or.inr ⟨K3, l3 ++ K2 :: l2, rfl, h2, q⟩
theorem Good.lift {m h : Nat} {B : Mf} : ∀ (l : List Mf), Good (runM v m (h + 1)) l (false, B) → Good (runM v (m + 1) h) l (stM v h B)
  | [], k => k.elim
  | K :: l, k => by
    have e : ∀ K, runM v (m + 1) h K = if (runM v m (h + 1) K).1 = true then runM v m (h + 1) K else stM v h (runM v m (h + 1) K).2 := fun K => rfl
    rcases k with ⟨h1, h2⟩ | ⟨K2, l2, h1, h2, h3⟩
    · exact Or.inl ⟨h1, by rw [e, h2]; exact if_neg Bool.false_ne_true⟩
    · exact Or.inr ⟨K2, l2, h1, by rw [e, h2, if_pos rfl], Good.lift l h3⟩
/-- a row whose houses below h are done: each pair has one below h -/
def PtM (v : Vw) (n h : Nat) (M : Mf) : Prop := ∀ k, k < n → M k = -1 ∨ ∃ j, j < n ∧ M k = nI j ∧ j ≠ k ∧ M j = nI k ∧ v.her (nI k) = true ∧ v.her (nI j) = true ∧ (j < h ∨ k < h)
theorem PtM.up1 {h : Nat} {M : Mf} (k : PtM v n h M) : PtM v n (h + 1) M := fun q hq => (k q hq).imp id (fun ⟨j, a, b, c, d, e, f, g⟩ => ⟨j, a, b, c, d, e, f, by omega⟩)
theorem PtM.pr {h e : Nat} {M : Mf} (k : PtM v n h M) (he : h < e) (hen : e < n) (hn : n ≤ 7) (h1 : v.her (nI h) = true) (h2 : v.her (nI e) = true) (m1 : M h = -1) (m2 : M e = -1) : PtM v n (h + 1) (prM M h e) := fun q hq => by
  unfold prM
  by_cases z : q = e
  · subst z
    exact Or.inr ⟨h, by omega, up_eq, by omega, by rw [up_ne (by omega), up_eq], h2, h1, by omega⟩
  · by_cases y : q = h
    · subst y
      exact Or.inr ⟨e, hen, by rw [up_ne z, up_eq], by omega, up_eq, h1, h2, by omega⟩
    · rw [up_ne z, up_ne y]
      rcases k q hq with a | ⟨j, a, b, c, d, e1, f, g⟩
      · exact Or.inl a
      · have hj1 : j ≠ e := fun x => by
          subst x; rw [m2] at d
          exact nI_nm1 (by omega) d.symm
        have hj2 : j ≠ h := fun x => by
          subst x; rw [m1] at d
          exact nI_nm1 (by omega) d.symm
        exact Or.inr ⟨j, a, b, c, by rw [up_ne hj1, up_ne hj2]; exact d, e1, f, by omega⟩
theorem free_self {M : Mf} {h : Nat} (m1 : M h = -1) : freeM M h = M := by
  unfold freeM
  rw [if_pos m1]
  funext j
  by_cases z : j = h
  · subst z; rw [up_eq, m1]
  · rw [up_ne z]
theorem free_pr {M : Mf} {h e : Nat} (he : h < e) (he7 : e < 7) (m1 : M h = -1) (m2 : M e = -1) : freeM (prM M h e) h = M := by
  have eh : prM M h e h = nI e := by unfold prM; rw [up_ne (by omega), up_eq]
  unfold freeM
  rw [eh, if_neg (nI_nm1 (by omega)), cI_nI (by omega)]
  funext j
  unfold prM
  by_cases z : j = h
  · subst z; rw [up_eq, m1]
  · rw [up_ne z]
    by_cases y : j = e
    · subst y; rw [up_eq, m2]
    · rw [up_ne y, up_ne y, up_ne z]
/-- what comes next at h: the first that can be had from e on -/
def nxM (v : Vw) (h : Nat) (M : Mf) (e : Nat) : Bool × Mf := if nmF v M e = -1 then (false, M) else (true, prM M h (cI (nmF v M e)))
theorem nmF_s (hv : v.n = n) {M : Mf} {e : Nat} (he : e < n) : nmF v M e = if v.her (nI e) = true ∧ M e = -1 then nI e else nmF v M (e + 1) := by
  unfold nmF
  rw [hv, show n - e = (n - (e + 1)) + 1 by omega]
  show (if (v.her (nI e) && decide (M e = -1)) = true then nI e else _) = _
  by_cases z : v.her (nI e) = true ∧ M e = -1
  · rw [if_pos z, if_pos (by rw [z.1, decide_eq_true z.2]; rfl)]
  · rw [if_neg z, if_neg (fun q => z (by rw [Bool.and_eq_true, decide_eq_true_eq] at q; exact q))]
theorem nmF_e (hv : v.n = n) {M : Mf} : nmF v M n = -1 := by
  unfold nmF
  rw [hv, Nat.sub_self]
  rfl
theorem nmF_or (hv : v.n = n) {M : Mf} {e : Nat} (he : e ≤ n) : nmF v M e = -1 ∨ ∃ j, e ≤ j ∧ j < n ∧ nmF v M e = nI j ∧ v.her (nI j) = true ∧ M j = -1 := by
  rcases srch_or (p := fun e => v.her (nI e) && decide (M e = -1)) (f := nI) (d := -1) (v.n - e) e with q | ⟨j, q1, q2, q3, q4⟩
  · exact Or.inl q
  · rw [Bool.and_eq_true, decide_eq_true_eq] at q4
    exact Or.inr ⟨j, q1, by omega, q3, q4.1, q4.2⟩
theorem nxM_of (hv : v.n = n) (hn : n ≤ 7) {M M2 : Mf} {h e : Nat} (he : e ≤ n) (hM : M2 = M) : (if nmF v M2 e = -1 then (false, M2) else (true, up (up M2 h (nmF v M2 e)) (cI (nmF v M2 e)) (nI h))) = nxM v h M e := by
  subst hM
  unfold nxM prM
  rcases nmF_or hv (M := M2) he with z | ⟨j, j1, j2, j3, -⟩
  · rw [if_pos z, if_pos z]
  · rw [j3, cI_nI (by omega)]
theorem st_self (hv : v.n = n) (hn : n ≤ 7) {M : Mf} {h : Nat} (hh : h < n) (h1 : v.her (nI h) = true) (m1 : M h = -1) : stM v h M = nxM v h M (h + 1) := by
  unfold stM
  rw [if_neg (by rw [h1, m1]; simp), if_pos m1]
  exact nxM_of hv hn (by omega) (free_self m1)
theorem st_pr (hv : v.n = n) (hn : n ≤ 7) {M : Mf} {h e : Nat} (he : h < e) (hen : e < n) (h1 : v.her (nI h) = true) (m1 : M h = -1) (m2 : M e = -1) : stM v h (prM M h e) = nxM v h M (e + 1) := by
  have eh : prM M h e h = nI e := by unfold prM; rw [up_ne (by omega), up_eq]
  unfold stM
  rw [eh, if_neg (by
    rw [h1]
    rintro (q | ⟨-, q⟩)
    · exact Bool.noConfusion q
    · exact nI_nlt (by omega) (by omega) q), if_neg (nI_nm1 (by omega)), cI_nI (by omega)]
  exact nxM_of hv hn (by omega) (free_pr he (by omega) m1 m2)
theorem st_skip {M : Mf} {h : Nat} (hh : h < n) (hn : n ≤ 7) (k : PtM v n h M) (hc : ¬ (v.her (nI h) = true ∧ M h = -1)) : stM v h M = (false, M) := by
  unfold stM
  rw [if_pos]
  cases z : v.her (nI h)
  · exact Or.inl rfl
  · right
    rcases k h hh with a | ⟨j, a, b, c, d, e1, f, g⟩
    · exact absurd ⟨z, a⟩ hc
    · refine ⟨by rw [b]; exact nI_nm1 (by omega), ?_⟩
      rw [b]
      exact nI_lt (by omega) (by omega)
theorem Ls_good (hv : v.n = n) (hn : n ≤ 7) (m : Nat) : ∀ (h : Nat) (M : Mf), h + m = n → PtM v n h M → (∃ l, LsM v m h M = M :: l) ∧ Good (runM v m h) (LsM v m h M) (false, M) := by
  induction m with
  | zero => exact fun h M _ _ => ⟨⟨[], rfl⟩, Or.inl ⟨rfl, rfl⟩⟩
  | succ m ih =>
    intro h M hm k
    have e : LsM v (m + 1) h M = if v.her (nI h) = true ∧ M h = -1 then LsM v m (h + 1) M ++ ((List.range' (h + 1) m).map (fun e => if v.her (nI e) = true ∧ M e = -1 then LsM v m (h + 1) (prM M h e) else [])).flatten else LsM v m (h + 1) M := rfl
    obtain ⟨i1, i2⟩ := ih (h + 1) M (by omega) k.up1
    have i3 := i2.lift
    rw [e]
    by_cases hc : v.her (nI h) = true ∧ M h = -1
    · rw [if_pos hc]
      obtain ⟨h1, m1⟩ := hc
      rw [st_self hv hn (by omega) h1 m1] at i3
      have lp : ∀ (j e0 : Nat) (L : List Mf), e0 + j = n → h + 1 ≤ e0 → (∃ l, L = M :: l) → Good (runM v (m + 1) h) L (nxM v h M e0) → (∃ l, L ++ ((List.range' e0 j).map (fun e => if v.her (nI e) = true ∧ M e = -1 then LsM v m (h + 1) (prM M h e) else [])).flatten = M :: l) ∧ Good (runM v (m + 1) h) (L ++ ((List.range' e0 j).map (fun e => if v.her (nI e) = true ∧ M e = -1 then LsM v m (h + 1) (prM M h e) else [])).flatten) (false, M) := by
        intro j
        induction j with
        | zero =>
          intro e0 L he0 _ hL hG
          have : e0 = n := by omega
          subst this
          have en : nxM v h M e0 = (false, M) := by unfold nxM; rw [nmF_e hv, if_pos rfl]
          rw [en] at hG
          show (∃ l, L ++ [] = M :: l) ∧ Good _ (L ++ []) _
          rw [List.append_nil]
          exact ⟨hL, hG⟩
        | succ j ihj =>
          intro e0 L he0 hle hL hG
          have es : (List.range' e0 (j + 1)).map (fun e => if v.her (nI e) = true ∧ M e = -1 then LsM v m (h + 1) (prM M h e) else []) = (if v.her (nI e0) = true ∧ M e0 = -1 then LsM v m (h + 1) (prM M h e0) else []) :: (List.range' (e0 + 1) j).map (fun e => if v.her (nI e) = true ∧ M e = -1 then LsM v m (h + 1) (prM M h e) else []) := rfl
          rw [es, List.flatten_cons, ← List.append_assoc]
          have ens := nmF_s hv (M := M) (e := e0) (by omega)
          by_cases hc2 : v.her (nI e0) = true ∧ M e0 = -1
          · rw [if_pos hc2]
            rw [if_pos hc2] at ens
            have en : nxM v h M e0 = (true, prM M h e0) := by unfold nxM; rw [ens, if_neg (nI_nm1 (by omega)), cI_nI (by omega)]
            rw [en] at hG
            obtain ⟨⟨l2, q1⟩, q2⟩ := ih (h + 1) (prM M h e0) (by omega) (k.pr (by omega) (by omega) hn h1 hc2.1 m1 hc2.2)
            have q3 := q2.lift
            rw [st_pr hv hn (by omega) (by omega) h1 m1 hc2.2, q1] at q3
            rw [q1]
            refine ihj (e0 + 1) _ (by omega) (by omega) ?_ (Good.app L hG q3)
            obtain ⟨l, rfl⟩ := hL
            exact ⟨l ++ prM M h e0 :: l2, rfl⟩
          · rw [if_neg hc2, List.append_nil]
            rw [if_neg hc2] at ens
            have en : nxM v h M e0 = nxM v h M (e0 + 1) := by unfold nxM; rw [ens]
            rw [en] at hG
            exact ihj (e0 + 1) L (by omega) (by omega) hL hG
      exact lp m (h + 1) _ (by omega) (Nat.le_refl _) i1 i3
    · rw [if_neg hc]
      rw [st_skip (by omega) hn k hc] at i3
      exact ⟨i1, i3⟩
theorem Ls_pt (hn : n ≤ 7) (m : Nat) : ∀ (h : Nat) (M : Mf), h + m = n → PtM v n h M → ∀ K, K ∈ LsM v m h M → PtM v n n K := by
  induction m with
  | zero =>
    intro h M hm k K hK
    have e : K = M := by
      have : K ∈ [M] := hK
      simpa using this
    have : h = n := by omega
    subst this
    rw [e]; exact k
  | succ m ih =>
    intro h M hm k K hK
    have e : LsM v (m + 1) h M = if v.her (nI h) = true ∧ M h = -1 then LsM v m (h + 1) M ++ ((List.range' (h + 1) m).map (fun e => if v.her (nI e) = true ∧ M e = -1 then LsM v m (h + 1) (prM M h e) else [])).flatten else LsM v m (h + 1) M := rfl
    rw [e] at hK
    by_cases hc : v.her (nI h) = true ∧ M h = -1
    · rw [if_pos hc] at hK
      rcases List.mem_append.mp hK with z | z
      · exact ih (h + 1) M (by omega) k.up1 K z
      · obtain ⟨l, l1, l2⟩ := List.mem_flatten.mp z
        obtain ⟨q, q1, q2⟩ := List.mem_map.mp l1
        rw [List.mem_range'_1] at q1
        subst q2
        by_cases hc2 : v.her (nI q) = true ∧ M q = -1
        · rw [if_pos hc2] at l2
          exact ih (h + 1) _ (by omega) (k.pr (by omega) (by omega) hn hc.1 hc2.1 hc.2 hc2.2) K l2
        · rw [if_neg hc2] at l2; exact absurd l2 List.not_mem_nil
    · rw [if_neg hc] at hK
      exact ih (h + 1) M (by omega) k.up1 K hK
/-! what the rows share -/
theorem sumUp_s (f : Nat → Int32) (k : Nat) : sumUp f (k + 1) = sumUp f k + f k := rfl
theorem sumUp_one {f g : Nat → Int32} {h : Nat} (h0 : f h = 0) (hs : ∀ k, k ≠ h → g k = f k) : ∀ m, sumUp g m = sumUp f m + (if h < m then g h else 0)
  | 0 => by rw [if_neg (Nat.not_lt_zero h), Int32.add_zero]; rfl
  | m + 1 => by
    rw [sumUp_s, sumUp_s, sumUp_one h0 hs m]
    by_cases z : m = h
    · subst z
      rw [if_neg (Nat.lt_irrefl m), if_pos (Nat.lt_succ_self m), h0, Int32.add_zero]
    · rw [hs m z]
      by_cases y : h < m
      · rw [if_pos y, if_pos (by omega), Int32.add_assoc, Int32.add_comm (g h), ← Int32.add_assoc]
      · rw [if_neg y, if_neg (by omega), Int32.add_zero, Int32.add_zero]
theorem shF_pr (hn : n ≤ 7) {M : Mf} {h e : Nat} (he : h < e) (hen : e < n) (m1 : M h = -1) (m2 : M e = -1) : shF v (prM M h e) n = shF v M n + bitsI (v.sh (nI h) &&& v.sh (nI e)) := by
  have lt1 : ∀ k, k < 100 → ¬ nI k < (-1 : Int32) := fun k hk q => by
    have := Int32.lt_iff_toInt_lt.mp q
    rw [nI_t (by omega), tm1] at this
    omega
  have eh : prM M h e h = nI e := by unfold prM; rw [up_ne (by omega), up_eq]
  have ee : prM M h e e = nI h := by unfold prM; rw [up_eq]
  have q := sumUp_one (f := fun k => if nI k < M k then bitsI (v.sh (nI k) &&& v.sh (M k)) else 0) (g := fun k => if nI k < prM M h e k then bitsI (v.sh (nI k) &&& v.sh (prM M h e k)) else 0) (h := h) (by show (if nI h < M h then _ else _) = _; rw [m1, if_neg (lt1 h (by omega))]) (fun k hk => by
    show (if nI k < prM M h e k then bitsI (v.sh (nI k) &&& v.sh (prM M h e k)) else 0) = if nI k < M k then bitsI (v.sh (nI k) &&& v.sh (M k)) else 0
    by_cases z : k = e
    · subst z
      rw [ee, m2, if_neg (lt1 k (by omega)), if_neg (nI_nlt (by omega) (by omega))]
    · have : prM M h e k = M k := by unfold prM; rw [up_ne z, up_ne hk]
      rw [this]) n
  have q2 : shF v (prM M h e) n = shF v M n + (if h < n then (if nI h < prM M h e h then bitsI (v.sh (nI h) &&& v.sh (prM M h e h)) else 0) else 0) := q
  rw [q2, if_pos (by omega), eh, if_pos (nI_lt he (by omega))]
theorem shF_n {M : Mf} : ∀ k, ∃ x, shF v M k = nI x ∧ x ≤ 32 * k
  | 0 => ⟨0, rfl, Nat.le_refl _⟩
  | k + 1 => by
    obtain ⟨x, e, hx⟩ := shF_n (M := M) k
    have es : shF v M (k + 1) = shF v M k + (if nI k < M k then bitsI (v.sh (nI k) &&& v.sh (M k)) else 0) := rfl
    rw [es, e]
    split
    · unfold bitsI
      have := pcN_le (v.sh (nI k) &&& v.sh (M k))
      exact ⟨_, nI_add _ _, by omega⟩
    · exact ⟨x, Int32.add_zero _, by omega⟩
/-- the best of a list of rows -/
def fdM (v : Vw) (n : Nat) : List Mf → Int32 × Mf → Int32 × Mf
  | [], b => b
  | K :: l, b => fdM v n l (if b.1 < shF v K n then (shF v K n, mv b.2 0 K 7) else b)
theorem fd_app : ∀ (l r : List Mf) (b : Int32 × Mf), fdM v n (l ++ r) b = fdM v n r (fdM v n l b)
  | [], _, _ => rfl
  | K :: l, r, b => fd_app l r _
def RW (v : Vw) (n : Nat) (W : Wd) (b : Int32 × Mf) : Prop := W.1 = b.1 ∧ (b.1 = -1 ∨ ∀ k, k < n → v.her (nI k) = true → W.2.2 k = b.2 k)
theorem tz_lo : ∀ x, x < 128 → ∀ h, h < 7 → tb (nI x) h = true → (∀ k, k < h → tb (nI x) k = false) → tzI (nI x) = nI h ∧ nI x &&& (nI x - 1) = nI x &&& (bit (nI h) ^^^ -1) := by decide +kernel
theorem small_n {x : Int32} (h : ∀ k, tb x k = true → k < 7) : ∃ X, X < 128 ∧ x = nI X := by
  refine ⟨bN x, Nat.lt_pow_two_of_testBit (n := 7) _ (fun i hi => ?_), bN_inj (pk_tn (bN_lt x)).symm⟩
  cases z : tb x i
  · exact z
  · have := h i z; omega
theorem wed_fold (hv : v.n = n) (hn : n ≤ 7) (m : Nat) : ∀ (h : Nat) (M : Mf) (left sh : Int32) (W : Wd) (b : Int32 × Mf) (f : Nat), h + m = n → PtM v n h M → (∀ k, tb left k = true ↔ h ≤ k ∧ k < n ∧ v.her (nI k) = true ∧ M k = -1) → sh = shF v M n → (∀ k, k < n → v.her (nI k) = true → tb left k = false → W.2.1 k = M k) → RW v n W b → m + 1 ≤ f → RW v n (wedL v f left sh W) (fdM v n (LsM v m h M) b) ∧ ∀ k, tb left k = false → (wedL v f left sh W).2.1 k = W.2.1 k := by
  induction m with
  | zero =>
    intro h M left sh W b f hm k hl hs hB hR hf
    obtain ⟨f', rfl⟩ : ∃ f', f = f' + 1 := ⟨f - 1, by omega⟩
    have hz : left = 0 := zero_tb.mpr fun i _ => by
      cases z : tb left i
      · rfl
      · have := (hl i).mp z; omega
    have e : wedL v (f' + 1) left sh W = if left = 0 then (if sh ≤ W.1 then W else (sh, W.2.1, mv0 W.2.2 W.2.1 7)) else wedQ v (wedL v f') (tzI left) (left &&& (left - 1)) sh (v.n - (cI (tzI left) + 1)) (cI (tzI left) + 1) (wedL v f' (left &&& (left - 1)) sh (W.1, up W.2.1 (cI (tzI left)) (-1), W.2.2)) := rfl
    have eF : fdM v n (LsM v 0 h M) b = if b.1 < shF v M n then (shF v M n, mv b.2 0 M 7) else b := rfl
    obtain ⟨r1, r2⟩ := hR
    rw [e, if_pos hz, eF, ← hs, ← r1]
    by_cases hc : sh ≤ W.1
    · rw [if_pos hc, if_neg (Int32.not_lt.mpr hc)]
      exact ⟨⟨r1, r2⟩, fun _ _ => rfl⟩
    · rw [if_neg hc, if_pos (Int32.not_le.mp hc)]
      refine ⟨⟨rfl, Or.inr fun q hq hher => ?_⟩, fun _ _ => rfl⟩
      show mv0 W.2.2 W.2.1 7 q = mv b.2 0 M 7 q
      rw [mv0_lt (by omega), mv_in (by omega) (by omega), Nat.sub_zero]
      exact hB q hq hher (by rw [hz, tb_0])
  | succ m ih =>
    intro h M left sh W b f hm k hl hs hB hR hf
    have eLs : LsM v (m + 1) h M = if v.her (nI h) = true ∧ M h = -1 then LsM v m (h + 1) M ++ ((List.range' (h + 1) m).map (fun e => if v.her (nI e) = true ∧ M e = -1 then LsM v m (h + 1) (prM M h e) else [])).flatten else LsM v m (h + 1) M := rfl
    by_cases hc : v.her (nI h) = true ∧ M h = -1
    · obtain ⟨f', rfl⟩ : ∃ f', f = f' + 1 := ⟨f - 1, by omega⟩
      have hlh : tb left h = true := (hl h).mpr ⟨Nat.le_refl _, by omega, hc.1, hc.2⟩
      obtain ⟨X, hX, eX⟩ := small_n (x := left) (fun q hq => by have := (hl q).mp hq; omega)
      have hlow : ∀ q, q < h → tb left q = false := fun q hq => by
        cases z : tb left q
        · rfl
        · have := (hl q).mp z; omega
      have htz : tzI left = nI h ∧ left &&& (left - 1) = left &&& (bit (nI h) ^^^ -1) := by
        rw [eX] at hlh hlow ⊢
        exact tz_lo X hX h (by omega) hlh hlow
      have hz : ¬ left = 0 := fun q => by rw [q, tb_0] at hlh; exact Bool.noConfusion hlh
      have e : wedL v (f' + 1) left sh W = if left = 0 then (if sh ≤ W.1 then W else (sh, W.2.1, mv0 W.2.2 W.2.1 7)) else wedQ v (wedL v f') (tzI left) (left &&& (left - 1)) sh (v.n - (cI (tzI left) + 1)) (cI (tzI left) + 1) (wedL v f' (left &&& (left - 1)) sh (W.1, up W.2.1 (cI (tzI left)) (-1), W.2.2)) := rfl
      have hl2 : ∀ q, tb (left &&& (bit (nI h) ^^^ -1)) q = true ↔ h + 1 ≤ q ∧ q < n ∧ v.her (nI q) = true ∧ M q = -1 := fun q => by
        rw [tb_andn, tb_bit (by omega), Bool.and_eq_true, hl q]
        constructor
        · rintro ⟨⟨a1, a2, a3, a4⟩, a5⟩
          have : q ≠ h := fun z => by rw [decide_eq_true z] at a5; exact absurd a5 (by decide)
          exact ⟨by omega, a2, a3, a4⟩
        · rintro ⟨a1, a2, a3, a4⟩
          exact ⟨⟨by omega, a2, a3, a4⟩, by rw [decide_eq_false (by omega)]; rfl⟩
      rw [e, if_neg hz, htz.1, htz.2, cI_nI (by omega), eLs, if_pos hc, fd_app, hv, show n - (h + 1) = m by omega]
      generalize hlq : left &&& (bit (nI h) ^^^ -1) = lq at hl2 ⊢
      have hlo : ∀ q, tb left q = false → tb lq q = false ∧ q ≠ h := fun q hq => by
        refine ⟨by rw [← hlq, tb_andn, hq]; rfl, fun z => by rw [z, hlh] at hq; exact Bool.noConfusion hq⟩
      have hlo2 : ∀ q, q ≠ h → tb lq q = false → tb left q = false := fun q h1 h2 => by
        rw [← hlq, tb_andn, tb_bit (by omega), decide_eq_false h1, Bool.not_false, Bool.and_true] at h2
        exact h2
      obtain ⟨p1, p2⟩ := ih (h + 1) M lq sh (W.1, up W.2.1 h (-1), W.2.2) b f' (by omega) k.up1 hl2 hs (fun q hq hher hf2 => by
        show up W.2.1 h (-1) q = M q
        by_cases z : q = h
        · subst z; rw [up_eq, hc.2]
        · rw [up_ne z]; exact hB q hq hher (hlo2 q z hf2)) hR (by omega)
      have p3 : ∀ q, tb left q = false → (wedL v f' lq sh (W.1, up W.2.1 h (-1), W.2.2)).2.1 q = W.2.1 q := fun q hq => by
        obtain ⟨a1, a2⟩ := hlo q hq
        rw [p2 q a1]
        exact up_ne a2
      generalize wedL v f' lq sh (W.1, up W.2.1 h (-1), W.2.2) = W1 at p1 p3
      generalize fdM v n (LsM v m (h + 1) M) b = b1 at p1
      -- the loop over whom h may have
      have lp : ∀ (j q : Nat) (W2 : Wd) (b2 : Int32 × Mf), q + j = n → h + 1 ≤ q → RW v n W2 b2 → (∀ k, tb left k = false → W2.2.1 k = W.2.1 k) → RW v n (wedQ v (wedL v f') (nI h) lq sh j q W2) (fdM v n ((List.range' q j).map (fun e => if v.her (nI e) = true ∧ M e = -1 then LsM v m (h + 1) (prM M h e) else [])).flatten b2) ∧ ∀ k, tb left k = false → (wedQ v (wedL v f') (nI h) lq sh j q W2).2.1 k = W.2.1 k := by
        intro j
        induction j with
        | zero => exact fun q W2 b2 _ _ hR2 hB2 => ⟨hR2, hB2⟩
        | succ j ihj =>
          intro q W2 b2 hq hhq hR2 hB2
          have eQ : wedQ v (wedL v f') (nI h) lq sh (j + 1) q W2 = if hasI lq (nI q) = true then wedQ v (wedL v f') (nI h) lq sh j (q + 1) (wedL v f' (lq &&& (bit (nI q) ^^^ -1)) (sh + bcI (v.sh (nI h) &&& v.sh (nI q))) (W2.1, up (up W2.2.1 (cI (nI h)) (nI q)) (cI (nI q)) (nI h), W2.2.2)) else wedQ v (wedL v f') (nI h) lq sh j (q + 1) W2 := rfl
          have es : (List.range' q (j + 1)).map (fun e => if v.her (nI e) = true ∧ M e = -1 then LsM v m (h + 1) (prM M h e) else []) = (if v.her (nI q) = true ∧ M q = -1 then LsM v m (h + 1) (prM M h q) else []) :: (List.range' (q + 1) j).map (fun e => if v.her (nI e) = true ∧ M e = -1 then LsM v m (h + 1) (prM M h e) else []) := rfl
          have hcq : hasI lq (nI q) = true ↔ v.her (nI q) = true ∧ M q = -1 := by
            rw [has_tb (by omega), hl2 q]
            exact ⟨fun z => z.2.2, fun z => ⟨hhq, by omega, z⟩⟩
          rw [eQ, es, List.flatten_cons, fd_app]
          by_cases z : v.her (nI q) = true ∧ M q = -1
          · have e5 : sh + bitsI (v.sh (nI h) &&& v.sh (nI q)) = shF v (prM M h q) n := by rw [hs, ← shF_pr hn (by omega) (by omega) hc.2 z.2]
            rw [if_pos (hcq.mpr z), if_pos z, cI_nI (by omega), cI_nI (by omega), bcI_bits, e5]
            have hq1 : ∀ y, tb (lq &&& (bit (nI q) ^^^ -1)) y = true ↔ h + 1 ≤ y ∧ y < n ∧ v.her (nI y) = true ∧ prM M h q y = -1 := fun y => by
              rw [tb_andn, tb_bit (by omega), Bool.and_eq_true, hl2 y]
              unfold prM
              constructor
              · rintro ⟨⟨a1, a2, a3, a4⟩, a5⟩
                have : y ≠ q := fun x => by rw [decide_eq_true x] at a5; exact absurd a5 (by decide)
                exact ⟨a1, a2, a3, by rw [up_ne this, up_ne (by omega)]; exact a4⟩
              · rintro ⟨a1, a2, a3, a4⟩
                have : y ≠ q := fun x => by
                  subst x
                  rw [up_eq] at a4
                  exact nI_nm1 (by omega) a4
                rw [up_ne this, up_ne (by omega)] at a4
                exact ⟨⟨a1, a2, a3, a4⟩, by rw [decide_eq_false this]; rfl⟩
            obtain ⟨s1, s2⟩ := ih (h + 1) (prM M h q) (lq &&& (bit (nI q) ^^^ -1)) _ (W2.1, up (up W2.2.1 h (nI q)) q (nI h), W2.2.2) b2 f' (by omega) (k.pr (by omega) (by omega) hn hc.1 z.1 hc.2 z.2) hq1 rfl (fun y hy hher hf2 => by
              show up (up W2.2.1 h (nI q)) q (nI h) y = prM M h q y
              unfold prM
              by_cases x1 : y = q
              · subst x1; rw [up_eq, up_eq]
              · rw [up_ne x1, up_ne x1]
                by_cases x2 : y = h
                · subst x2; rw [up_eq, up_eq]
                · rw [up_ne x2, up_ne x2]
                  rw [tb_andn, tb_bit (by omega), decide_eq_false x1, Bool.not_false, Bool.and_true] at hf2
                  have x3 := hlo2 y x2 hf2
                  rw [hB2 y x3]
                  exact hB y hy hher x3) hR2 (by omega)
            refine ihj (q + 1) _ _ (by omega) (by omega) s1 (fun y hy => ?_)
            obtain ⟨a1, a2⟩ := hlo y hy
            have hyq : y ≠ q := fun x => by
              subst x
              rw [(hl2 y).mpr ⟨hhq, by omega, z⟩] at a1
              exact Bool.noConfusion a1
            rw [s2 y (by rw [tb_andn, a1]; rfl)]
            show up (up W2.2.1 h (nI q)) q (nI h) y = _
            rw [up_ne hyq, up_ne a2]
            exact hB2 y hy
          · rw [if_neg (fun y => z (hcq.mp y)), if_neg z]
            exact ihj (q + 1) W2 b2 (by omega) (by omega) hR2 hB2
      exact lp m (h + 1) W1 b1 (by omega) (Nat.le_refl _) p1 p3
    · rw [eLs, if_neg hc]
      refine ih (h + 1) M left sh W b f (by omega) k.up1 (fun q => ?_) hs hB hR (by omega)
      rw [hl q]
      constructor
      · rintro ⟨a1, a2, a3, a4⟩
        have : q ≠ h := fun z => by subst z; exact hc ⟨a3, a4⟩
        exact ⟨by omega, a2, a3, a4⟩
      · rintro ⟨a1, a2, a3, a4⟩
        exact ⟨by omega, a2, a3, a4⟩
end WED
