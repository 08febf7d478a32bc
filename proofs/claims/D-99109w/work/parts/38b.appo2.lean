/-! APPOINTMENTS 2: the search finds the first; there is one within eight days (by hand) -/
set_option maxRecDepth 100000
theorem cB_rem {x : Int32} {k : Nat} (hk : k < 32) (hx : tb x k = true) : ∀ f, cB (x &&& (bit (nI k) ^^^ -1)) f + (if k < f then 1 else 0) = cB x f
  | 0 => by simp [cB]
  | f + 1 => by
    have ih := cB_rem hk hx f
    show cB (x &&& (bit (nI k) ^^^ -1)) f + (tb (x &&& (bit (nI k) ^^^ -1)) f).toNat + _ = cB x f + (tb x f).toNat
    rw [tb_andn, tb_bit hk]
    by_cases e : f = k
    · subst e
      rw [if_neg (by omega)] at ih
      rw [if_pos (by omega), hx, decide_eq_true rfl]
      show cB (x &&& (bit (nI f) ^^^ -1)) f + 0 + 1 = cB x f + 1
      omega
    · rw [decide_eq_false e, Bool.not_false, Bool.and_true]
      by_cases l : k < f
      · rw [if_pos l] at ih; rw [if_pos (by omega)]; omega
      · rw [if_neg l] at ih; rw [if_neg (by omega)]; omega
theorem pcN_rem {x : Int32} {k : Nat} (hk : k < 32) (hx : tb x k = true) : pcN (x &&& (bit (nI k) ^^^ -1)) + 1 = pcN x := by
  have h := cB_rem hk hx 32
  rw [if_pos hk] at h
  rw [pcN_cB, pcN_cB]
  exact h
/-- the members of a set of houses: their places, the houses at the places -/
def MemB (x : Int32) (n N : Nat) (mm ix : Nat → Nat) : Prop := (∀ i, i < n → tb x (mm i) = true ∧ mm i < N ∧ ix (mm i) = i) ∧ (∀ k, tb x k = true → k < N ∧ ix k < n ∧ mm (ix k) = k) ∧ ix 0 = 0 ∧ ix N = n ∧ ∀ k, ix (k + 1) = ix k + (tb x k).toNat
section MEB
variable {x : Int32} {n N : Nat} {mm ix : Nat → Nat}
theorem MemB.inj (h : MemB x n N mm ix) {i j : Nat} (hi : i < n) (hj : j < n) (e : mm i = mm j) : i = j := by
  have a := (h.1 i hi).2.2
  have b := (h.1 j hj).2.2
  rw [e] at a
  exact a.symm.trans b
theorem MemB.iff (h : MemB x n N mm ix) (k : Nat) : tb x k = true ↔ ∃ i, i < n ∧ mm i = k := by
  constructor
  · intro q
    obtain ⟨a, b, c⟩ := h.2.1 k q
    exact ⟨_, b, c⟩
  · rintro ⟨i, hi, e⟩
    rw [← e]
    exact (h.1 i hi).1
variable {v : Vw} {d0 : Int32}
theorem VL_len (h : MemB x n N mm ix) (hN : N ≤ 7) : ∀ (l : List Nat) (left : Int32) (day : Nat), (∀ i, i ∈ l → i ≤ n) → VL v d0 n mm l left day → pcN left ≤ l.length
  | [], left, day, _, hv => by
    have : left = 0 := hv
    rw [this, pcN_0.mpr rfl]
    exact Nat.le_refl _
  | i :: r, left, day, hle, hv => by
    have e : VL v d0 n mm (i :: r) left day = if i = n then VL v d0 n mm r left (day + 1) else (tb left (mm i) = true ∧ opI v d0 mm i day = true) ∧ VL v d0 n mm r (left &&& (bit (nI (mm i)) ^^^ -1)) (day + 1) := rfl
    rw [e] at hv
    have hle2 : ∀ i, i ∈ r → i ≤ n := fun i hi => hle i (List.mem_cons_of_mem _ hi)
    show pcN left ≤ r.length + 1
    by_cases z : i = n
    · rw [if_pos z] at hv
      have := VL_len h hN r left (day + 1) hle2 hv
      omega
    · rw [if_neg z] at hv
      have hi := hle i List.mem_cons_self
      have q := h.1 i (by omega)
      have := VL_len h hN r _ (day + 1) hle2 hv.2
      have := pcN_rem (x := left) (k := mm i) (by omega) hv.1.1
      omega
theorem fnd_min (h : MemB x n N mm ix) (hN : N ≤ 7) : ∀ (f : Nat) (left : Int32) (day : Nat), (∀ k, tb left k = true → tb x k = true) → (fnd v d0 n N ix f left day = none → ∀ ds : List Nat, ds.length = f → (∀ i, i ∈ ds → i ≤ n) → ¬ VL v d0 n mm ds left day) ∧ ∀ ds0, fnd v d0 n N ix f left day = some ds0 → ds0.length = f ∧ (∀ i, i ∈ ds0 → i ≤ n) ∧ VL v d0 n mm ds0 left day ∧ ∀ ds : List Nat, ds.length = f → (∀ i, i ∈ ds → i ≤ n) → cdF n ds < cdF n ds0 → ¬ VL v d0 n mm ds left day
  | 0, left, day, _ => by
    show ((if left = 0 then some [] else none) = none → _) ∧ ∀ ds0, (if left = 0 then some [] else none) = some ds0 → _
    by_cases z : left = 0
    · rw [if_pos z]
      refine ⟨fun q => (Option.some_ne_none _ q).elim, fun ds0 q => ?_⟩
      have e := Option.some.inj q
      subst e
      exact ⟨rfl, fun i hi => absurd hi List.not_mem_nil, z, fun ds hl _ hlt => by rw [List.length_eq_zero_iff.mp hl] at hlt; omega⟩
    · rw [if_neg z]
      refine ⟨fun _ ds hl _ hv => ?_, fun ds0 q => (Option.some_ne_none _ q.symm).elim⟩
      rw [List.length_eq_zero_iff.mp hl] at hv
      exact z hv
  | f + 1, left, day, hs => by
    have IH := fnd_min h hN f
    have eV : ∀ i r, VL v d0 n mm (i :: r) left day = if i = n then VL v d0 n mm r left (day + 1) else (tb left (mm i) = true ∧ opI v d0 mm i day = true) ∧ VL v d0 n mm r (left &&& (bit (nI (mm i)) ^^^ -1)) (day + 1) := fun i r => rfl
    have loop : ∀ m k, k + m = N → (fndL v d0 n ix (fnd v d0 n N ix f) left day m k = none → ∀ (i : Nat) (r : List Nat), ix k ≤ i → i ≤ n → r.length = f → (∀ j, j ∈ r → j ≤ n) → ¬ VL v d0 n mm (i :: r) left day) ∧ ∀ ds0, fndL v d0 n ix (fnd v d0 n N ix f) left day m k = some ds0 → ds0.length = f + 1 ∧ (∀ i, i ∈ ds0 → i ≤ n) ∧ VL v d0 n mm ds0 left day ∧ ∀ (i : Nat) (r : List Nat), ix k ≤ i → i ≤ n → r.length = f → (∀ j, j ∈ r → j ≤ n) → cdF n (i :: r) < cdF n ds0 → ¬ VL v d0 n mm (i :: r) left day := by
      intro m
      induction m with
      | zero =>
        intro k hk
        have ek : k = N := by omega
        subst ek
        have e0 : fndL v d0 n ix (fnd v d0 n k ix f) left day 0 k = (fnd v d0 n k ix f left (day + 1)).map (n :: ·) := rfl
        obtain ⟨j1, j2⟩ := IH left (day + 1) hs
        have hix := h.2.2.2.1
        rw [e0]
        cases hc : fnd v d0 n k ix f left (day + 1) with
        | none =>
          refine ⟨fun _ i r hi hin hr hle hv => ?_, fun ds0 q => (Option.some_ne_none _ q.symm).elim⟩
          rw [eV, if_pos (show i = n by omega)] at hv
          exact j1 hc r hr hle hv
        | some r0 =>
          obtain ⟨a1, a2, a3, a4⟩ := j2 r0 hc
          refine ⟨fun q => (Option.some_ne_none _ q).elim, fun ds0 q => ?_⟩
          have e := Option.some.inj q
          subst e
          refine ⟨by show r0.length + 1 = f + 1; omega, fun i hi => ?_, ?_, fun i r hi hin hr hle hlt hv => ?_⟩
          · rcases List.mem_cons.mp hi with z | z
            · omega
            · exact a2 i z
          · show VL v d0 n mm (n :: r0) left day
            rw [eV, if_pos rfl]; exact a3
          · have ein : i = n := by omega
            rw [eV, if_pos ein] at hv
            rcases cd_head hle a2 (by omega) hlt with z | ⟨-, z⟩
            · omega
            · exact a4 r hr hle z hv
      | succ m ihm =>
        intro k hk
        obtain ⟨i1, i2⟩ := ihm (k + 1) (by omega)
        have hix1 := h.2.2.2.2 k
        have e0 : fndL v d0 n ix (fnd v d0 n N ix f) left day (m + 1) k = if hasI left (nI k) = true then (if hasI (v.sh (nI k)) ((d0 + nI day) % 20) = true then fndL v d0 n ix (fnd v d0 n N ix f) left day m (k + 1) else (match fnd v d0 n N ix f (left &&& (bit (nI k) ^^^ -1)) (day + 1) with
            | some r => some (ix k :: r)
            | none => fndL v d0 n ix (fnd v d0 n N ix f) left day m (k + 1))) else fndL v d0 n ix (fnd v d0 n N ix f) left day m (k + 1) := rfl
        -- it goes on: the place of k can't be first
        have goOn : (∀ r : List Nat, r.length = f → (∀ j, j ∈ r → j ≤ n) → ix k < ix (k + 1) → ¬ VL v d0 n mm (ix k :: r) left day) → fndL v d0 n ix (fnd v d0 n N ix f) left day (m + 1) k = fndL v d0 n ix (fnd v d0 n N ix f) left day m (k + 1) → (fndL v d0 n ix (fnd v d0 n N ix f) left day (m + 1) k = none → ∀ (i : Nat) (r : List Nat), ix k ≤ i → i ≤ n → r.length = f → (∀ j, j ∈ r → j ≤ n) → ¬ VL v d0 n mm (i :: r) left day) ∧ ∀ ds0, fndL v d0 n ix (fnd v d0 n N ix f) left day (m + 1) k = some ds0 → ds0.length = f + 1 ∧ (∀ i, i ∈ ds0 → i ≤ n) ∧ VL v d0 n mm ds0 left day ∧ ∀ (i : Nat) (r : List Nat), ix k ≤ i → i ≤ n → r.length = f → (∀ j, j ∈ r → j ≤ n) → cdF n (i :: r) < cdF n ds0 → ¬ VL v d0 n mm (i :: r) left day := fun hno he => by
          have hstep : ∀ i, ix k ≤ i → (ix (k + 1) ≤ i ∨ (i = ix k ∧ ix k < ix (k + 1))) := fun i hi => by
            cases z : tb x k
            · rw [z] at hix1
              left
              have : (false : Bool).toNat = 0 := rfl
              omega
            · rw [z] at hix1
              have : (true : Bool).toNat = 1 := rfl
              omega
          rw [he]
          refine ⟨fun q i r hi hin hr hle => ?_, fun ds0 q => ?_⟩
          · rcases hstep i hi with z | ⟨z, y⟩
            · exact i1 q i r z hin hr hle
            · rw [z]; exact hno r hr hle y
          · obtain ⟨b1, b2, b3, b4⟩ := i2 ds0 q
            refine ⟨b1, b2, b3, fun i r hi hin hr hle hlt => ?_⟩
            rcases hstep i hi with z | ⟨z, y⟩
            · exact b4 i r z hin hr hle hlt
            · rw [z]; exact hno r hr hle y
        have nk : ix k < ix (k + 1) → tb x k = true ∧ ix k < n ∧ mm (ix k) = k := fun q => by
          cases z : tb x k
          · rw [z] at hix1
            have : (false : Bool).toNat = 0 := rfl
            omega
          · obtain ⟨-, b, c⟩ := h.2.1 k z
            exact ⟨rfl, b, c⟩
        by_cases hl : hasI left (nI k) = true
        · have hl2 : tb left k = true := by rw [← has_tb (by omega)]; exact hl
          obtain ⟨-, hkn, hmk⟩ := h.2.1 k (hs k hl2)
          have eV2 : ∀ r, VL v d0 n mm (ix k :: r) left day = ((tb left k = true ∧ opI v d0 mm (ix k) day = true) ∧ VL v d0 n mm r (left &&& (bit (nI k) ^^^ -1)) (day + 1)) := fun r => by
            rw [eV, if_neg (by omega), hmk]
          have hop : opI v d0 mm (ix k) day = !hasI (v.sh (nI k)) ((d0 + nI day) % 20) := by unfold opI; rw [hmk]
          by_cases hc : hasI (v.sh (nI k)) ((d0 + nI day) % 20) = true
          · refine goOn (fun r hr hle _ hv => ?_) (by rw [e0, if_pos hl, if_pos hc])
            rw [eV2, hop, hc] at hv
            exact Bool.noConfusion hv.1.2
          · obtain ⟨j1, j2⟩ := IH (left &&& (bit (nI k) ^^^ -1)) (day + 1) (fun q hq => by rw [tb_andn, Bool.and_eq_true] at hq; exact hs q hq.1)
            cases hr0 : fnd v d0 n N ix f (left &&& (bit (nI k) ^^^ -1)) (day + 1) with
            | none =>
              refine goOn (fun r hr hle _ hv => ?_) (by rw [e0, if_pos hl, if_neg hc, hr0])
              rw [eV2] at hv
              exact j1 hr0 r hr hle hv.2
            | some r0 =>
              obtain ⟨a1, a2, a3, a4⟩ := j2 r0 hr0
              rw [e0, if_pos hl, if_neg hc, hr0]
              refine ⟨fun q => (Option.some_ne_none _ q).elim, fun ds0 q => ?_⟩
              have e := Option.some.inj q
              subst e
              refine ⟨by show r0.length + 1 = f + 1; omega, fun i hi => ?_, ?_, fun i r hi hin hr hle hlt hv => ?_⟩
              · rcases List.mem_cons.mp hi with z | z
                · omega
                · exact a2 i z
              · rw [eV2, hop]
                refine ⟨⟨hl2, ?_⟩, a3⟩
                cases z : hasI (v.sh (nI k)) ((d0 + nI day) % 20)
                · rfl
                · exact absurd z hc
              · rcases cd_head hle a2 (by omega) hlt with z | ⟨z, y⟩
                · omega
                · subst z
                  rw [eV2] at hv
                  exact a4 r hr hle y hv.2
        · refine goOn (fun r hr hle q hv => ?_) (by rw [e0, if_neg hl])
          obtain ⟨p1, p2, p3⟩ := nk q
          rw [eV, if_neg (by omega), p3] at hv
          exact hl (by rw [has_tb (by omega)]; exact hv.1.1)
    obtain ⟨l1, l2⟩ := loop N 0 (by omega)
    have e0 : fnd v d0 n N ix (f + 1) left day = fndL v d0 n ix (fnd v d0 n N ix f) left day N 0 := rfl
    have h0 := h.2.2.1
    rw [e0]
    refine ⟨fun q ds hl hle => ?_, fun ds0 q => ?_⟩
    · cases ds with
      | nil => simp at hl
      | cons i r => exact l1 q i r (by omega) (hle i List.mem_cons_self) (by simpa using hl) (fun j hj => hle j (List.mem_cons_of_mem _ hj))
    · obtain ⟨b1, b2, b3, b4⟩ := l2 ds0 q
      refine ⟨b1, b2, b3, fun ds hl hle hlt => ?_⟩
      cases ds with
      | nil => simp at hl
      | cons i r => exact b4 i r (by omega) (hle i List.mem_cons_self) (by simpa using hl) (fun j hj => hle j (List.mem_cons_of_mem _ hj)) hlt
/-! there is one -/
def shC (v : Vw) (d0 : Int32) (mm : Nat → Nat) (i : Nat) : Nat → Nat → Nat
  | 0, _ => 0
  | m + 1, day => (!opI v d0 mm i day).toNat + shC v d0 mm i m (day + 1)
theorem VL_rep : ∀ (m day : Nat), VL v d0 n mm (List.replicate m n) 0 day
  | 0, _ => rfl
  | m + 1, day => by
    show if n = n then VL v d0 n mm (List.replicate m n) 0 (day + 1) else _
    rw [if_pos rfl]
    exact VL_rep m (day + 1)
theorem ex_VL (h : MemB x n N mm ix) (hN : N ≤ 7) (m : Nat) : ∀ (left : Int32) (day j : Nat), (∀ k, tb left k = true → tb x k = true) → (∀ i, i < n → tb left (mm i) = true → shC v d0 mm i m day ≤ j) → pcN left + j ≤ m → ∃ ds : List Nat, ds.length = m ∧ (∀ i, i ∈ ds → i ≤ n) ∧ VL v d0 n mm ds left day := by
  induction m with
  | zero =>
    intro left day j _ _ hp
    exact ⟨[], rfl, fun i hi => absurd hi List.not_mem_nil, pcN_0.mp (by omega)⟩
  | succ m ih =>
    intro left day j hs hc hp
    by_cases hz : left = 0
    · subst hz
      exact ⟨List.replicate (m + 1) n, List.length_replicate, fun i hi => by rw [(List.mem_replicate.mp hi).2]; exact Nat.le_refl _, VL_rep _ _⟩
    · by_cases ho : ∃ i, i < n ∧ tb left (mm i) = true ∧ opI v d0 mm i day = true
      · obtain ⟨i, hi, h1, h2⟩ := ho
        have hmi := h.1 i hi
        have hr := pcN_rem (x := left) (k := mm i) (by omega) h1
        obtain ⟨ds, d1, d2, d3⟩ := ih (left &&& (bit (nI (mm i)) ^^^ -1)) (day + 1) j (fun q hq => by rw [tb_andn, Bool.and_eq_true] at hq; exact hs q hq.1) (fun q hq hq2 => by
          rw [tb_andn, Bool.and_eq_true] at hq2
          have := hc q hq hq2.1
          have e : shC v d0 mm q (m + 1) day = (!opI v d0 mm q day).toNat + shC v d0 mm q m (day + 1) := rfl
          omega) (by omega)
        refine ⟨i :: ds, by show ds.length + 1 = m + 1; omega, fun q hq => ?_, ?_⟩
        · rcases List.mem_cons.mp hq with z | z
          · omega
          · exact d2 q z
        · show if i = n then _ else _
          rw [if_neg (by omega)]
          exact ⟨⟨h1, h2⟩, d3⟩
      · have hcl : ∀ q, q < n → tb left (mm q) = true → shC v d0 mm q m (day + 1) + 1 ≤ j := fun q hq hq2 => by
          have := hc q hq hq2
          have e : shC v d0 mm q (m + 1) day = (!opI v d0 mm q day).toNat + shC v d0 mm q m (day + 1) := rfl
          have e2 : opI v d0 mm q day = false := by
            cases z : opI v d0 mm q day
            · rfl
            · exact absurd ⟨q, hq, hq2, z⟩ ho
          rw [e2] at e
          have : (!false).toNat = 1 := rfl
          omega
        have hex : ∃ k, tb left k = true := Classical.byContradiction fun q => hz (zero_tb.mpr fun i _ => by
          cases z : tb left i
          · rfl
          · exact absurd ⟨i, z⟩ q)
        obtain ⟨k, hk⟩ := hex
        obtain ⟨i0, hi0, ei0⟩ := (h.iff k).mp (hs k hk)
        have hj := hcl i0 hi0 (by rw [ei0]; exact hk)
        obtain ⟨ds, d1, d2, d3⟩ := ih left (day + 1) (j - 1) hs (fun q hq hq2 => by have := hcl q hq hq2; omega) (by omega)
        refine ⟨n :: ds, by show ds.length + 1 = m + 1; omega, fun q hq => ?_, ?_⟩
        · rcases List.mem_cons.mp hq with z | z
          · omega
          · exact d2 q z
        · show if n = n then VL v d0 n mm ds left (day + 1) else _
          rw [if_pos rfl]
          exact d3
end MEB
theorem win8 (t : Nat → Nat) (s : Nat) (hs : s < 20) : t (s % 20) + (t ((s + 1) % 20) + (t ((s + 2) % 20) + (t ((s + 3) % 20) + (t ((s + 4) % 20) + (t ((s + 5) % 20) + (t ((s + 6) % 20) + (t ((s + 7) % 20) + 0))))))) ≤ t 0 + (t 1 + (t 2 + (t 3 + (t 4 + (t 5 + (t 6 + (t 7 + (t 8 + (t 9 + (t 10 + (t 11 + (t 12 + (t 13 + (t 14 + (t 15 + (t 16 + (t 17 + (t 18 + (t 19 + 0))))))))))))))))))) := by
  have h : s = 0 ∨ s = 1 ∨ s = 2 ∨ s = 3 ∨ s = 4 ∨ s = 5 ∨ s = 6 ∨ s = 7 ∨ s = 8 ∨ s = 9 ∨ s = 10 ∨ s = 11 ∨ s = 12 ∨ s = 13 ∨ s = 14 ∨ s = 15 ∨ s = 16 ∨ s = 17 ∨ s = 18 ∨ s = 19 := by omega
  rcases h with rfl | rfl | rfl | rfl | rfl | rfl | rfl | rfl | rfl | rfl | rfl | rfl | rfl | rfl | rfl | rfl | rfl | rfl | rfl | rfl <;> simp only [Nat.reduceAdd, Nat.reduceMod, Nat.zero_add] <;> omega
