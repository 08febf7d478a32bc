/-! APPOINTMENTS: the first code that lays all is what the search finds (by hand) -/
set_option maxRecDepth 100000
section APP
variable (v : Vw) (d0 : Int32) (n N : Nat) (mm ix : Nat → Nat)
/-- a row of days, whose each is (n: nobody's) -/
def cdF : List Nat → Nat
  | [] => 0
  | i :: r => i * (n + 1) ^ r.length + cdF r
def opI (i k : Nat) : Bool := !hasI (v.sh (nI (mm i))) ((d0 + nI k) % 20)
def VL : List Nat → Int32 → Nat → Prop
  | [], left, _ => left = 0
  | i :: r, left, day => if i = n then VL r left (day + 1) else (tb left (mm i) = true ∧ opI v d0 mm i day = true) ∧ VL r (left &&& (bit (nI (mm i)) ^^^ -1)) (day + 1)
def fndL (rec : Int32 → Nat → Option (List Nat)) (left : Int32) (day : Nat) : Nat → Nat → Option (List Nat)
  | 0, _ => (rec left (day + 1)).map (n :: ·)
  | m + 1, k => if hasI left (nI k) = true then (if hasI (v.sh (nI k)) ((d0 + nI day) % 20) = true then fndL rec left day m (k + 1) else (match rec (left &&& (bit (nI k) ^^^ -1)) (day + 1) with
      | some r => some (ix k :: r)
      | none => fndL rec left day m (k + 1))) else fndL rec left day m (k + 1)
def fnd : Nat → Int32 → Nat → Option (List Nat)
  | 0, left, _ => if left = 0 then some [] else none
  | f + 1, left, day => fndL v d0 n ix (fnd f) left day N 0
end APP
section CDF
variable {n : Nat}
theorem cd_snoc : ∀ (l : List Nat) (i : Nat), cdF n (l ++ [i]) = cdF n l * (n + 1) + i
  | [], i => by show i * (n + 1) ^ 0 + 0 = 0 * (n + 1) + i; rw [Nat.pow_zero]; omega
  | a :: l, i => by
    show a * (n + 1) ^ (l ++ [i]).length + cdF n (l ++ [i]) = (a * (n + 1) ^ l.length + cdF n l) * (n + 1) + i
    rw [cd_snoc l i, List.length_append, show [i].length = 1 from rfl, Nat.pow_succ, Nat.add_mul, Nat.mul_assoc]
    omega
theorem cd_lt : ∀ (l : List Nat), (∀ i, i ∈ l → i ≤ n) → cdF n l < (n + 1) ^ l.length
  | [], _ => Nat.one_pos
  | a :: l, h => by
    have ih := cd_lt l (fun i hi => h i (List.mem_cons_of_mem _ hi))
    have ha := h a List.mem_cons_self
    show a * (n + 1) ^ l.length + cdF n l < (n + 1) ^ (l.length + 1)
    rw [Nat.pow_succ, Nat.mul_comm _ (n + 1)]
    have : (n + 1) * (n + 1) ^ l.length = n * (n + 1) ^ l.length + (n + 1) ^ l.length := by rw [Nat.add_mul, Nat.one_mul]
    have h2 : a * (n + 1) ^ l.length ≤ n * (n + 1) ^ l.length := Nat.mul_le_mul_right _ ha
    omega
theorem cd_surj : ∀ (m c : Nat), c < (n + 1) ^ m → ∃ l : List Nat, l.length = m ∧ (∀ i, i ∈ l → i ≤ n) ∧ cdF n l = c
  | 0, c, h => ⟨[], rfl, fun i hi => absurd hi List.not_mem_nil, by rw [Nat.pow_zero] at h; show 0 = c; omega⟩
  | m + 1, c, h => by
    have hd : c / (n + 1) < (n + 1) ^ m := by
      rw [Nat.pow_succ, Nat.mul_comm] at h
      exact Nat.div_lt_of_lt_mul h
    obtain ⟨l, h1, h2, h3⟩ := cd_surj m (c / (n + 1)) hd
    have hm : c % (n + 1) < n + 1 := Nat.mod_lt _ (Nat.succ_pos _)
    refine ⟨l ++ [c % (n + 1)], by rw [List.length_append, h1]; rfl, fun i hi => ?_, ?_⟩
    · rcases List.mem_append.mp hi with z | z
      · exact h2 i z
      · have : i = c % (n + 1) := by simpa using z
        omega
    · rw [cd_snoc, h3, Nat.mul_comm]
      exact Nat.div_add_mod c (n + 1)
theorem cd_head {i j : Nat} {r s : List Nat} (hr : ∀ i, i ∈ r → i ≤ n) (hs : ∀ i, i ∈ s → i ≤ n) (hl : r.length = s.length) (h : cdF n (i :: r) < cdF n (j :: s)) : i < j ∨ i = j ∧ cdF n r < cdF n s := by
  have h1 : i * (n + 1) ^ r.length + cdF n r < j * (n + 1) ^ s.length + cdF n s := h
  rw [hl] at h1
  have h3 := cd_lt s hs
  rcases Nat.lt_trichotomy i j with z | z | z
  · exact Or.inl z
  · subst z; exact Or.inr ⟨rfl, by omega⟩
  · exfalso
    have h4 : (j + 1) * (n + 1) ^ s.length ≤ i * (n + 1) ^ s.length := Nat.mul_le_mul_right _ z
    rw [Nat.add_mul, Nat.one_mul] at h4
    omega
end CDF
/-! what the model asks of a row: each in it once, each on a day it is open -/
section PBS
variable {v : Vw} {d0 : Int32} {n : Nat} {mm : Nat → Nat} {M : Nat → Int32}
def PB (v : Vw) (d0 : Int32) (n : Nat) (mm : Nat → Nat) (l : List Nat) (g : Int32) : Prop := (∀ (k i : Nat), l[k]? = some i → i ≠ n → tb g i = false ∧ opI v d0 mm i k = true) ∧ (∀ (k k2 i : Nat), k < k2 → l[k]? = some i → l[k2]? = some i → i = n) ∧ ∀ i, i < n → tb g i = true ∨ ∃ k : Nat, l[k]? = some i
theorem snoc_get {l : List Nat} {x : Nat} {k i : Nat} (h : (l ++ [x])[k]? = some i) : (k < l.length ∧ l[k]? = some i) ∨ (k = l.length ∧ i = x) := by
  by_cases z : k < l.length
  · rw [List.getElem?_append_left z] at h; exact Or.inl ⟨z, h⟩
  · rw [List.getElem?_append_right (by omega)] at h
    by_cases y : k = l.length
    · subst y; rw [Nat.sub_self] at h; exact Or.inr ⟨rfl, (Option.some.inj h).symm⟩
    · rw [List.getElem?_eq_none (by simp; omega)] at h; cases h
theorem get_l {l : List Nat} {x k i : Nat} (h : l[k]? = some i) : (l ++ [x])[k]? = some i := by
  rw [List.getElem?_append_left (List.getElem?_eq_some_iff.mp h).1]; exact h
theorem get_x {l : List Nat} {x : Nat} : (l ++ [x])[l.length]? = some x := by rw [List.getElem?_append_right (Nat.le_refl _), Nat.sub_self]; rfl
theorem PB_n {l : List Nat} {g : Int32} : PB v d0 n mm (l ++ [n]) g ↔ PB v d0 n mm l g := by
  constructor
  · rintro ⟨h1, h2, h3⟩
    refine ⟨fun k i hk hi => h1 k i (get_l hk) hi, fun k k2 i hkk h4 h5 => h2 k k2 i hkk (get_l h4) (get_l h5), fun i hi => ?_⟩
    rcases h3 i hi with z | ⟨k, z⟩
    · exact Or.inl z
    · rcases snoc_get z with ⟨-, y⟩ | ⟨-, y⟩
      · exact Or.inr ⟨k, y⟩
      · omega
  · rintro ⟨h1, h2, h3⟩
    refine ⟨fun k i hk hi => ?_, fun k k2 i hkk h4 h5 => ?_, fun i hi => (h3 i hi).imp id (fun ⟨k, z⟩ => ⟨k, get_l z⟩)⟩
    · rcases snoc_get hk with ⟨-, y⟩ | ⟨-, y⟩
      · exact h1 k i y hi
      · exact absurd y hi
    · rcases snoc_get h5 with ⟨-, y⟩ | ⟨-, y⟩
      · rcases snoc_get h4 with ⟨-, x⟩ | ⟨z, x⟩
        · exact h2 k k2 i hkk x y
        · exact x
      · exact y
theorem PB_i {l : List Nat} {g : Int32} {x : Nat} (hx : x ≠ n) (hx32 : x < 32) (hn : n < 32) : PB v d0 n mm (l ++ [x]) g ↔ (tb g x = false ∧ opI v d0 mm x l.length = true) ∧ PB v d0 n mm l (g ||| bit (nI x)) := by
  constructor
  · rintro ⟨h1, h2, h3⟩
    refine ⟨h1 _ _ get_x hx, fun k i hk hi => ?_, fun k k2 i hkk h4 h5 => h2 k k2 i hkk (get_l h4) (get_l h5), fun i hi => ?_⟩
    · obtain ⟨a, b⟩ := h1 k i (get_l hk) hi
      refine ⟨?_, b⟩
      rw [tb_or, a, tb_bit hx32, Bool.false_or]
      refine decide_eq_false (fun q => ?_)
      subst q
      exact hx (h2 k l.length i (List.getElem?_eq_some_iff.mp hk).1 (get_l hk) get_x)
    · rcases h3 i hi with z | ⟨k, z⟩
      · left; rw [tb_or, z]; rfl
      · rcases snoc_get z with ⟨-, y⟩ | ⟨-, y⟩
        · exact Or.inr ⟨k, y⟩
        · left; subst y; rw [tb_or, tb_bit hx32]; simp
  · rintro ⟨⟨a, b⟩, h1, h2, h3⟩
    have nx : ∀ k : Nat, l[k]? = some x → False := fun k hk => by
      have := (h1 k x hk hx).1
      rw [tb_or, tb_bit hx32] at this
      simp at this
    refine ⟨fun k i hk hi => ?_, fun k k2 i hkk h4 h5 => ?_, fun i hi => ?_⟩
    · rcases snoc_get hk with ⟨-, y⟩ | ⟨z, y⟩
      · obtain ⟨p, q⟩ := h1 k i y hi
        rw [tb_or, Bool.or_eq_false_iff] at p
        exact ⟨p.1, q⟩
      · subst z y; exact ⟨a, b⟩
    · rcases snoc_get h5 with ⟨y1, y⟩ | ⟨y1, y⟩
      · rcases snoc_get h4 with ⟨-, z⟩ | ⟨z1, z⟩
        · exact h2 k k2 i hkk z y
        · omega
      · rcases snoc_get h4 with ⟨-, z⟩ | ⟨z1, z⟩
        · subst y; exact (nx k z).elim
        · omega
    · rcases h3 i hi with z | ⟨k, z⟩
      · rw [tb_or, tb_bit hx32, Bool.or_eq_true, decide_eq_true_eq] at z
        rcases z with z | z
        · exact Or.inl z
        · subst z; exact Or.inr ⟨_, get_x⟩
      · exact Or.inr ⟨k, get_l z⟩
/-- a code laid down -/
theorem laid_iff (hn : n ≤ 7) (hM : ∀ i, i < n → M i = nI (mm i) ∧ mm i < 7) (hinj : ∀ i j, i < n → j < n → mm i = mm j → i = j) : ∀ (m : Nat) (l : List Nat) (g : Int32) (D : Nat → Int32), l.length = m → (∀ i, i ∈ l → i ≤ n) → (∀ i, n ≤ i → tb g i = false) →
    ((laidF v M d0 n m (cdF n l) g D).1 = true ↔ PB v d0 n mm l g) ∧ ((laidF v M d0 n m (cdF n l) g D).1 = true → (∀ (k i : Nat), l[k]? = some i → i ≠ n → (laidF v M d0 n m (cdF n l) g D).2 (mm i) = nI k) ∧ ∀ h, (∀ i, i ∈ l → i ≠ n → mm i ≠ h) → (laidF v M d0 n m (cdF n l) g D).2 h = D h)
  | 0, l, g, D, hl, _, hg => by
    have : l = [] := List.length_eq_zero_iff.mp hl
    subst this
    refine ⟨?_, fun _ => ⟨fun k i hk => by simp at hk, fun _ _ => rfl⟩⟩
    show decide (g = (1 <<< (nI n &&& 31)) - 1) = true ↔ _
    rw [decide_eq_true_eq]
    constructor
    · intro h
      refine ⟨fun k i hk => by simp at hk, fun k k2 i _ hk => by simp at hk, fun i hi => Or.inl ?_⟩
      rw [h, msk7 n hn i (by omega)]
      exact decide_eq_true hi
    · rintro ⟨-, -, h3⟩
      apply tb_ext
      intro i hi
      rw [msk7 n hn i hi]
      by_cases z : i < n
      · rcases h3 i z with y | ⟨k, y⟩
        · rw [y, decide_eq_true z]
        · simp at y
      · rw [hg i (by omega), decide_eq_false z]
  | m + 1, l, g, D, hl, hle, hg => by
    rcases List.eq_nil_or_concat l with z | ⟨l2, x, z⟩
    · subst z; simp at hl
    · rw [List.concat_eq_append] at z
      subst z
      have hl2 : l2.length = m := by rw [List.length_append] at hl; simp at hl; exact hl
      have hle2 : ∀ i, i ∈ l2 → i ≤ n := fun i hi => hle i (List.mem_append_left _ hi)
      have hx := hle x (List.mem_append_right _ (List.mem_singleton.mpr rfl))
      have e1 : cdF n (l2 ++ [x]) % (n + 1) = x := by rw [cd_snoc, Nat.mul_add_mod']; exact Nat.mod_eq_of_lt (by omega)
      have e2 : cdF n (l2 ++ [x]) / (n + 1) = cdF n l2 := by rw [cd_snoc, Nat.mul_comm, Nat.mul_add_div (by omega), Nat.div_eq_of_lt (by omega), Nat.add_zero]
      have eL : laidF v M d0 n (m + 1) (cdF n (l2 ++ [x])) g D = if x = n then laidF v M d0 n m (cdF n l2) g D else if hasI g (nI x) = true ∨ hasI (v.sh (M x)) ((d0 + nI m) % 20) = true then (false, D) else laidF v M d0 n m (cdF n l2) (g ||| bit (nI x)) (up D (cI (M x)) (nI m)) := by
        show (if cdF n (l2 ++ [x]) % (n + 1) = n then _ else if hasI g (nI (cdF n (l2 ++ [x]) % (n + 1))) = true ∨ hasI (v.sh (M (cdF n (l2 ++ [x]) % (n + 1)))) ((d0 + nI m) % 20) = true then _ else _) = _
        rw [e1, e2]
      rw [eL]
      by_cases hxn : x = n
      · rw [if_pos hxn, hxn]
        obtain ⟨i1, i2⟩ := laid_iff hn hM hinj m l2 g D hl2 hle2 hg
        refine ⟨i1.trans PB_n.symm, fun h => ?_⟩
        obtain ⟨j1, j2⟩ := i2 h
        refine ⟨fun k i hk hi => ?_, fun h hh => j2 h (fun i hi => hh i (List.mem_append_left _ hi))⟩
        rcases snoc_get hk with ⟨-, y⟩ | ⟨-, y⟩
        · exact j1 k i y hi
        · exact absurd y hi
      · rw [if_neg hxn]
        have hxlt : x < n := by omega
        obtain ⟨m1, m2⟩ := hM x hxlt
        have hop : opI v d0 mm x m = !hasI (v.sh (M x)) ((d0 + nI m) % 20) := by unfold opI; rw [m1]
        have hP := PB_i (v := v) (d0 := d0) (mm := mm) (l := l2) (g := g) hxn (by omega) (by omega : n < 32)
        rw [hl2] at hP
        by_cases hc : hasI g (nI x) = true ∨ hasI (v.sh (M x)) ((d0 + nI m) % 20) = true
        · rw [if_pos hc]
          refine ⟨⟨fun q => Bool.noConfusion q, fun q => ?_⟩, fun q => Bool.noConfusion q⟩
          obtain ⟨⟨a, b⟩, -⟩ := hP.mp q
          rcases hc with z | z
          · rw [has_tb (by omega), a] at z; exact Bool.noConfusion z
          · rw [hop, z] at b; exact Bool.noConfusion b
        · rw [if_neg hc]
          have ha : tb g x = false := by
            cases z : tb g x
            · rfl
            · exact absurd (Or.inl (by rw [has_tb (by omega), z])) hc
          have hb : opI v d0 mm x m = true := by
            rw [hop]
            cases z : hasI (v.sh (M x)) ((d0 + nI m) % 20)
            · rfl
            · exact absurd (Or.inr z) hc
          have hg2 : ∀ i, n ≤ i → tb (g ||| bit (nI x)) i = false := fun i hi => by
            rw [tb_or, hg i hi, tb_bit (by omega), decide_eq_false (by omega)]; rfl
          obtain ⟨i1, i2⟩ := laid_iff hn hM hinj m l2 (g ||| bit (nI x)) (up D (cI (M x)) (nI m)) hl2 hle2 hg2
          refine ⟨⟨fun q => hP.mpr ⟨⟨ha, hb⟩, i1.mp q⟩, fun q => i1.mpr (hP.mp q).2⟩, fun h => ?_⟩
          obtain ⟨j1, j2⟩ := i2 h
          have hPB := hP.mpr ⟨⟨ha, hb⟩, i1.mp h⟩
          have cx : cI (M x) = mm x := by rw [m1, cI_nI (by omega)]
          have hnx : ∀ i, i ∈ l2 → i ≠ n → mm i ≠ mm x := fun i hi hin q => by
            have e := hinj i x (by have := hle2 i hi; omega) hxlt q
            subst e
            obtain ⟨k, hk1, hk2⟩ := List.getElem_of_mem hi
            have hk3 : l2[k]? = some i := by rw [List.getElem?_eq_getElem hk1, hk2]
            exact hin (hPB.2.1 k l2.length i hk1 (get_l hk3) get_x)
          refine ⟨fun k i hk hi => ?_, fun h hh => ?_⟩
          · rcases snoc_get hk with ⟨-, y⟩ | ⟨y1, y⟩
            · exact j1 k i y hi
            · subst y1 y
              rw [j2 (mm i) hnx, cx, up_eq, hl2]
          · rw [j2 h (fun i hi => hh i (List.mem_append_left _ hi)), cx, up_ne (fun q => hh x (List.mem_append_right _ (List.mem_singleton.mpr rfl)) hxn q.symm)]
end PBS
/-! the same asked from the first day on -/
section VLS
variable {v : Vw} {d0 : Int32} {n : Nat} {mm : Nat → Nat}
def PL (v : Vw) (d0 : Int32) (n : Nat) (mm : Nat → Nat) (l : List Nat) (left : Int32) (day : Nat) : Prop := (∀ (k i : Nat), l[k]? = some i → i ≠ n → tb left (mm i) = true ∧ opI v d0 mm i (day + k) = true) ∧ (∀ (k k2 i : Nat), k < k2 → l[k]? = some i → l[k2]? = some i → i = n) ∧ ∀ h, tb left h = true → ∃ (k i : Nat), l[k]? = some i ∧ i ≠ n ∧ mm i = h
theorem VL_PL (hn : n ≤ 7) (hM : ∀ i, i < n → mm i < 7) (hinj : ∀ i j, i < n → j < n → mm i = mm j → i = j) : ∀ (l : List Nat) (left : Int32) (day : Nat), (∀ i, i ∈ l → i ≤ n) → (VL v d0 n mm l left day ↔ PL v d0 n mm l left day)
  | [], left, day, _ => by
    show left = 0 ↔ _
    constructor
    · intro h
      refine ⟨fun k i hk => by simp at hk, fun k k2 i _ hk => by simp at hk, fun h2 hh => ?_⟩
      rw [h, tb_0] at hh; exact Bool.noConfusion hh
    · rintro ⟨-, -, h3⟩
      refine zero_tb.mpr fun i hi => ?_
      cases z : tb left i
      · rfl
      · obtain ⟨k, j, hk, -⟩ := h3 i z
        simp at hk
  | x :: r, left, day, hle => by
    have hle2 : ∀ i, i ∈ r → i ≤ n := fun i hi => hle i (List.mem_cons_of_mem _ hi)
    have hx := hle x List.mem_cons_self
    have e : VL v d0 n mm (x :: r) left day = if x = n then VL v d0 n mm r left (day + 1) else (tb left (mm x) = true ∧ opI v d0 mm x day = true) ∧ VL v d0 n mm r (left &&& (bit (nI (mm x)) ^^^ -1)) (day + 1) := rfl
    rw [e]
    by_cases hxn : x = n
    · rw [if_pos hxn, VL_PL hn hM hinj r left (day + 1) hle2]
      constructor
      · rintro ⟨h1, h2, h3⟩
        refine ⟨fun k i hk hi => ?_, fun k k2 i hkk h4 h5 => ?_, fun h hh => ?_⟩
        · cases k with
          | zero => exact absurd ((Option.some.inj hk).symm.trans hxn) hi
          | succ k =>
            rw [List.getElem?_cons_succ] at hk
            have := h1 k i hk hi
            rwa [show day + 1 + k = day + (k + 1) by omega] at this
        · cases k with
          | zero => exact (Option.some.inj h4).symm.trans hxn
          | succ k =>
            cases k2 with
            | zero => omega
            | succ k2 => exact h2 k k2 i (by omega) h4 h5
        · obtain ⟨k, i, a, b, c⟩ := h3 h hh
          exact ⟨k + 1, i, a, b, c⟩
      · rintro ⟨h1, h2, h3⟩
        refine ⟨fun k i hk hi => ?_, fun k k2 i hkk h4 h5 => h2 (k + 1) (k2 + 1) i (by omega) h4 h5, fun h hh => ?_⟩
        · have := h1 (k + 1) i hk hi
          rwa [show day + (k + 1) = day + 1 + k by omega] at this
        · obtain ⟨k, i, a, b, c⟩ := h3 h hh
          cases k with
          | zero => exact absurd ((Option.some.inj a).symm.trans hxn) b
          | succ k => exact ⟨k, i, a, b, c⟩
    · rw [if_neg hxn, VL_PL hn hM hinj r _ (day + 1) hle2]
      have hxl : x < n := by omega
      have hmx := hM x hxl
      constructor
      · rintro ⟨⟨a, b⟩, h1, h2, h3⟩
        have nx : ∀ k : Nat, r[k]? = some x → False := fun k hk => by
          have := (h1 k x hk hxn).1
          rw [tb_andn, tb_bit (by omega)] at this
          simp at this
        refine ⟨fun k i hk hi => ?_, fun k k2 i hkk h4 h5 => ?_, fun h hh => ?_⟩
        · cases k with
          | zero =>
            have e : i = x := (Option.some.inj hk).symm
            subst e; exact ⟨a, b⟩
          | succ k =>
            rw [List.getElem?_cons_succ] at hk
            obtain ⟨p, q⟩ := h1 k i hk hi
            rw [tb_andn] at p
            rw [show day + 1 + k = day + (k + 1) by omega] at q
            exact ⟨(Bool.and_eq_true_iff.mp p).1, q⟩
        · cases k with
          | zero =>
            have e : i = x := (Option.some.inj h4).symm
            subst e
            cases k2 with
            | zero => omega
            | succ k2 => exact (nx k2 h5).elim
          | succ k =>
            cases k2 with
            | zero => omega
            | succ k2 => exact h2 k k2 i (by omega) h4 h5
        · by_cases z : h = mm x
          · exact ⟨0, x, rfl, hxn, z.symm⟩
          · have : tb (left &&& (bit (nI (mm x)) ^^^ -1)) h = true := by rw [tb_andn, hh, tb_bit (by omega), decide_eq_false z]; rfl
            obtain ⟨k, i, p, q, w⟩ := h3 h this
            exact ⟨k + 1, i, p, q, w⟩
      · rintro ⟨h1, h2, h3⟩
        obtain ⟨a, b⟩ := h1 0 x rfl hxn
        rw [Nat.add_zero] at b
        refine ⟨⟨a, b⟩, fun k i hk hi => ?_, fun k k2 i hkk h4 h5 => h2 (k + 1) (k2 + 1) i (by omega) h4 h5, fun h hh => ?_⟩
        · obtain ⟨p, q⟩ := h1 (k + 1) i hk hi
          rw [show day + (k + 1) = day + 1 + k by omega] at q
          refine ⟨?_, q⟩
          have hil : i < n := by have := hle2 i (List.mem_of_getElem? hk); omega
          have hne : mm i ≠ mm x := fun z => by
            have e := hinj i x hil hxl z
            subst e
            exact hi (h2 0 (k + 1) i (by omega) rfl hk)
          rw [tb_andn, p, tb_bit (by omega), decide_eq_false hne]; rfl
        · rw [tb_andn, Bool.and_eq_true] at hh
          obtain ⟨k, i, p, q, w⟩ := h3 h hh.1
          cases k with
          | zero =>
            have e : i = x := (Option.some.inj p).symm
            subst e
            rw [← w, tb_bit (by omega)] at hh
            simp at hh
          | succ k => exact ⟨k, i, p, q, w⟩
/-- from all: the model's question is this one -/
theorem PB_PL {x : Int32} (hx : ∀ h, tb x h = true ↔ ∃ i, i < n ∧ mm i = h) (hinj : ∀ i j, i < n → j < n → mm i = mm j → i = j) (l : List Nat) (hle : ∀ i, i ∈ l → i ≤ n) : PB v d0 n mm l 0 ↔ PL v d0 n mm l x 0 := by
  constructor
  · rintro ⟨h1, h2, h3⟩
    refine ⟨fun k i hk hi => ⟨?_, by rw [Nat.zero_add]; exact (h1 k i hk hi).2⟩, h2, fun h hh => ?_⟩
    · exact (hx _).mpr ⟨i, by have := hle i (List.mem_of_getElem? hk); omega, rfl⟩
    · obtain ⟨i, hi, e⟩ := (hx h).mp hh
      rcases h3 i hi with z | ⟨k, z⟩
      · rw [tb_0] at z; exact Bool.noConfusion z
      · exact ⟨k, i, z, by omega, e⟩
  · rintro ⟨h1, h2, h3⟩
    refine ⟨fun k i hk hi => ⟨tb_0, by have := (h1 k i hk hi).2; rwa [Nat.zero_add] at this⟩, h2, fun i hi => Or.inr ?_⟩
    obtain ⟨k, j, p, q, w⟩ := h3 (mm i) ((hx _).mpr ⟨i, hi, rfl⟩)
    have e := hinj j i (by have := hle j (List.mem_of_getElem? p); omega) hi w
    subst e
    exact ⟨k, p⟩
end VLS
