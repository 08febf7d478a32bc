/-! INDEX: no reading goes beyond the text's tokens (by hand) -/
set_option maxRecDepth 100000
def le3 (x : RD) : Prop := match x with
  | .inl e => e.2 ≤ 300
  | .inr e => e.2 ≤ 300
theorem bd_le {x : RD} {k : Cd → Nat → RD} (h : le3 x) (hk : ∀ c j, j ≤ 300 → le3 (k c j)) : le3 (bd x k) := by
  cases x with
  | inl e => exact h
  | inr e => exact hk e.1 e.2 h
section INDEX
variable {t : Nat → Int32} {n : Nat} {L0 : Lq} {lets : Bool}
theorem wd_s {L : Lq} {x : Int64} (h : isWd L x = true) : ¬ L.2.2.1 = 0 := by
  rw [of_decide_eq_true (Bool.and_eq_true_iff.mp h).1]; decide
theorem long_s {B : Nat → Int32} {L : Lq} {p : Nat} {x y : Int64} (h : isLongF B L p x y = true) : ¬ L.2.2.1 = 0 := by
  have q : decide (L.2.2.1 = 2) = true := (Bool.and_eq_true_iff.mp h).1
  rw [of_decide_eq_true q]; decide
theorem nmK_s {B : Nat → Int32} {K : Nat → Lq} {i : Nat} (h : 0 ≤ nmK B K i) : ¬ (K i).2.2.1 = 0 := fun z => by
  have : nmK B K i = -1 := by
    unfold nmK nameF
    rw [if_neg (by rw [z]; decide)]
  rw [this] at h
  exact absurd h (by decide)
theorem rd_le (hn : n ≤ 300) : ∀ f md (C : Cd) i (o : Int32), i ≤ 300 → le3 (rd (byteF t n) (tkL t n L0) lets f md C i o)
  | 0, _, _, i, _, h => h
  | f + 1, md, C, i, o, h => by
    have R := rd_le hn f
    have t3 : ∀ i, ¬ (tkL t n L0 i).2.2.1 = 0 → i < 300 := fun i => tk_300 hn
    have tw : ∀ i x, isWd (tkL t n L0 i) x = true → i < 300 := fun i x h => t3 i (wd_s h)
    show le3 (rdS (byteF t n) (tkL t n L0) lets (rd (byteF t n) (tkL t n L0) lets f) md C i o)
    generalize rd (byteF t n) (tkL t n L0) lets f = r at R
    have two : ∀ (v1 v2 : Int32) (m1 m2 : Nat) (k1 k2 : Cd → Cd), ¬ v1 = 0 → ¬ v2 = 0 → le3 (if (tkL t n L0 i).2.2.1 = v1 then bd (r m1 [] (i + 1) o) fun c j => r m2 (k1 c) j o else if (tkL t n L0 i).2.2.1 = v2 then bd (r m1 [] (i + 1) o) fun c j => r m2 (k2 c) j o else .inr (C, i)) := fun v1 v2 m1 m2 k1 k2 z1 z2 => by
      by_cases a : (tkL t n L0 i).2.2.1 = v1
      · rw [if_pos a]
        have := t3 i (by rw [a]; exact z1)
        exact bd_le (R _ _ _ _ (by omega)) (fun c j hj => R _ _ _ _ hj)
      · rw [if_neg a]
        by_cases b : (tkL t n L0 i).2.2.1 = v2
        · rw [if_pos b]
          have := t3 i (by rw [b]; exact z2)
          exact bd_le (R _ _ _ _ (by omega)) (fun c j hj => R _ _ _ _ hj)
        · rw [if_neg b]; exact h
    have one : ∀ (x : Int64) (m1 m2 : Nat) (k1 : Cd → Cd), le3 (if isWd (tkL t n L0 i) x = true then bd (r m1 [] (i + 1) o) fun c j => r m2 (k1 c) j o else .inr (C, i)) := fun x m1 m2 k1 => by
      by_cases a : isWd (tkL t n L0 i) x = true
      · rw [if_pos a]
        have := tw i _ a
        exact bd_le (R _ _ _ _ (by omega)) (fun c j hj => R _ _ _ _ hj)
      · rw [if_neg a]; exact h
    have rd1 : le3 (rdOne (byteF t n) (tkL t n L0) lets r i o) := by
      unfold rdOne
      by_cases a1 : (tkL t n L0 i).2.2.1 = 1
      · have hi := t3 i (by rw [a1]; decide)
        rw [if_pos a1]
        split
        · exact h
        · show i + 1 ≤ 300; omega
      rw [if_neg a1]
      by_cases a2 : 0 ≤ nmK (byteF t n) (tkL t n L0) i
      · have hi := t3 i (nmK_s a2)
        rw [if_pos a2]
        split
        · exact h
        · show i + 1 ≤ 300; omega
      rw [if_neg a2]
      by_cases a3 : (tkL t n L0 i).2.2.1 = 40
      · have hi := t3 i (by rw [a3]; decide)
        rw [if_pos a3]
        split
        · exact h
        · refine bd_le (R _ _ _ _ (by omega)) (fun c j hj => ?_)
          by_cases b : (tkL t n L0 j).2.2.1 = 41
          · have := t3 j (by rw [b]; decide)
            rw [if_pos b]; show j + 1 ≤ 300; omega
          · rw [if_neg b]; exact hj
      rw [if_neg a3]
      by_cases a4 : (tkL t n L0 i).2.2.1 = 45
      · have hi := t3 i (by rw [a4]; decide)
        rw [if_pos a4]
        split
        · exact h
        · exact bd_le (R _ _ _ _ (by omega)) (fun c j hj => hj)
      rw [if_neg a4]
      by_cases a5 : isWd (tkL t n L0 i) (w5F 100 105 103 105 116) = true
      · have hi := tw i _ a5
        rw [if_pos a5]
        split
        · exact h
        · refine bd_le (R _ _ _ _ (by omega)) (fun c j hj => ?_)
          by_cases b : isWd (tkL t n L0 j) (w2F 111 102) = true
          · have := tw j _ b
            rw [if_pos b]
            exact bd_le (R _ _ _ _ (by omega)) (fun c j hj => hj)
          · rw [if_neg b]; exact hj
      rw [if_neg a5]
      exact h
    have rd5 : le3 (rdAsk (byteF t n) (tkL t n L0) r i o) := by
      unfold rdAsk
      by_cases a1 : isWd (tkL t n L0 i) (w3F 110 111 116) = true
      · have hi := tw i _ a1
        rw [if_pos a1]
        split
        · exact h
        · exact bd_le (R _ _ _ _ (by omega)) (fun c j hj => hj)
      rw [if_neg a1]
      refine bd_le (R _ _ _ _ h) (fun c j hj => ?_)
      by_cases b : cpK (byteF t n) (tkL t n L0) j = -1
      · rw [if_pos b]; exact hj
      · have := t3 j (fun z => b (by
          unfold cpK cmpF
          rw [z]
          have : isDiF (byteF t n) (tkL t n L0 j) (cI (tkL t n L0 j).2.1) = false := by
            cases y : isDiF (byteF t n) (tkL t n L0 j) (cI (tkL t n L0 j).2.1)
            · rfl
            · exact absurd z (long_s y)
          rw [this]
          rfl))
        rw [if_neg b]
        exact bd_le (R _ _ _ _ (by omega)) (fun c j hj => hj)
    unfold rdS
    by_cases m0 : md = 0
    · rw [if_pos m0]; exact rd1
    rw [if_neg m0]
    by_cases m1 : md = 1
    · rw [if_pos m1]; exact bd_le (R _ _ _ _ h) (fun c j hj => R _ _ _ _ hj)
    rw [if_neg m1]
    by_cases m2 : md = 2
    · rw [if_pos m2]; exact two 42 47 0 2 (fun c => C ++ c ++ [(5, 0)]) (fun c => C ++ c ++ [(6, 0)]) (by decide) (by decide)
    rw [if_neg m2]
    by_cases m3 : md = 3
    · rw [if_pos m3]; exact bd_le (R _ _ _ _ h) (fun c j hj => R _ _ _ _ hj)
    rw [if_neg m3]
    by_cases m4 : md = 4
    · rw [if_pos m4]; exact two 43 45 1 4 (fun c => C ++ c ++ [(3, 0)]) (fun c => C ++ c ++ [(4, 0)]) (by decide) (by decide)
    rw [if_neg m4]
    by_cases m5 : md = 5
    · rw [if_pos m5]; exact rd5
    rw [if_neg m5]
    by_cases m6 : md = 6
    · rw [if_pos m6]; exact bd_le (R _ _ _ _ h) (fun c j hj => R _ _ _ _ hj)
    rw [if_neg m6]
    by_cases m7 : md = 7
    · rw [if_pos m7]; exact one _ 5 7 (fun c => C ++ c ++ [(21, 0)])
    rw [if_neg m7]
    by_cases m8 : md = 8
    · rw [if_pos m8]; exact bd_le (R _ _ _ _ h) (fun c j hj => R _ _ _ _ hj)
    rw [if_neg m8]
    exact one _ 6 9 (fun c => C ++ c ++ [(22, 0)])
/-- of a body: the index, and days to go from 1 to 60 -/
def leB (so : Int32) (x : BR) : Prop := match x with
  | .inl e => e.2 ≤ 300
  | .inr e => e.2 ≤ 300 ∧ dayOk so e.1.1
theorem fig_s {L : Lq} {lo hi : Int32} (h : figF L lo hi = 0) : ¬ L.2.2.1 = 0 ∧ inI L.2.2.2.1 lo hi = true := by
  unfold figF at h
  by_cases a : L.2.2.1 = 1
  · refine ⟨by rw [a]; decide, ?_⟩
    rw [if_pos a] at h
    cases b : inI L.2.2.2.1 lo hi
    · rw [b] at h; exact absurd h (by decide)
    · rfl
  · rw [if_neg a] at h; exact absurd h (by decide)
theorem leB_fg {K : Nat → Lq} {so : Int32} (hn : ∀ i, ¬ (K i).2.2.1 = 0 → i < 300) {i : Nat} {lo hi : Int32} {k : BR} (hi3 : i ≤ 300) (h : i < 300 → inI (K i).2.2.2.1 lo hi = true → leB so k) : leB so (fgR K i lo hi k) := by
  unfold fgR
  by_cases e : figF (K i) lo hi = 0
  · obtain ⟨a, b⟩ := fig_s e
    rw [if_pos e]; exact h (hn _ a) b
  · rw [if_neg e]; exact hi3
theorem leB_wd {K : Nat → Lq} {so : Int32} (hn : ∀ i, ¬ (K i).2.2.1 = 0 → i < 300) {i : Nat} {x : Int64} {k : BR} (hi3 : i ≤ 300) (h : i < 300 → leB so k) : leB so (wdR K i x k) := by
  unfold wdR
  by_cases e : isWd (K i) x = true
  · rw [if_pos e]; exact h (hn _ (wd_s e))
  · rw [if_neg e]; exact hi3
theorem body_leK {B : Nat → Int32} {K : Nat → Lq} (hn : ∀ i, ¬ (K i).2.2.1 = 0 → i < 300) {so : Int32} {i : Nat} (h : i ≤ 300) : leB so (bodyR B K so i) := by
  unfold bodyR
  by_cases a3 : so = 3
  · rw [if_pos a3]
    refine leB_fg hn h fun h1 _ => ?_
    refine leB_wd hn (by omega) fun h2 => ?_
    refine leB_fg hn (by omega) fun h3 _ => ?_
    by_cases b : isFrF B (K (i + 3)) (cI (K (i + 3)).2.1) = true
    · rw [if_pos b]
      have := hn _ (long_s b)
      refine leB_fg hn (by omega) fun h4 _ => ?_
      exact ⟨by show i + 5 ≤ 300; omega, fun z => by rw [a3] at z; exact absurd z (by decide)⟩
    · rw [if_neg b]; show i + 3 ≤ 300; omega
  rw [if_neg a3]
  by_cases a5 : so = 5
  · rw [if_pos a5]
    refine leB_fg hn h fun h1 _ => ?_
    refine leB_wd hn (by omega) fun h2 => ?_
    refine leB_fg hn (by omega) fun h3 _ => ?_
    exact ⟨by show i + 3 ≤ 300; omega, fun z => by rw [a5] at z; exact absurd z (by decide)⟩
  rw [if_neg a5]
  by_cases a7 : so = 7
  · rw [if_pos a7]
    refine leB_fg hn h fun h1 _ => ?_
    refine leB_wd hn (by omega) fun h2 => ?_
    refine leB_fg hn (by omega) fun h3 _ => ?_
    exact ⟨by show i + 3 ≤ 300; omega, fun z => by rw [a7] at z; exact absurd z (by decide)⟩
  rw [if_neg a7]
  by_cases a8 : so = 8
  · rw [if_pos a8]
    refine leB_fg hn h fun h1 q => ⟨by show i + 1 ≤ 300; omega, fun _ => ?_⟩
    obtain ⟨q1, q2⟩ := inI_iff.mp q
    have p1 : (1 : Int) ≤ (K i).2.2.2.1.toInt := q1
    have p2 : (K i).2.2.2.1.toInt ≤ 60 := q2
    exact ⟨by show 0 ≤ (K i).2.2.2.1.toInt; omega, p2⟩
  rw [if_neg a8]
  exact leB_fg hn h fun h1 _ => ⟨by show i + 1 ≤ 300; omega, fun z => absurd z a8⟩
theorem body_le (hn : n ≤ 300) {so : Int32} {i : Nat} (h : i ≤ 300) : leB so (bodyR (byteF t n) (tkL t n L0) so i) := body_leK (fun i => tk_300 hn) h
/-- of a clause -/
def leC (x : CR) : Prop := match x with
  | .inl e => e.2 ≤ 300
  | .inr e => e.2.2 ≤ 300 ∧ okCl e.1
theorem sort_s {L : Lq} (h : ¬ sortF L < 0) : ¬ L.2.2.1 = 0 ∧ (sortF L = 0 ∨ sortF L = 1 ∨ sortF L = 2 ∨ sortF L = 3 ∨ sortF L = 4 ∨ sortF L = 5 ∨ sortF L = 6 ∨ sortF L = 7 ∨ sortF L = 8) := by
  refine ⟨fun z => ?_, ?_⟩
  · have hw : ∀ x, isWd L x = false := fun x => by
      cases y : isWd L x
      · rfl
      · exact absurd z (wd_s y)
    unfold sortF at h
    simp only [hw] at h
    exact h (by decide)
  · rcases sort_or (L := L) with e | e
    · rw [e] at h; exact absurd h (by decide)
    · exact e
theorem clR_le (hn : n ≤ 300) {cls : List Cl} {C : Cd} {i : Nat} (h : i ≤ 300) : leC (clR (byteF t n) (tkL t n L0) cls C i) := by
  unfold clR
  by_cases a1 : sortF (tkL t n L0 i) < 0
  · rw [if_pos a1]; exact h
  rw [if_neg a1]
  split
  · exact h
  split
  · exact h
  obtain ⟨s1, s2⟩ := sort_s a1
  have hi := tk_300 hn s1
  generalize sortF (tkL t n L0 i) = so at s2
  have hc : leC (clB (byteF t n) (tkL t n L0) so C (i + 1)) := by
    unfold clB
    by_cases b : so ≤ 2
    · rw [if_pos b]
      have z := rd_le (t := t) (L0 := L0) (lets := decide (so = 2)) hn FU (if so = 2 then 8 else 3) [] (i + 1) 0 (by omega)
      show leC (match rd (byteF t n) (tkL t n L0) (decide (so = 2)) FU (if so = 2 then 8 else 3) [] (i + 1) 0 with
        | .inl e => .inl e
        | .inr q => .inr ((so, nI C.length, nI (C ++ q.1).length, 0), C ++ q.1, q.2))
      cases hx : rd (byteF t n) (tkL t n L0) (decide (so = 2)) FU (if so = 2 then 8 else 3) [] (i + 1) 0 with
      | inl e => rw [hx] at z; exact z
      | inr q =>
        rw [hx] at z
        exact ⟨z, s2, fun y => by
          have y : so = 8 := y
          rw [y] at b; exact absurd b (by decide)⟩
    · rw [if_neg b]
      have z := body_le (t := t) (L0 := L0) hn (so := so) (i := i + 1) (by omega)
      cases hx : bodyR (byteF t n) (tkL t n L0) so (i + 1) with
      | inl e => rw [hx] at z; exact z
      | inr q => rw [hx] at z; exact ⟨z.1, s2, z.2⟩
  cases hx : clB (byteF t n) (tkL t n L0) so C (i + 1) with
  | inl e => rw [hx] at hc; exact hc
  | inr q =>
    rw [hx] at hc
    show leC (if (tkL t n L0 q.2.2).2.2.1 = 59 then .inr (q.1, q.2.1, q.2.2 + 1) else .inl (1, q.2.2))
    by_cases b : (tkL t n L0 q.2.2).2.2.1 = 59
    · have := tk_300 hn (t := t) (L0 := L0) (i := q.2.2) (by rw [b]; decide)
      rw [if_pos b]; exact ⟨by show q.2.2 + 1 ≤ 300; omega, hc.2⟩
    · rw [if_neg b]; exact hc.1
def leT (x : Sum (Int32 × Nat) (List Cl × Cd × Nat)) : Prop := match x with
  | .inl e => e.2 ≤ 300
  | .inr e => e.2.2 ≤ 300 ∧ ∀ c, c ∈ e.1 → okCl c
theorem rdT_le (hn : n ≤ 300) : ∀ f (cls : List Cl) (C : Cd) i, i ≤ 300 → (∀ c, c ∈ cls → okCl c) → leT (rdT (byteF t n) (tkL t n L0) f cls C i)
  | 0, _, _, i, h, _ => h
  | f + 1, cls, C, i, h, ho => by
    have e : rdT (byteF t n) (tkL t n L0) (f + 1) cls C i = (if (tkL t n L0 i).2.2.1 = 0 then .inr (cls, C, i) else match clR (byteF t n) (tkL t n L0) cls C i with
      | .inl e => .inl e
      | .inr q => rdT (byteF t n) (tkL t n L0) f (cls ++ [q.1]) q.2.1 q.2.2) := rfl
    rw [e]
    by_cases a : (tkL t n L0 i).2.2.1 = 0
    · rw [if_pos a]; exact ⟨h, ho⟩
    rw [if_neg a]
    have z := clR_le (t := t) (L0 := L0) hn (cls := cls) (C := C) h
    cases hx : clR (byteF t n) (tkL t n L0) cls C i with
    | inl e => rw [hx] at z; exact z
    | inr q =>
      rw [hx] at z
      exact rdT_le hn f _ _ _ z.1 (fun c hc => by
        rcases List.mem_append.mp hc with y | y
        · exact ho c y
        · rw [List.mem_singleton] at y; rw [y]; exact z.2)
end INDEX
