/-! ASKED: alone, leap, knows, never, thieves: two ways that give the same (by hand) -/
set_option maxRecDepth 100000
theorem orUp_cg {f g : Nat → Int32} : ∀ n, (∀ k, k < n → f k = g k) → orUp f n = orUp g n
  | 0, _ => rfl
  | n + 1, h => by
    rw [orUp_s, orUp_s, orUp_cg n (fun k hk => h k (by omega)), h n (by omega)]
theorem srch_cg {p q : Nat → Bool} {f : Nat → Int32} {d : Int32} : ∀ m k, (∀ j, k ≤ j → j < k + m → p j = q j) → srch p f d m k = srch q f d m k
  | 0, _, _ => rfl
  | m + 1, k, h => by
    show (if p k then f k else srch p f d m (k + 1)) = (if q k then f k else srch q f d m (k + 1))
    rw [h k (by omega) (by omega), srch_cg m (k + 1) (fun j a b => h j (by omega) (by omega))]
/-- nothing more is found behind -/
theorem srch_more {p : Nat → Bool} {f : Nat → Int32} {d : Int32} : ∀ m k, (p (k + m) = true → ∃ j, k ≤ j ∧ j < k + m ∧ p j = true) → srch p f d (m + 1) k = srch p f d m k
  | 0, k, h => by
    show (if p k then f k else d) = d
    cases e : p k
    · rfl
    · obtain ⟨j, h1, h2, -⟩ := h (by rw [Nat.add_zero]; exact e)
      omega
  | m + 1, k, h => by
    show (if p k then f k else srch p f d (m + 1) (k + 1)) = (if p k then f k else srch p f d m (k + 1))
    cases e : p k
    · show srch p f d (m + 1) (k + 1) = srch p f d m (k + 1)
      refine srch_more m (k + 1) (fun q => ?_)
      obtain ⟨j, h1, h2, h3⟩ := h (by rw [show k + (m + 1) = k + 1 + m by omega]; exact q)
      refine ⟨j, ?_, by omega, h3⟩
      rcases Nat.lt_or_ge k j with z | z
      · exact z
      · rw [show j = k by omega, e] at h3; exact Bool.noConfusion h3
    · rfl
/-! alone -/
theorem alone_k (v : Vw) (k : Nat) : ∀ m, allUp (fun e => decide (nI e = nI k) || !v.her (nI e) || decide (v.sh (nI k) &&& v.sh (nI e) = 0)) m = decide (v.aloneO k m &&& v.sh (nI k) = 0)
  | 0 => by
    show true = decide ((0 : Int32) &&& v.sh (nI k) = 0)
    rw [zero_and']; rfl
  | m + 1 => by
    show (allUp _ m && (decide (nI m = nI k) || !v.her (nI m) || decide (v.sh (nI k) &&& v.sh (nI m) = 0))) = decide ((v.aloneO k m ||| (if ¬ nI m = nI k ∧ v.her (nI m) = true then v.sh (nI m) else 0)) &&& v.sh (nI k) = 0)
    rw [alone_k v k m, decide_eq_decide.mpr or_and0, Bool.decide_and]
    congr 1
    by_cases e : nI m = nI k
    · rw [if_neg (fun q => q.1 e), zero_and', decide_eq_true e]; rfl
    · cases hm : v.her (nI m)
      · rw [if_neg (fun q => Bool.noConfusion q.2), zero_and']; simp
      · rw [if_pos ⟨e, rfl⟩, decide_eq_false e, Int32.and_comm]; rfl
theorem alone_eq (v : Vw) : v.aloneS = v.alone := by
  unfold Vw.aloneS Vw.alone
  refine orUp_cg _ (fun k hk => ?_)
  unfold Vw.aloneP
  rw [alone_k]
  cases v.her (nI k)
  · rw [if_neg (fun q => Bool.noConfusion q.1)]; rfl
  · by_cases e : v.aloneO k v.n &&& v.sh (nI k) = 0
    · rw [if_pos ⟨rfl, e⟩, decide_eq_true e]; rfl
    · rw [if_neg (fun q => e q.2), decide_eq_false e]; rfl
/-! leap -/
theorem tb_orUp {f : Nat → Int32} {i : Nat} : ∀ n, tb (orUp f n) i = true ↔ ∃ k, k < n ∧ tb (f k) i = true
  | 0 => by
    rw [orUp_0, tb_0]
    exact ⟨fun h => Bool.noConfusion h, fun ⟨k, hk, _⟩ => absurd hk (Nat.not_lt_zero k)⟩
  | n + 1 => by
    rw [orUp_s, tb_or, Bool.or_eq_true, tb_orUp n]
    constructor
    · rintro (⟨k, hk, h⟩ | h)
      · exact ⟨k, by omega, h⟩
      · exact ⟨n, by omega, h⟩
    · rintro ⟨k, hk, h⟩
      by_cases e : k = n
      · subst e; exact Or.inr h
      · exact Or.inl ⟨k, by omega, h⟩
theorem later_tb {m d i : Nat} (hm : m < 1048576) (hd : d ≤ 20) : tb (laterI (nI m) (nI d)) i = true ↔ ∃ k, k < 20 ∧ m.testBit k = true ∧ i = (k + d) % 20 := by
  unfold laterI
  rw [tb_orUp]
  refine exists_congr fun k => ?_
  constructor
  · rintro ⟨hk, h⟩
    rw [has_tb (by omega), tb_n, nI_add, day_date (by omega)] at h
    rw [decide_eq_true (by omega : k < 32), Bool.true_and] at h
    cases q : m.testBit k
    · rw [q, if_neg (by decide), tb_0] at h; exact Bool.noConfusion h
    · rw [q, if_pos rfl, tb_bit (by omega)] at h
      exact ⟨hk, rfl, of_decide_eq_true h⟩
  · rintro ⟨hk, h, e⟩
    refine ⟨hk, ?_⟩
    rw [has_tb (by omega), tb_n, nI_add, day_date (by omega), decide_eq_true (by omega : k < 32), Bool.true_and, h, if_pos rfl, tb_bit (by omega)]
    exact decide_eq_true e
theorem turn_tb {m d i : Nat} (hm : m < 1048576) (hd : d ≤ 20) (hi : i < 32) : tb (turnI (nI m) (nI d)) i = ((decide (i < 20) && (decide (d ≤ i) && m.testBit (i - d))) || m.testBit (i + (20 - d))) := by
  unfold turnI
  have e1 : tb (nI m <<< (nI d &&& 31)) i = (decide (d ≤ i) && m.testBit (i - d)) := by
    have q := pk_shl (nI m) (nI d &&& 31) d (smod_k d (by omega))
    unfold tb
    rw [BitVec.getLsbD, q, Nat.testBit_mod_two_pow, pk_tn (by omega), decide_eq_true hi, Bool.true_and, Nat.testBit_mul_two_pow]
  have e2 : nI m >>> ((20 - nI d) &&& 31) = nI (m / 2 ^ (20 - d)) := by
    rw [show (20 : Int32) = nI 20 from rfl, pk_sub hd]
    exact pk_shrN (by omega) _ (20 - d) (smod_k _ (by omega))
  rw [tb_or, tb_and, e1, e2, tb_n, decide_eq_true hi, Bool.true_and, show (1048575 : Int32) = nI (2 ^ 20 - 1) from rfl, tb_n, Nat.testBit_two_pow_sub_one, decide_eq_true hi, Bool.true_and, Nat.testBit_div_two_pow, Bool.and_comm]
theorem tb_hi {m i : Nat} (hm : m < 1048576) (hi : 20 ≤ i) : m.testBit i = false := Nat.testBit_lt_two_pow (Nat.lt_of_lt_of_le hm (Nat.pow_le_pow_right (by decide) hi : 2 ^ 20 ≤ 2 ^ i))
theorem later_turn {m d : Nat} (hm : m < 1048576) (hd : d ≤ 20) : laterI (nI m) (nI d) = turnI (nI m) (nI d) := by
  apply tb_ext
  intro i hi
  rw [turn_tb hm hd hi, Bool.eq_iff_iff, later_tb hm hd]
  constructor
  · rintro ⟨k, hk, h, rfl⟩
    by_cases e : k + d < 20
    · rw [Nat.mod_eq_of_lt e, decide_eq_true e, decide_eq_true (by omega : d ≤ k + d), show k + d - d = k by omega, h]; rfl
    · have e2 : (k + d) % 20 = k + d - 20 := by omega
      rw [e2, show k + d - 20 + (20 - d) = k by omega, h]; simp
  · intro h
    rw [Bool.or_eq_true, Bool.and_eq_true, Bool.and_eq_true, decide_eq_true_eq, decide_eq_true_eq] at h
    rcases h with ⟨h1, h2, h3⟩ | h
    · exact ⟨i - d, by omega, h3, by omega⟩
    · have : i + (20 - d) < 20 := by
        rcases Nat.lt_or_ge (i + (20 - d)) 20 with z | z
        · exact z
        · rw [tb_hi hm z] at h; exact Bool.noConfusion h
      exact ⟨i + (20 - d), this, h, by omega⟩
theorem later_20 {m : Nat} (hm : m < 1048576) : laterI (nI m) (nI 20) = laterI (nI m) (nI 0) := by
  apply tb_ext
  intro i hi
  rw [Bool.eq_iff_iff, later_tb hm (by decide), later_tb hm (by decide)]
  refine exists_congr fun k => and_congr_right fun hk => and_congr_right fun _ => ?_
  rw [show (k + 20) % 20 = (k + 0) % 20 by omega]
theorem leap_eq {v : Vw} (hs : ∀ y, v.hou y = true → shOk (v.sh y)) (h e : Int32) : v.leapM h e = v.leapS h e := by
  unfold Vw.leapM Vw.leapS
  cases hh : v.hou h
  · rfl
  cases v.hou e
  · rfl
  rw [if_pos (show (true && true) = true from rfl), if_pos (show (true && true) = true from rfl)]
  show srch _ nI (-1) (20 + 1) 0 = srch _ nI (-1) 20 0
  obtain ⟨⟨m, m1, m2⟩, -⟩ := hs h hh
  rw [m2]
  rw [srch_more (p := fun k => decide (laterI (nI m) (nI k) = v.sh e)) 20 0 (fun q => ⟨0, Nat.le_refl _, by decide, by
    rw [Nat.zero_add] at q
    rw [later_20 m1] at q
    exact q⟩)]
  exact srch_cg 20 0 (fun j _ hj => by rw [later_turn m1 (by omega)])
/-! gossip: behind six days nothing is new -/
section GOS
variable {gw : Gw}
theorem tb_orAcc {x : Int32} {f : Nat → Int32} {i : Nat} : ∀ n, tb (orAcc x f n) i = true ↔ (tb x i = true ∨ ∃ k, k < n ∧ tb (f k) i = true)
  | 0 => by
    show tb x i = true ↔ _
    exact ⟨Or.inl, fun h => h.elim id (fun ⟨k, hk, _⟩ => absurd hk (Nat.not_lt_zero k))⟩
  | n + 1 => by
    rw [orAcc_s, tb_or, Bool.or_eq_true, tb_orAcc n]
    constructor
    · rintro ((h | ⟨k, hk, h⟩) | h)
      · exact Or.inl h
      · exact Or.inr ⟨k, by omega, h⟩
      · exact Or.inr ⟨n, by omega, h⟩
    · rintro (h | ⟨k, hk, h⟩)
      · exact Or.inl (Or.inl h)
      · by_cases e : k = n
        · subst e; exact Or.inr h
        · exact Or.inl (Or.inr ⟨k, by omega, h⟩)
theorem spread_up {x : Int32} {i : Nat} (h : tb x i = true) : tb (gw.spread x) i = true := (tb_orAcc _).mpr (Or.inl h)
theorem spread_lo (hg : ∀ k, k < gw.n → ∃ p, p < 7 ∧ gw.b k = nI p) {x : Int32} (hx : ∀ i, 7 ≤ i → tb x i = false) : ∀ i, 7 ≤ i → tb (gw.spread x) i = false := by
  intro i hi
  cases q : tb (gw.spread x) i
  · rfl
  · rcases (tb_orAcc _).mp q with h | ⟨k, hk, h⟩
    · rw [hx i hi] at h; exact Bool.noConfusion h
    · obtain ⟨p, hp, e⟩ := hg k hk
      rw [e] at h
      split at h
      · rw [tb_bit (by omega)] at h
        have := of_decide_eq_true h
        omega
      · rw [tb_0] at h; exact Bool.noConfusion h
theorem cB_same {x y : Int32} : ∀ f, (∀ i, i < f → tb x i = true → tb y i = true) → cB x f = cB y f → ∀ i, i < f → tb x i = tb y i
  | 0, _, _ => fun i hi => absurd hi (Nat.not_lt_zero i)
  | f + 1, h, e => by
    have h1 := cB_mono f (fun i hi => h i (by omega))
    have e' : cB x f + (tb x f).toNat = cB y f + (tb y f).toNat := e
    have h2 : (tb x f).toNat ≤ (tb y f).toNat := by
      cases q : tb x f
      · exact Nat.zero_le _
      · rw [h f (by omega) q]; exact Nat.le_refl _
    have ih := cB_same f (fun i hi => h i (by omega)) (by omega)
    intro i hi
    by_cases z : i = f
    · subst z
      have : (tb x i).toNat = (tb y i).toNat := by omega
      cases p : tb x i <;> cases q : tb y i <;> rw [p, q] at this <;> first | rfl | exact absurd this (by decide)
    · exact ih i (by omega)
theorem cB_7 (x : Int32) : ∀ f, cB x f ≤ f
  | 0 => Nat.le_refl _
  | f + 1 => by
    have := cB_7 x f
    show cB x f + (tb x f).toNat ≤ f + 1
    cases tb x f <;> simp <;> omega
theorem it_lo (hg : ∀ k, k < gw.n → ∃ p, p < 7 ∧ gw.b k = nI p) {x : Int32} (hx : ∀ i, 7 ≤ i → tb x i = false) : ∀ m i, 7 ≤ i → tb (iter gw.spread m x) i = false
  | 0 => hx
  | m + 1 => spread_lo hg (it_lo hg hx m)
theorem it_grow (hg : ∀ k, k < gw.n → ∃ p, p < 7 ∧ gw.b k = nI p) {x : Int32} (hx : ∀ i, 7 ≤ i → tb x i = false) (h1 : 1 ≤ cB x 7) : ∀ m, iter gw.spread (m + 1) x = iter gw.spread m x ∨ m + 1 ≤ cB (iter gw.spread m x) 7
  | 0 => Or.inr h1
  | m + 1 => by
    rcases it_grow hg hx h1 m with h | h
    · left
      show gw.spread (iter gw.spread (m + 1) x) = iter gw.spread (m + 1) x
      rw [h]
      exact h
    · by_cases e : cB (iter gw.spread m x) 7 = cB (iter gw.spread (m + 1) x) 7
      · left
        have q := cB_same 7 (fun i _ hi => spread_up (gw := gw) hi) e
        have q2 : iter gw.spread (m + 1) x = iter gw.spread m x := tb_ext fun i hi => by
          by_cases z : i < 7
          · exact (q i z).symm
          · rw [it_lo hg hx _ i (by omega), it_lo hg hx _ i (by omega)]
        show gw.spread (iter gw.spread (m + 1) x) = iter gw.spread (m + 1) x
        rw [q2]
        exact q2
      · right
        have := cB_mono (x := iter gw.spread m x) (y := iter gw.spread (m + 1) x) 7 (fun i _ hi => spread_up (gw := gw) hi)
        omega
theorem it_67 (hg : ∀ k, k < gw.n → ∃ p, p < 7 ∧ gw.b k = nI p) {k : Nat} (hk : k < 7) : iter gw.spread 7 (bit (nI k)) = iter gw.spread 6 (bit (nI k)) ∧ iter gw.spread 8 (bit (nI k)) = iter gw.spread 7 (bit (nI k)) := by
  have hx : ∀ i, 7 ≤ i → tb (bit (nI k)) i = false := fun i hi => by
    rw [tb_bit (by omega)]
    exact decide_eq_false (by omega)
  have h1 : 1 ≤ cB (bit (nI k)) 7 := by
    have : k = 0 ∨ k = 1 ∨ k = 2 ∨ k = 3 ∨ k = 4 ∨ k = 5 ∨ k = 6 := by omega
    rcases this with rfl | rfl | rfl | rfl | rfl | rfl | rfl <;> decide
  have e7 : iter gw.spread 7 (bit (nI k)) = iter gw.spread 6 (bit (nI k)) := by
    rcases it_grow hg hx h1 6 with h | h
    · exact h
    · have q := cB_same 7 (x := iter gw.spread 6 (bit (nI k))) (y := iter gw.spread 7 (bit (nI k))) (fun i _ hi => spread_up (gw := gw) hi) (by
        have a := cB_7 (iter gw.spread 7 (bit (nI k))) 7
        have b := cB_mono (x := iter gw.spread 6 (bit (nI k))) (y := iter gw.spread 7 (bit (nI k))) 7 (fun i _ hi => spread_up (gw := gw) hi)
        omega)
      exact tb_ext fun i hi => by
        by_cases z : i < 7
        · exact (q i z).symm
        · rw [it_lo hg hx _ i (by omega), it_lo hg hx _ i (by omega)]
  refine ⟨e7, ?_⟩
  show gw.spread (iter gw.spread 7 (bit (nI k))) = iter gw.spread 7 (bit (nI k))
  rw [e7]
  exact e7
theorem knows_eq {v : Vw} (hg : ∀ k, k < gw.n → ∃ p, p < 7 ∧ gw.b k = nI p) (hv : ∀ y, v.hou y = true → ∃ k, k < 7 ∧ y = nI k) (h e : Int32) : gw.knows v 8 h e = gw.knows v 7 h e := by
  unfold Gw.knows
  cases hh : v.hou h
  · rfl
  cases he : v.hou e
  · rfl
  obtain ⟨k, hk, rfl⟩ := hv e he
  rw [if_pos (show (true && true) = true from rfl), if_pos (show (true && true) = true from rfl)]
  show srch (fun k_1 => hasI (iter gw.spread k_1 (bit (nI k))) h) nI (-1) (7 + 1) 0 = srch _ nI (-1) 7 0
  refine srch_more 7 0 (fun q => ⟨6, by decide, by decide, ?_⟩)
  rw [Nat.zero_add] at q
  rw [← (it_67 hg hk).1]
  exact q
theorem never_eq {v : Vw} (hg : ∀ k, k < gw.n → ∃ p, p < 7 ∧ gw.b k = nI p) (hv : ∀ y, v.hou y = true → ∃ k, k < 7 ∧ y = nI k) (h : Int32) : gw.never v 8 h = gw.never v 7 h := by
  unfold Gw.never
  by_cases hh : v.hou h = true
  · obtain ⟨k, hk, rfl⟩ := hv h hh
    rw [if_pos hh, if_pos hh, (it_67 hg hk).2]
  · rw [if_neg hh, if_neg hh]
end GOS
/-! thieves -/
section THV
variable {v : Vw} {dt k : Int32}
theorem her_go {i : Nat} (hi : v.hou (nI i) = true) : v.her (nI i) = !v.go (nI i) := by
  unfold Vw.her
  rw [hi]; rfl
theorem opn_has {y d : Int32} (h : v.her y = true) : v.opn y d = !hasI (v.sh y) d := by
  unfold Vw.opn
  rw [h]; rfl
/-- what the model has while it goes through a row that begins with an offer q0 at hand -/
theorem thIn_eq (hn : v.ok) (hp : ∀ y, v.hou y = true → ∃ p, p ≤ 9999 ∧ v.pu y = nI p) {f K : Nat} (hK : K ≤ 7) (hf : v.her (nI f) = true) (hf7 : f < 7) {q0 : Int32 × Int32} {B : Nat} (hB : q0.2 = -1 ∨ q0.1 = nI B) (hB2 : B < 100000) : ∀ (m i S c : Nat) (q : Int32 × Int32), i + m = v.n → c ≤ K → S ≤ 9999 * i → ((q = q0 ∧ ¬ (q0.2 = -1 ∨ B < S)) ∨ (q = (nI S, nI f) ∧ (q0.2 = -1 ∨ B < S))) →
    ∃ T, T ≤ 69993 ∧ lootL v dt m i (nI (K - c)) (nI S) = nI T ∧ thIn v dt (nI K) (nI f) m i (nI S) (nI c) q = if q0.2 = -1 ∨ B < T then (nI T, nI f) else q0
  | 0, i, S, c, q, hi, hc, hS, hq => by
    have h7 := v.n7 hn
    refine ⟨S, by omega, rfl, ?_⟩
    show q = _
    rcases hq with ⟨h1, h2⟩ | ⟨h1, h2⟩
    · rw [if_neg h2, h1]
    · rw [if_pos h2, h1]
  | m + 1, i, S, c, q, hi, hc, hS, hq => by
    have h7 := v.n7 hn
    have hh : v.hou (nI i) = true := Vw.hou_k hn (by omega)
    obtain ⟨p, hp1, hp2⟩ := hp _ hh
    have hfin : q = if q0.2 = -1 ∨ B < S then (nI S, nI f) else q0 := by
      rcases hq with ⟨h1, h2⟩ | ⟨h1, h2⟩
      · rw [if_neg h2, h1]
      · rw [if_pos h2, h1]
    have eL : lootL v dt (m + 1) i (nI (K - c)) (nI S) = if 0 < nI (K - c) then (if v.go (nI i) = true then lootL v dt m (i + 1) (nI (K - c)) (nI S) else if hasI (v.sh (nI i)) dt = true then lootL v dt m (i + 1) (nI (K - c) + -1) (nI S + v.pu (nI i)) else nI S) else nI S := rfl
    have eT : thIn v dt (nI K) (nI f) (m + 1) i (nI S) (nI c) q = if v.her (nI f) = false then q else if v.opn (nI i) dt = true then q else if nI K ≤ nI c then q else if v.her (nI i) = false then thIn v dt (nI K) (nI f) m (i + 1) (nI S) (nI c) q
      else if q.2 = -1 ∨ q.1 < nI S + v.pu (nI i) then thIn v dt (nI K) (nI f) m (i + 1) (nI S + v.pu (nI i)) (nI c + 1) (nI S + v.pu (nI i), nI f) else thIn v dt (nI K) (nI f) m (i + 1) (nI S + v.pu (nI i)) (nI c + 1) q := rfl
    have hF : ¬ v.her (nI f) = false := by rw [hf]; decide
    have hgo := her_go hh
    by_cases hc2 : c < K
    · have p1 : (0 : Int32) < nI (K - c) := nI_lt (a := 0) (by omega) (by omega)
      have p2 : ¬ nI K ≤ nI c := nI_ge hc2 (by omega)
      cases hg : v.go (nI i)
      · rw [hg] at hgo
        have hr : v.her (nI i) = true := hgo
        have hr' : ¬ v.her (nI i) = false := by rw [hr]; decide
        have g' : ¬ v.go (nI i) = true := by rw [hg]; decide
        cases hs : hasI (v.sh (nI i)) dt
        · have ho : v.opn (nI i) dt = true := by rw [opn_has hr, hs]; rfl
          have eL' : lootL v dt (m + 1) i (nI (K - c)) (nI S) = nI S := eL.trans (by rw [if_pos p1, if_neg g', if_neg (by rw [hs]; decide)])
          have eT' : thIn v dt (nI K) (nI f) (m + 1) i (nI S) (nI c) q = q := eT.trans (by rw [if_neg hF, if_pos ho])
          rw [eL', eT']
          exact ⟨S, by omega, rfl, hfin⟩
        · have ho : ¬ v.opn (nI i) dt = true := by rw [opn_has hr, hs]; decide
          have ek : nI (K - c) + -1 = nI (K - (c + 1)) := by rw [show K - c = (K - (c + 1)) + 1 by omega]; exact pk_m1 _
          have eL' : lootL v dt (m + 1) i (nI (K - c)) (nI S) = lootL v dt m (i + 1) (nI (K - (c + 1))) (nI (S + p)) := eL.trans (by rw [if_pos p1, if_neg g', if_pos hs, hp2, nI_add, ek])
          have eT' : thIn v dt (nI K) (nI f) (m + 1) i (nI S) (nI c) q = if q.2 = -1 ∨ q.1 < nI (S + p) then thIn v dt (nI K) (nI f) m (i + 1) (nI (S + p)) (nI (c + 1)) (nI (S + p), nI f) else thIn v dt (nI K) (nI f) m (i + 1) (nI (S + p)) (nI (c + 1)) q := eT.trans (by rw [if_neg hF, if_neg ho, if_neg p2, if_neg hr', hp2, nI_add, nI_1])
          rw [eL', eT']
          by_cases hq2 : q.2 = -1 ∨ q.1 < nI (S + p)
          · rw [if_pos hq2]
            refine thIn_eq hn hp hK hf hf7 hB hB2 m (i + 1) (S + p) (c + 1) _ (by omega) (by omega) (by omega) (Or.inr ⟨rfl, ?_⟩)
            rcases hq with ⟨h1, h2⟩ | ⟨h1, h2⟩
            · rw [h1] at hq2
              rcases hq2 with z | z
              · exact Or.inl z
              · rcases hB with y | y
                · exact Or.inl y
                · rw [y] at z
                  exact Or.inr ((nI_ltI (by omega) (by omega)).mp z)
            · rcases h2 with z | z
              · exact Or.inl z
              · exact Or.inr (by omega)
          · rw [if_neg hq2]
            refine thIn_eq hn hp hK hf hf7 hB hB2 m (i + 1) (S + p) (c + 1) _ (by omega) (by omega) (by omega) ?_
            rcases hq with ⟨h1, h2⟩ | ⟨h1, h2⟩
            · refine Or.inl ⟨h1, fun z => hq2 ?_⟩
              rw [h1]
              rcases z with z | z
              · exact Or.inl z
              · rcases hB with y | y
                · exact Or.inl y
                · rw [y]
                  exact Or.inr (nI_lt z (by omega))
            · have hp0 : p = 0 := by
                rcases Nat.eq_zero_or_pos p with z | z
                · exact z
                · exact absurd (Or.inr (by rw [h1]; exact nI_lt (by omega) (by omega))) hq2
              subst hp0
              exact Or.inr ⟨h1, h2⟩
      · rw [hg] at hgo
        have hr : v.her (nI i) = false := hgo
        have ho : ¬ v.opn (nI i) dt = true := by unfold Vw.opn; rw [hr, Bool.false_and]; decide
        have eL' : lootL v dt (m + 1) i (nI (K - c)) (nI S) = lootL v dt m (i + 1) (nI (K - c)) (nI S) := eL.trans (by rw [if_pos p1, if_pos hg])
        have eT' : thIn v dt (nI K) (nI f) (m + 1) i (nI S) (nI c) q = thIn v dt (nI K) (nI f) m (i + 1) (nI S) (nI c) q := eT.trans (by rw [if_neg hF, if_neg ho, if_neg p2, if_pos hr])
        rw [eL', eT']
        exact thIn_eq hn hp hK hf hf7 hB hB2 m (i + 1) S c q (by omega) hc (by omega) hq
    · have e : c = K := by omega
      subst e
      have eL' : lootL v dt (m + 1) i (nI (c - c)) (nI S) = nI S := eL.trans (by rw [Nat.sub_self, if_neg (show ¬ (0 : Int32) < nI 0 by decide)])
      have eT' : thIn v dt (nI c) (nI f) (m + 1) i (nI S) (nI c) q = q := eT.trans (by rw [if_neg hF, if_pos (Int32.le_refl (nI c)), ite_self])
      rw [eL', eT']
      exact ⟨S, by omega, rfl, hfin⟩
/-- the model's loot, the system's -/
theorem lay_eq (hn : v.ok) (hp : ∀ y, v.hou y = true → ∃ p, p ≤ 9999 ∧ v.pu y = nI p) {K : Nat} (hK1 : 1 ≤ K) (hK : K ≤ 7) : ∀ m, m ≤ v.n → (v.firstL dt (nI K) m = -1 ∨ ∃ T, T ≤ 69993 ∧ v.loot1 (v.firstL dt (nI K) m) dt (nI K) = nI T) ∧ layT v dt (nI K) m = (if v.firstL dt (nI K) m = -1 then 0 else v.loot1 (v.firstL dt (nI K) m) dt (nI K), v.firstL dt (nI K) m)
  | 0, _ => ⟨Or.inl rfl, rfl⟩
  | m + 1, hm => by
    have h7 := v.n7 hn
    obtain ⟨i1, i2⟩ := lay_eq hn hp hK1 hK m (by omega)
    obtain ⟨j, hj⟩ : ∃ j, v.n - m = j + 1 := ⟨v.n - m - 1, by omega⟩
    have hh : v.hou (nI m) = true := Vw.hou_k hn (by omega)
    have eF : v.firstL dt (nI K) (m + 1) = if (if v.firstL dt (nI K) m = -1 then -1 else v.loot1 (v.firstL dt (nI K) m) dt (nI K)) < v.loot1 (nI m) dt (nI K) then nI m else v.firstL dt (nI K) m := rfl
    have eY : layT v dt (nI K) (m + 1) = thIn v dt (nI K) (nI m) (j + 1) m 0 0 (layT v dt (nI K) m) := by rw [← hj]; rfl
    have e1 : v.loot1 (nI m) dt (nI K) = if v.her (nI m) && hasI (v.sh (nI m)) dt then lootL v dt (j + 1) m (nI K) 0 else -1 := by
      unfold Vw.loot1
      rw [cI_nI (by omega), hj]
    generalize hF : v.firstL dt (nI K) m = F at i1 i2 eF
    generalize hl : v.loot1 F dt (nI K) = lf at i1 i2 eF
    have keep : v.loot1 (nI m) dt (nI K) = -1 → layT v dt (nI K) (m + 1) = layT v dt (nI K) m → (v.firstL dt (nI K) (m + 1) = -1 ∨ ∃ T, T ≤ 69993 ∧ v.loot1 (v.firstL dt (nI K) (m + 1)) dt (nI K) = nI T) ∧ layT v dt (nI K) (m + 1) = (if v.firstL dt (nI K) (m + 1) = -1 then 0 else v.loot1 (v.firstL dt (nI K) (m + 1)) dt (nI K), v.firstL dt (nI K) (m + 1)) := fun h1 h2 => by
      have : v.firstL dt (nI K) (m + 1) = F := by
        rw [eF, h1, if_neg]
        rcases i1 with z | ⟨T, hT, z⟩
        · rw [if_pos z]; decide
        · by_cases y : F = -1
          · rw [if_pos y]; decide
          · rw [if_neg y, z, Int32.lt_iff_toInt_lt, nI_t (by omega), tm1]; omega
      rw [this, h2, i2, hl]
      exact ⟨i1, rfl⟩
    have eT : thIn v dt (nI K) (nI m) (j + 1) m 0 0 (layT v dt (nI K) m) = if v.her (nI m) = false then layT v dt (nI K) m else if v.opn (nI m) dt = true then layT v dt (nI K) m else if nI K ≤ 0 then layT v dt (nI K) m else if v.her (nI m) = false then thIn v dt (nI K) (nI m) j (m + 1) 0 0 (layT v dt (nI K) m)
      else if (layT v dt (nI K) m).2 = -1 ∨ (layT v dt (nI K) m).1 < 0 + v.pu (nI m) then thIn v dt (nI K) (nI m) j (m + 1) (0 + v.pu (nI m)) (0 + 1) (0 + v.pu (nI m), nI m) else thIn v dt (nI K) (nI m) j (m + 1) (0 + v.pu (nI m)) (0 + 1) (layT v dt (nI K) m) := rfl
    cases hr : v.her (nI m)
    · refine keep (by rw [e1, hr]; rfl) ?_
      rw [eY, eT, if_pos hr]
    · cases hs : hasI (v.sh (nI m)) dt
      · refine keep (by rw [e1, hs, Bool.and_false]; rfl) ?_
        rw [eY, eT, if_neg (by rw [hr]; decide), if_pos (by rw [opn_has hr, hs]; rfl)]
      · obtain ⟨p, hp1, hp2⟩ := hp _ hh
        have hgo : v.go (nI m) = false := by
          have q := her_go hh
          rw [hr] at q
          cases z : v.go (nI m)
          · rfl
          · rw [z] at q; exact Bool.noConfusion q
        have eL : lootL v dt (j + 1) m (nI K) 0 = lootL v dt j (m + 1) (nI (K - 1)) (nI p) := by
          have q : lootL v dt (j + 1) m (nI K) 0 = if 0 < nI K then (if v.go (nI m) = true then lootL v dt j (m + 1) (nI K) 0 else if hasI (v.sh (nI m)) dt = true then lootL v dt j (m + 1) (nI K + -1) (0 + v.pu (nI m)) else 0) else 0 := rfl
          rw [q, if_pos (show (0 : Int32) < nI K from nI_lt (a := 0) (by omega) (by omega)), if_neg (show ¬ v.go (nI m) = true by rw [hgo]; decide), if_pos hs, hp2, Int32.zero_add]
          have ek : nI K + -1 = nI (K - 1) := by
            have z := pk_m1 (K - 1)
            rwa [show K - 1 + 1 = K by omega] at z
          rw [ek]
        rw [eT, if_neg (by rw [hr]; decide), if_neg (by rw [opn_has hr, hs]; decide), if_neg (show ¬ nI K ≤ (0 : Int32) from nI_ge (b := K) (a := 0) (by omega) (by omega)), if_neg (by rw [hr]; decide), hp2, Int32.zero_add, Int32.zero_add] at eY
        have hb : ∃ B, B < 100000 ∧ ((layT v dt (nI K) m).2 = -1 ∨ (layT v dt (nI K) m).1 = nI B) ∧ (¬ F = -1 → lf = nI B) := by
          rcases i1 with z | ⟨T, hT, z⟩
          · exact ⟨0, by decide, Or.inl (by rw [i2]; exact z), fun y => absurd z y⟩
          · by_cases y : F = -1
            · exact ⟨0, by decide, Or.inl (by rw [i2]; exact y), fun q => absurd y q⟩
            · exact ⟨T, by omega, Or.inr (by rw [i2]; show (if F = -1 then 0 else lf) = _; rw [if_neg y, z]), fun _ => z⟩
        obtain ⟨B, hB2, hB, hlf⟩ := hb
        have e22 : (layT v dt (nI K) m).2 = F := by rw [i2]
        have hT : ∃ T, T ≤ 69993 ∧ lootL v dt j (m + 1) (nI (K - 1)) (nI p) = nI T ∧ layT v dt (nI K) (m + 1) = if F = -1 ∨ B < T then (nI T, nI m) else layT v dt (nI K) m := by
          rw [eY]
          have go := fun q hq => thIn_eq (dt := dt) hn hp hK hr (by omega) hB hB2 j (m + 1) p 1 q (by omega) hK1 (by omega) hq
          rw [e22] at go
          by_cases hq2 : (layT v dt (nI K) m).2 = -1 ∨ (layT v dt (nI K) m).1 < nI p
          · rw [if_pos hq2]
            refine go _ (Or.inr ⟨rfl, ?_⟩)
            rcases hq2 with z | z
            · exact Or.inl (e22 ▸ z)
            · rcases hB with y | y
              · exact Or.inl (e22 ▸ y)
              · rw [y] at z
                exact Or.inr ((nI_ltI (by omega) (by omega)).mp z)
          · rw [if_neg hq2]
            refine go _ (Or.inl ⟨rfl, fun z => hq2 ?_⟩)
            rcases z with z | z
            · exact Or.inl (e22.trans z)
            · rcases hB with y | y
              · exact Or.inl y
              · rw [y]
                exact Or.inr (nI_lt z (by omega))
        obtain ⟨T, hT1, hT2, hT3⟩ := hT
        rw [hr, hs, eL, hT2] at e1
        have e1' : v.loot1 (nI m) dt (nI K) = nI T := e1
        by_cases hc : F = -1 ∨ B < T
        · rw [if_pos hc] at hT3
          have eF2 : v.firstL dt (nI K) (m + 1) = nI m := by
            rw [eF, e1', if_pos]
            by_cases y : F = -1
            · rw [if_pos y, Int32.lt_iff_toInt_lt, nI_t (by omega), tm1]; omega
            · rw [if_neg y, hlf y]
              exact nI_lt (hc.resolve_left y) (by omega)
          rw [eF2, hT3, if_neg (nI_nm1 (by omega)), e1']
          exact ⟨Or.inr ⟨T, hT1, rfl⟩, rfl⟩
        · rw [if_neg hc] at hT3
          have eF2 : v.firstL dt (nI K) (m + 1) = F := by
            rw [eF, e1', if_neg]
            have y : ¬ F = -1 := fun y => hc (Or.inl y)
            rw [if_neg y, hlf y]
            exact nI_nlt (by have : ¬ B < T := fun z => hc (Or.inr z); omega) (by omega)
          rw [eF2, hT3, i2, hl]
          exact ⟨i1, rfl⟩
theorem loot_n (hn : v.ok) (hp : ∀ y, v.hou y = true → ∃ p, p ≤ 9999 ∧ v.pu y = nI p) {K : Nat} (hK1 : 1 ≤ K) (hK : K ≤ 7) : (layT v dt (nI K) v.n).1 = v.lootI dt (nI K) ∧ (layT v dt (nI K) v.n).2 = v.firstL dt (nI K) v.n ∧ ∃ T, T ≤ 69993 ∧ v.lootI dt (nI K) = nI T := by
  obtain ⟨h1, h2⟩ := lay_eq (dt := dt) hn hp hK1 hK v.n (Nat.le_refl _)
  rw [h2]
  refine ⟨rfl, rfl, ?_⟩
  unfold Vw.lootI
  rcases h1 with z | ⟨T, hT, z⟩
  · rw [if_pos z]; exact ⟨0, by decide, rfl⟩
  · by_cases y : v.firstL dt (nI K) v.n = -1
    · rw [if_pos y]; exact ⟨0, by decide, rfl⟩
    · rw [if_neg y]; exact ⟨T, hT, z⟩
theorem in17 {k : Int32} (h : inI k 1 7 = true) : ∃ K, 1 ≤ K ∧ K ≤ 7 ∧ k = nI K := by
  obtain ⟨h1, h2⟩ := inI_iff.mp h
  have a1 : 1 ≤ k.toInt := h1
  have a2 : k.toInt ≤ 7 := h2
  have := cI_of (x := k) (by omega)
  exact ⟨cI k, by omega, by omega, (nI_cI (by omega)).symm⟩
theorem thieves_eq (hn : v.ok) (hp : ∀ y, v.hou y = true → ∃ p, p ≤ 9999 ∧ v.pu y = nI p) (p : Bool) (hc : (inI dt 0 19 && inI k 1 7) = true) : v.thievesS dt k (b2i p) = if p = true then (layT v dt k v.n).2 else (layT v dt k v.n).1 := by
  obtain ⟨K, k1, k2, rfl⟩ := in17 (Bool.and_eq_true_iff.mp hc).2
  obtain ⟨e1, e2, -⟩ := loot_n (dt := dt) hn hp k1 k2
  unfold Vw.thievesS
  rw [if_pos hc, e1, e2]
  cases p
  · rfl
  · rfl
end THV
section NIT
variable {v : Vw}
theorem night_k (hn : v.ok) (hp : ∀ y, v.hou y = true → ∃ p, p ≤ 9999 ∧ v.pu y = nI p) {K : Nat} (hK1 : 1 ≤ K) (hK : K ≤ 7) : ∀ m, m < 20 → nightF v (nI K) (m + 1) = (bestUp (v.lootD (nI K)) m, v.lootD (nI K) (bestUp (v.lootD (nI K)) m))
  | 0, _ => by
    obtain ⟨e1, -, T, hT, eT⟩ := loot_n (dt := nI 0) hn hp hK1 hK
    have e : nightF v (nI K) (0 + 1) = if (layT v (nI 0) (nI K) v.n).1 ≤ 0 then ((0 : Int32), (0 : Int32)) else (nI 0, (layT v (nI 0) (nI K) v.n).1) := rfl
    have e0 : v.lootD (nI K) (bestUp (v.lootD (nI K)) 0) = nI T := eT
    rw [e, e1, e0, eT]
    by_cases z : T = 0
    · subst z; rw [if_pos (by decide)]; rfl
    · rw [if_neg (nI_nle (by omega) (by omega))]; rfl
  | m + 1, hm => by
    have ih := night_k hn hp hK1 hK m (by omega)
    obtain ⟨e1, -, T, hT, eT⟩ := loot_n (dt := nI (m + 1)) hn hp hK1 hK
    have e : nightF v (nI K) (m + 1 + 1) = if (layT v (nI (m + 1)) (nI K) v.n).1 ≤ (nightF v (nI K) (m + 1)).2 then nightF v (nI K) (m + 1) else (nI (m + 1), (layT v (nI (m + 1)) (nI K) v.n).1) := rfl
    have eb : bestUp (v.lootD (nI K)) (m + 1) = if v.lootD (nI K) (bestUp (v.lootD (nI K)) m) < v.lootD (nI K) (nI (m + 1)) then nI (m + 1) else bestUp (v.lootD (nI K)) m := rfl
    have eD : v.lootD (nI K) (nI (m + 1)) = v.lootI (nI (m + 1)) (nI K) := rfl
    rw [e, e1, ih, eb, ← eD]
    dsimp only
    by_cases z : v.lootD (nI K) (nI (m + 1)) ≤ v.lootD (nI K) (bestUp (v.lootD (nI K)) m)
    · rw [if_pos z, if_neg (Int32.not_lt.mpr z)]
    · rw [if_neg z, if_pos (Int32.not_le.mp z)]
theorem night_eq (hn : v.ok) (hp : ∀ y, v.hou y = true → ∃ p, p ≤ 9999 ∧ v.pu y = nI p) {k : Int32} (hc : inI k 1 7 = true) : v.nightS k = (nightF v k 20).1 := by
  obtain ⟨K, k1, k2, rfl⟩ := in17 hc
  unfold Vw.nightS
  rw [if_pos hc, night_k hn hp k1 k2 19 (by decide)]
end NIT
