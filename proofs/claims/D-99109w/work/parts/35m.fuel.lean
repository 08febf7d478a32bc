/-! FUEL: the descent's fuel is enough (by hand) -/
set_option maxRecDepth 100000
theorem bd_inr {x : RD} {k : Cd → Nat → RD} {c : Cd} {j : Nat} (h : bd x k = .inr (c, j)) : ∃ c1 j1, x = .inr (c1, j1) ∧ k c1 j1 = .inr (c, j) := by
  cases x with
  | inl e => exact absurd h Sum.inl_ne_inr
  | inr e => exact ⟨e.1, e.2, rfl, h⟩
theorem bd_nz {x : RD} {k : Cd → Nat → RD} (h : nz x) (hk : ∀ c1 j1, x = .inr (c1, j1) → nz (k c1 j1)) : nz (bd x k) := by
  cases x with
  | inl e => exact fun j hj => h j hj
  | inr e => exact hk e.1 e.2 rfl
theorem nz_r {c : Cd} {j : Nat} : nz (.inr (c, j)) := fun _ h => absurd h.symm Sum.inl_ne_inr
theorem nz_l {r : Int32} {j : Nat} (h : ¬ r = 0) : nz (.inl (r, j)) := fun _ q => h (Prod.mk.inj (Sum.inl.inj q)).1
/-- what a mode gives when it succeeds, and how much fuel it wants -/
def PF (t : Nat → Int32) (n : Nat) (L0 : Lq) (lets : Bool) (f md pr lv : Nat) : Prop := ∀ (C : Cd) (i : Nat) (o : Int32), (∀ c j, rd (byteF t n) (tkL t n L0) lets f md C i o = .inr (c, j) → i + pr ≤ j ∧ (pr = 1 → i < 300)) ∧ (6 * (301 - i) + lv ≤ f → nz (rd (byteF t n) (tkL t n L0) lets f md C i o))
theorem fuel {t : Nat → Int32} {n : Nat} {L0 : Lq} {lets : Bool} (hn : n ≤ 300) : ∀ f, (PF t n L0 lets f 0 1 1 ∧ PF t n L0 lets f 1 1 2 ∧ PF t n L0 lets f 2 0 2 ∧ PF t n L0 lets f 3 1 3 ∧ PF t n L0 lets f 4 0 3) ∧ PF t n L0 lets f 5 1 4 ∧ PF t n L0 lets f 6 1 5 ∧ PF t n L0 lets f 7 0 5 ∧ PF t n L0 lets f 8 1 6 ∧ PF t n L0 lets f 9 0 6
  | 0 => by
    have z : ∀ md pr lv, 1 ≤ lv → PF t n L0 lets 0 md pr lv := fun md pr lv hl C i o => ⟨fun c j h => absurd h Sum.inl_ne_inr, fun h => by omega⟩
    exact ⟨⟨z _ _ _ (by omega), z _ _ _ (by omega), z _ _ _ (by omega), z _ _ _ (by omega), z _ _ _ (by omega)⟩, z _ _ _ (by omega), z _ _ _ (by omega), z _ _ _ (by omega), z _ _ _ (by omega), z _ _ _ (by omega)⟩
  | f + 1 => by
    obtain ⟨⟨h0, h1, h2, h3, h4⟩, h5, h6, h7, h8, h9⟩ := fuel (t := t) (n := n) (L0 := L0) (lets := lets) hn f
    have t3 : ∀ i, ¬ (tkL t n L0 i).2.2.1 = 0 → i < 300 := fun i => tk_300 hn
    have tw : ∀ i x, isWd (tkL t n L0 i) x = true → i < 300 := fun i x h => t3 i (by rw [of_decide_eq_true (Bool.and_eq_true_iff.mp h).1]; decide)
    -- a start: callee at i, then the loop
    have start : ∀ (md mc ml lc ll : Nat), (∀ C i o, rd (byteF t n) (tkL t n L0) lets (f + 1) md C i o = bd (rd (byteF t n) (tkL t n L0) lets f mc [] i o) fun c j => rd (byteF t n) (tkL t n L0) lets f ml c j o) → PF t n L0 lets f mc 1 lc → PF t n L0 lets f ml 0 ll → lc + 1 ≤ ll → ll ≤ 6 → PF t n L0 lets (f + 1) md 1 ll := fun md mc ml lc ll e hc hl h1 h2 C i o => by
      rw [e]
      refine ⟨fun c j h => ?_, fun hf => bd_nz ((hc [] i o).2 (by omega)) (fun c1 j1 hx => ?_)⟩
      · obtain ⟨c1, j1, a, b⟩ := bd_inr h
        have p := (hc [] i o).1 _ _ a
        have q := (hl c1 j1 o).1 _ _ b
        exact ⟨by omega, fun _ => p.2 rfl⟩
      · have p := (hc [] i o).1 _ _ hx
        have p2 := p.2 rfl
        exact (hl c1 j1 o).2 (by omega)
    -- a turn of a loop: callee behind the sign, then the loop again
    have turn : ∀ (mc ml lc ll : Nat) (C : Cd) (k : Cd → Cd) (i : Nat) (o : Int32), PF t n L0 lets f mc 1 lc → PF t n L0 lets f ml 0 ll → i < 300 → lc ≤ 5 → ll ≤ 6 → (∀ c j, (bd (rd (byteF t n) (tkL t n L0) lets f mc [] (i + 1) o) fun c j => rd (byteF t n) (tkL t n L0) lets f ml (k c) j o) = .inr (c, j) → i + 0 ≤ j ∧ ((0 : Nat) = 1 → i < 300)) ∧ (6 * (301 - i) + ll ≤ f + 1 → nz (bd (rd (byteF t n) (tkL t n L0) lets f mc [] (i + 1) o) fun c j => rd (byteF t n) (tkL t n L0) lets f ml (k c) j o)) := fun mc ml lc ll C k i o hc hl hi h1 h2 => by
      refine ⟨fun c j h => ?_, fun hf => bd_nz ((hc [] (i + 1) o).2 (by omega)) (fun c1 j1 hx => ?_)⟩
      · obtain ⟨c1, j1, a, b⟩ := bd_inr h
        have p := (hc [] (i + 1) o).1 _ _ a
        have q := (hl (k c1) j1 o).1 _ _ b
        exact ⟨by omega, fun z => by omega⟩
      · have p := (hc [] (i + 1) o).1 _ _ hx
        exact (hl (k c1) j1 o).2 (by omega)
    have out : ∀ (C : Cd) (i : Nat) (ll : Nat), (∀ c j, (Sum.inr (C, i) : RD) = .inr (c, j) → i + 0 ≤ j ∧ ((0 : Nat) = 1 → i < 300)) ∧ (6 * (301 - i) + ll ≤ f + 1 → nz (.inr (C, i))) := fun C i ll => ⟨fun c j h => by
      have := (Prod.mk.inj (Sum.inr.inj h)).2
      exact ⟨by omega, fun z => by omega⟩, fun _ => nz_r⟩
    have loop2 : ∀ (md mc lc ll : Nat) (v1 v2 k1 k2 : Int32), ¬ v1 = 0 → ¬ v2 = 0 → (∀ C i o, rd (byteF t n) (tkL t n L0) lets (f + 1) md C i o = (if (tkL t n L0 i).2.2.1 = v1 then bd (rd (byteF t n) (tkL t n L0) lets f mc [] (i + 1) o) fun c j => rd (byteF t n) (tkL t n L0) lets f md (C ++ c ++ [(k1, 0)]) j o else if (tkL t n L0 i).2.2.1 = v2 then bd (rd (byteF t n) (tkL t n L0) lets f mc [] (i + 1) o) fun c j => rd (byteF t n) (tkL t n L0) lets f md (C ++ c ++ [(k2, 0)]) j o else .inr (C, i))) → PF t n L0 lets f mc 1 lc → PF t n L0 lets f md 0 ll → lc ≤ 5 → ll ≤ 6 → PF t n L0 lets (f + 1) md 0 ll := fun md mc lc ll v1 v2 k1 k2 hv1 hv2 e hc hl h1 h2 C i o => by
      rw [e]
      by_cases a : (tkL t n L0 i).2.2.1 = v1
      · rw [if_pos a]
        exact turn mc md lc ll C (fun c => C ++ c ++ [(k1, 0)]) i o hc hl (t3 i (by rw [a]; exact hv1)) h1 h2
      rw [if_neg a]
      by_cases b : (tkL t n L0 i).2.2.1 = v2
      · rw [if_pos b]
        exact turn mc md lc ll C (fun c => C ++ c ++ [(k2, 0)]) i o hc hl (t3 i (by rw [b]; exact hv2)) h1 h2
      rw [if_neg b]
      exact out C i ll
    have loop1 : ∀ (md mc lc ll : Nat) (x : Int64) (k1 : Int32), (∀ C i o, rd (byteF t n) (tkL t n L0) lets (f + 1) md C i o = (if isWd (tkL t n L0 i) x = true then bd (rd (byteF t n) (tkL t n L0) lets f mc [] (i + 1) o) fun c j => rd (byteF t n) (tkL t n L0) lets f md (C ++ c ++ [(k1, 0)]) j o else .inr (C, i))) → PF t n L0 lets f mc 1 lc → PF t n L0 lets f md 0 ll → lc ≤ 5 → ll ≤ 6 → PF t n L0 lets (f + 1) md 0 ll := fun md mc lc ll x k1 e hc hl h1 h2 C i o => by
      rw [e]
      by_cases a : isWd (tkL t n L0 i) x = true
      · rw [if_pos a]
        exact turn mc md lc ll C (fun c => C ++ c ++ [(k1, 0)]) i o hc hl (tw i x a) h1 h2
      rw [if_neg a]
      exact out C i ll
    have one : PF t n L0 lets (f + 1) 0 1 1 := fun C i o => by
      have e : rd (byteF t n) (tkL t n L0) lets (f + 1) 0 C i o = rdOne (byteF t n) (tkL t n L0) lets (rd (byteF t n) (tkL t n L0) lets f) i o := rfl
      rw [e]
      unfold rdOne
      by_cases a1 : (tkL t n L0 i).2.2.1 = 1
      · have hi := t3 i (by rw [a1]; decide)
        rw [if_pos a1]
        split
        · exact ⟨fun c j h => absurd h Sum.inl_ne_inr, fun _ => nz_l (by decide)⟩
        · exact ⟨fun c j h => ⟨by have := (Prod.mk.inj (Sum.inr.inj h)).2; omega, fun _ => hi⟩, fun _ => nz_r⟩
      rw [if_neg a1]
      by_cases a2 : 0 ≤ nmK (byteF t n) (tkL t n L0) i
      · have hi := t3 i (fun z => by
          have : nmK (byteF t n) (tkL t n L0) i = -1 := by
            unfold nmK nameF
            rw [if_neg (by rw [z]; decide)]
          rw [this] at a2
          exact absurd a2 (by decide))
        rw [if_pos a2]
        split
        · exact ⟨fun c j h => absurd h Sum.inl_ne_inr, fun _ => nz_l (by decide)⟩
        · exact ⟨fun c j h => ⟨by have := (Prod.mk.inj (Sum.inr.inj h)).2; omega, fun _ => hi⟩, fun _ => nz_r⟩
      rw [if_neg a2]
      by_cases a3 : (tkL t n L0 i).2.2.1 = 40
      · have hi := t3 i (by rw [a3]; decide)
        rw [if_pos a3]
        split
        · exact ⟨fun c j h => absurd h Sum.inl_ne_inr, fun _ => nz_l (by decide)⟩
        · refine ⟨fun c j h => ?_, fun hf => bd_nz ((h3 [] (i + 1) (o + 1)).2 (by omega)) (fun c1 j1 hx => ?_)⟩
          · obtain ⟨c1, j1, a, b⟩ := bd_inr h
            have p := (h3 [] (i + 1) (o + 1)).1 _ _ a
            split at b
            · have := (Prod.mk.inj (Sum.inr.inj b)).2
              exact ⟨by omega, fun _ => hi⟩
            · exact absurd b Sum.inl_ne_inr
          · split
            · exact nz_r
            · exact nz_l (by decide)
      rw [if_neg a3]
      by_cases a4 : (tkL t n L0 i).2.2.1 = 45
      · have hi := t3 i (by rw [a4]; decide)
        rw [if_pos a4]
        split
        · exact ⟨fun c j h => absurd h Sum.inl_ne_inr, fun _ => nz_l (by decide)⟩
        · refine ⟨fun c j h => ?_, fun hf => bd_nz ((h0 [] (i + 1) (o + 1)).2 (by omega)) (fun c1 j1 hx => nz_r)⟩
          obtain ⟨c1, j1, a, b⟩ := bd_inr h
          have p := (h0 [] (i + 1) (o + 1)).1 _ _ a
          have := (Prod.mk.inj (Sum.inr.inj b)).2
          exact ⟨by omega, fun _ => hi⟩
      rw [if_neg a4]
      by_cases a5 : isWd (tkL t n L0 i) (w5F 100 105 103 105 116) = true
      · have hi := tw i _ a5
        rw [if_pos a5]
        split
        · exact ⟨fun c j h => absurd h Sum.inl_ne_inr, fun _ => nz_l (by decide)⟩
        · refine ⟨fun c j h => ?_, fun hf => bd_nz ((h0 [] (i + 1) (o + 1)).2 (by omega)) (fun c1 j1 hx => ?_)⟩
          · obtain ⟨c1, j1, a, b⟩ := bd_inr h
            have p := (h0 [] (i + 1) (o + 1)).1 _ _ a
            split at b
            · obtain ⟨c2, j2, a2, b2⟩ := bd_inr b
              have q := (h0 [] (j1 + 1) (o + 1)).1 _ _ a2
              have := (Prod.mk.inj (Sum.inr.inj b2)).2
              exact ⟨by omega, fun _ => hi⟩
            · exact absurd b Sum.inl_ne_inr
          · have p := (h0 [] (i + 1) (o + 1)).1 _ _ hx
            split
            · exact bd_nz ((h0 [] (j1 + 1) (o + 1)).2 (by omega)) (fun c2 j2 _ => nz_r)
            · exact nz_l (by decide)
      rw [if_neg a5]
      exact ⟨fun c j h => absurd h Sum.inl_ne_inr, fun _ => nz_l (by decide)⟩
    have ask : PF t n L0 lets (f + 1) 5 1 4 := fun C i o => by
      have e : rd (byteF t n) (tkL t n L0) lets (f + 1) 5 C i o = rdAsk (byteF t n) (tkL t n L0) (rd (byteF t n) (tkL t n L0) lets f) i o := rfl
      rw [e]
      unfold rdAsk
      by_cases a1 : isWd (tkL t n L0 i) (w3F 110 111 116) = true
      · have hi := tw i _ a1
        rw [if_pos a1]
        split
        · exact ⟨fun c j h => absurd h Sum.inl_ne_inr, fun _ => nz_l (by decide)⟩
        · refine ⟨fun c j h => ?_, fun hf => bd_nz ((h5 [] (i + 1) (o + 1)).2 (by omega)) (fun c1 j1 hx => nz_r)⟩
          obtain ⟨c1, j1, a, b⟩ := bd_inr h
          have p := (h5 [] (i + 1) (o + 1)).1 _ _ a
          have := (Prod.mk.inj (Sum.inr.inj b)).2
          exact ⟨by omega, fun _ => hi⟩
      rw [if_neg a1]
      refine ⟨fun c j h => ?_, fun hf => bd_nz ((h3 [] i o).2 (by omega)) (fun c1 j1 hx => ?_)⟩
      · obtain ⟨c1, j1, a, b⟩ := bd_inr h
        have p := (h3 [] i o).1 _ _ a
        split at b
        · exact absurd b Sum.inl_ne_inr
        · obtain ⟨c2, j2, a2, b2⟩ := bd_inr b
          have q := (h3 [] (j1 + 1) o).1 _ _ a2
          have := (Prod.mk.inj (Sum.inr.inj b2)).2
          exact ⟨by omega, fun _ => p.2 rfl⟩
      · have p := (h3 [] i o).1 _ _ hx
        have p2 := p.2 rfl
        split
        · exact nz_l (by decide)
        · exact bd_nz ((h3 [] (j1 + 1) o).2 (by omega)) (fun c2 j2 _ => nz_r)
    exact ⟨⟨one, start 1 0 2 1 2 (fun _ _ _ => rfl) h0 h2 (by omega) (by omega), loop2 2 0 1 2 42 47 5 6 (by decide) (by decide) (fun _ _ _ => rfl) h0 h2 (by omega) (by omega), start 3 1 4 2 3 (fun _ _ _ => rfl) h1 h4 (by omega) (by omega), loop2 4 1 2 3 43 45 3 4 (by decide) (by decide) (fun _ _ _ => rfl) h1 h4 (by omega) (by omega)⟩, ask, start 6 5 7 4 5 (fun _ _ _ => rfl) h5 h7 (by omega) (by omega), loop1 7 5 4 5 _ 21 (fun _ _ _ => rfl) h5 h7 (by omega) (by omega), start 8 6 9 5 6 (fun _ _ _ => rfl) h6 h9 (by omega) (by omega), loop1 9 6 5 6 _ 22 (fun _ _ _ => rfl) h6 h9 (by omega) (by omega)⟩
