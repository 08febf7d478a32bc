/-! KNOCK: a knock on both sides (by hand) -/
set_option maxRecDepth 100000
theorem shut_b (x k : Int32) : shutI x k = b2i (hasI x k) := by
  unfold shutI hasI
  generalize x >>> (k &&& 31) = y
  by_cases h : y &&& 1 = 1
  · rw [h]; rfl
  · rw [decide_eq_false h]
    have h2 : tb y 0 = false := by
      cases q : tb y 0
      · rfl
      · exact absurd (and1_tb.mpr q) h
    apply tb_ext
    intro i hi
    rw [tb_and, show b2i false = 0 from rfl, tb_0]
    by_cases e : i = 0
    · subst e; rw [h2]; rfl
    · rw [show (1 : Int32) = nI 1 from rfl, tb_n, show (1 : Nat) = 2 ^ 0 from rfl, Nat.testBit_two_pow]
      simp [Ne.symm e]
theorem vwM_cg {N : Nat} {a b : Nat → Int32} (h0 : a 0 = nI N) (h7 : N ≤ 7) (e0 : b 0 = a 0) (e : ∀ j, 12 ≤ j → j < 68 → b j = a j) : vwM b = vwM a := by
  unfold vwM
  rw [e0]
  refine Prod.ext rfl (Prod.ext (funext fun h => ?_) (Prod.ext (funext fun h => ?_) (Prod.ext (funext fun h => ?_) (funext fun h => ?_))))
  all_goals
    dsimp only
    by_cases hh : inI h 0 (a 0 - 1) = true
    · rw [if_pos hh, if_pos hh]
      obtain ⟨k, hk, rfl⟩ := hou_N h0 h7 hh
      first
        | rw [g3_n (by omega), g3_n (by omega), e _ (by omega) (by omega)]
        | rw [g0_n (by omega), g0_n (by omega), e _ (by omega) (by omega)]
        | rw [g1_n (by omega), g1_n (by omega), e _ (by omega) (by omega)]
        | rw [g2_n (by omega), g2_n (by omega), e _ (by omega) (by omega)]
    · rw [if_neg hh, if_neg hh]
section KNOCK
variable {N : Nat} {a r n : Nat → Int32} {L : Lw} {k w : Nat}
/-- one more page, the book not full -/
theorem page_rel (hc : CurR N a r) (h7 : N ≤ 7) (hk : k < N) (hw : a 10 = nI w) (h40 : w < 40) {s : Nat} (hs : s ≤ 1) {R : Nat → Int32} (hR : R = va_cpy (three3 (r 0) (nI k) (nI s)) r 0 (25 + 3 * w) 3) : CurR N (pageM a w (nI k) (nI s)) (up R 24 (R 24 + 1)) := by
  obtain ⟨w2, h1, ⟨a1, d, d1, d2⟩, ⟨b1, b2⟩, ⟨c1, c2, c3⟩, dd, z⟩ := hc
  have ew : w2 = w := (nI_eq (by omega) (by omega)).mp (h1.symm.trans hw)
  subst ew
  have R_o : ∀ j, (j < 25 + 3 * w2 ∨ 25 + 3 * w2 + 3 ≤ j) → R j = r j := fun j hj => by rw [hR]; exact if_neg (by omega)
  have R_i : ∀ j, j < 3 → R (25 + 3 * w2 + j) = three3 (r 0) (nI k) (nI s) j := fun j hj => by
    rw [hR]
    show (if 25 + 3 * w2 ≤ 25 + 3 * w2 + j ∧ 25 + 3 * w2 + j < 25 + 3 * w2 + 3 then three3 (r 0) (nI k) (nI s) (0 + (25 + 3 * w2 + j - (25 + 3 * w2))) else _) = _
    rw [if_pos (by omega), Nat.add_sub_cancel_left, Nat.zero_add]
  have p_o : ∀ j, j ≠ 10 → j ≠ 2268 + w2 → pageM a w2 (nI k) (nI s) j = a j := fun j hj hj2 => by
    unfold pageM
    rw [up_ne hj, up_ne hj2]
  have p_w : pageM a w2 (nI k) (nI s) (2268 + w2) = nI (16 * d + 2 * k + s) := by
    unfold pageM
    rw [up_ne (by omega), up_eq, d2, show (16 : Int32) = nI 16 from rfl, show (2 : Int32) = nI 2 from rfl, nI_mul, nI_mul, nI_add, nI_add]
    exact congrArg nI (by omega)
  refine ⟨w2 + 1, up_eq, ⟨by rw [up_ne (by decide), R_o 0 (by omega), p_o 8 (by omega) (by omega)]; exact a1, d, d1, by rw [p_o 8 (by omega) (by omega)]; exact d2⟩, ⟨by rw [up_ne (by decide), R_o 1 (by omega), p_o 9 (by omega) (by omega)]; exact b1, by rw [p_o 9 (by omega) (by omega)]; exact b2⟩, ⟨by rw [up_eq, R_o 24 (by omega), c1, nI_1], by omega, fun i hi => ?_⟩, fun q hq => ?_, fun i hi => by rw [up_ne (by decide), R_o 2 (by omega)]; exact z i hi⟩
  · rw [up_ne (by omega), up_ne (by omega), up_ne (by omega)]
    by_cases e : i = w2
    · subst e
      dsimp only
      have r0 := R_i 0 (by decide)
      rw [Nat.add_zero] at r0
      rw [p_w, r0, show 26 + 3 * i = 25 + 3 * i + 1 by omega, R_i 1 (by decide), show 27 + 3 * i = 25 + 3 * i + 2 by omega, R_i 2 (by decide)]
      refine ⟨d, k, s, d1, by omega, hs, ?_, rfl, rfl, rfl⟩
      exact a1.trans d2
    · dsimp only
      rw [p_o _ (by omega) (by omega), R_o _ (by omega), R_o _ (by omega), R_o _ (by omega)]
      exact c3 i (by omega)
  · obtain ⟨q1, q2, q3, q4⟩ := dd q hq
    unfold CurH at *
    refine ⟨?_, ?_, ?_, ?_⟩ <;> dsimp only
    · rw [up_ne (by omega), R_o _ (by omega), p_o _ (by omega) (by omega)]; exact q1
    · rw [up_ne (by omega), R_o _ (by omega), p_o _ (by omega) (by omega)]; exact q2
    · rw [up_ne (by omega), R_o _ (by omega), p_o _ (by omega) (by omega)]; exact q3
    · rw [up_ne (by omega), R_o _ (by omega), p_o _ (by omega) (by omega)]; exact q4
/-- a full book loses its first page -/
theorem shb_rel (hc : CurR N a r) (h7 : N ≤ 7) (hw : a 10 = nI 40) : CurR N (shiftB a) (shB r) := by
  obtain ⟨w2, h1, ⟨a1, a2⟩, ⟨b1, b2⟩, ⟨c1, c2, c3⟩, dd, z⟩ := hc
  have ew : w2 = 40 := (nI_eq (by omega) (by omega)).mp (h1.symm.trans hw)
  subst ew
  have R_o : ∀ j, j ≠ 24 → j < 25 → shB r j = r j := fun j hj hj2 => by
    unfold shB
    rw [up_ne hj]
    exact if_neg (by omega)
  have R_i : ∀ j, 25 ≤ j → j < 142 → shB r j = r (j + 3) := fun j hj hj2 => by
    unfold shB
    rw [up_ne (by omega)]
    show (if 25 ≤ j ∧ j < 25 + 117 then r (28 + (j - 25)) else r j) = _
    rw [if_pos (by omega)]
    exact congrArg r (by omega)
  have p_o : ∀ j, j ≠ 10 → j < 2268 → shiftB a j = a j := fun j hj hj2 => by
    unfold shiftB
    rw [up_ne hj, mv_out (by omega)]
  have p_i : ∀ i, i < 39 → shiftB a (2268 + i) = a (2268 + (i + 1)) := fun i hi => by
    unfold shiftB
    rw [up_ne (by omega), mv_in (by omega) (by omega), Nat.add_sub_cancel_left]
    exact congrArg a (by omega)
  refine ⟨39, up_eq, ⟨by rw [R_o 0 (by omega) (by omega), p_o 8 (by omega) (by omega)]; exact a1, by rw [p_o 8 (by omega) (by omega)]; exact a2⟩, ⟨by rw [R_o 1 (by omega) (by omega), p_o 9 (by omega) (by omega)]; exact b1, by rw [p_o 9 (by omega) (by omega)]; exact b2⟩, ⟨?_, by omega, fun i hi => ?_⟩, fun q hq => ?_, fun i hi => by rw [R_o 2 (by omega) (by omega)]; exact z i hi⟩
  · unfold shB
    rw [up_eq, show va_cpy r r 28 25 117 24 = r 24 from if_neg (by omega), c1]
    rfl
  · dsimp only
    rw [p_i i hi, R_i _ (by omega) (by omega), R_i _ (by omega) (by omega), R_i _ (by omega) (by omega)]
    have q := c3 (i + 1) (by omega)
    rw [show 25 + 3 * i + 3 = 25 + 3 * (i + 1) by omega, show 26 + 3 * i + 3 = 26 + 3 * (i + 1) by omega, show 27 + 3 * i + 3 = 27 + 3 * (i + 1) by omega]
    exact q
  · obtain ⟨q1, q2, q3, q4⟩ := dd q hq
    unfold CurH at *
    refine ⟨?_, ?_, ?_, ?_⟩ <;> dsimp only
    · rw [R_o _ (by omega) (by omega), p_o _ (by omega) (by omega)]; exact q1
    · rw [R_o _ (by omega) (by omega), p_o _ (by omega) (by omega)]; exact q2
    · rw [R_o _ (by omega) (by omega), p_o _ (by omega) (by omega)]; exact q3
    · rw [R_o _ (by omega) (by omega), p_o _ (by omega) (by omega)]; exact q4
theorem b2i_n (p : Bool) : ∃ s, s ≤ 1 ∧ b2i p = nI s ∧ (s = 1 ↔ p = true) := by
  cases p
  · exact ⟨0, by decide, rfl, by simp⟩
  · exact ⟨1, by decide, rfl, by simp⟩
/-- the row behind the page, before the friends change -/
def pgR (r : Nat → Int32) (k : Nat) (bit : Int32) (w : Nat) : Nat → Int32 := if w = 40 then va_cpy (three3 (shB r 0) (nI k) bit) (shB r) 0 (25 + 3 * 39) 3 else va_cpy (three3 (r 0) (nI k) bit) r 0 (25 + 3 * w) 3
theorem knkR_pg (r : Nat → Int32) (k : Nat) (bit : Int32) (z : Bool) (w : Nat) : knkR r k bit z w = knkE (pgR r k bit w) k bit z := by
  unfold knkR pgR knkP
  split <;> rfl
theorem knockB_rel (hc : CurR N a r) (h7 : N ≤ 7) (hk : k < N) (hw : a 10 = nI w) (h40 : w ≤ 40) {p : Bool} : CurR N (writeM a (cI (a 10)) (nI k) (b2i p)) (up (pgR r k (b2i p) w) 24 (pgR r k (b2i p) w 24 + 1)) ∧ Cu a (writeM a (cI (a 10)) (nI k) (b2i p)) ∧ ∀ j, j ≠ 10 → j < 2268 → writeM a (cI (a 10)) (nI k) (b2i p) j = a j := by
  obtain ⟨s, s1, s2, -⟩ := b2i_n p
  rw [hw, cI_nI (by omega), s2]
  have ho : ∀ j, j ≠ 10 → j < 2268 → writeM a w (nI k) (nI s) j = a j := fun j h1 h2 => writeM_out h1 h2
  refine ⟨?_, fun j hj => ho j (by omega) (by omega), ho⟩
  unfold writeM pgR
  by_cases e : w = 40
  · subst e
    rw [if_pos rfl, if_pos rfl]
    have hs := shb_rel hc h7 hw
    exact page_rel hs h7 hk (w := 39) up_eq (by omega) s1 rfl
  · rw [if_neg e, if_neg e]
    exact page_rel hc h7 hk hw (by omega) s1 rfl
theorem knock_eq (hX : extL L) (hc : CurR N a r) (h0 : a 0 = nI N) (n0 : n 0 = nI N) (h7 : N ≤ 7) (hk : k < N) (hw : a 10 = nI w) (h40 : w ≤ 40) : CurR N (knockM a L (nI k)) (knkR r k (shutI (r (3 + k)) (r 0 % 20)) (letX L (vwS n r) (nI k) (r 0)) w) ∧ Cu a (knockM a L (nI k)) ∧ shutI (r (3 + k)) (r 0 % 20) = b2i (hasI (gtM a (nI k) 0) (a 8 % 20)) := by
  have e0 := hc.at0 hk
  have e8 := hc.at8
  have ev := hc.vw h0 n0 h7
  have eb : shutI (r (3 + k)) (r 0 % 20) = b2i (hasI (gtM a (nI k) 0) (a 8 % 20)) := by rw [shut_b, e0.1, e8.1, g0_n (by omega)]
  rw [knkR_pg, eb, e8.1, ← ev, let_eq hX]
  generalize hp : hasI (gtM a (nI k) 0) (a 8 % 20) = p
  obtain ⟨kb, ku, ko⟩ := knockB_rel (p := p) hc h7 hk hw h40
  have eB : knockB a (nI k) = writeM a (cI (a 10)) (nI k) (b2i p) := by unfold knockB; rw [hp]
  rw [← eB] at kb ku ko
  have evB : vwM (knockB a (nI k)) = vwM a := vwM_cg h0 h7 (ko 0 (by decide) (by decide)) (fun j h1 h2 => ko j (by omega) (by omega))
  have e8B : knockB a (nI k) 8 = a 8 := ko 8 (by decide) (by decide)
  generalize hR2 : up (pgR r k (b2i p) w) 24 (pgR r k (b2i p) w 24 + 1) = R2 at kb
  obtain ⟨f1, f, f2, f3⟩ := kb.at2 hk
  have eM : knockM a L (nI k) = up (knockB a (nI k)) (12 + 8 * k + 2) (cutI (nI f + (if p = true then -1 else b2i (letF L (vwM a) (nI k) (a 8)))) 0 99) := by
    unfold knockM
    rw [hp, evB, e8B, g2_n (by omega), f3]
    exact ptM_k (k := 2) (by omega) (by decide)
  have eS : knkE (pgR r k (b2i p) w) k (b2i p) (letF L (vwM a) (nI k) (a 8)) = up R2 (17 + k) (if b2i p = 1 then maxI 0 (nI f - 1) else if letF L (vwM a) (nI k) (a 8) = true then minI 99 (nI f + 1) else nI f) := by
    unfold knkE
    rw [hR2, f1, f3]
  have hv : ∃ q, q ≤ 99 ∧ cutI (nI f + (if p = true then -1 else b2i (letF L (vwM a) (nI k) (a 8)))) 0 99 = nI q ∧ (if b2i p = 1 then maxI 0 (nI f - 1) else if letF L (vwM a) (nI k) (a 8) = true then minI 99 (nI f + 1) else nI f) = nI q := by
    cases p
    · rw [if_neg (by decide), if_neg (by decide)]
      cases letF L (vwM a) (nI k) (a 8)
      · rw [if_neg (by decide)]
        refine ⟨f, f2, ?_, rfl⟩
        have := cut_more (p := f) (q := 0) (hi := 99) (by omega) (by omega) (by omega)
        rw [Nat.add_zero, Nat.min_eq_left f2] at this
        exact this
      · rw [if_pos rfl]
        refine ⟨min (f + 1) 99, Nat.min_le_right _ _, ?_, ?_⟩
        · exact cut_more (p := f) (q := 1) (hi := 99) (by omega) (by omega) (by omega)
        · exact min_more (p := f) (q := 1) (hi := 99) (by omega) (by omega) (by omega)
    · rw [if_pos (show b2i true = 1 from rfl)]
      refine ⟨f - 1, by omega, ?_, ?_⟩
      · exact cut_less (p := f) (q := 1) (hi := 99) f2 (by omega) (by omega)
      · exact max_less (p := f) (q := 1) (by omega) (by omega)
  obtain ⟨q, q1, q2, q3⟩ := hv
  rw [eM, eS, q2, q3]
  exact ⟨kb.fr h7 hk ⟨q, q1, rfl⟩, ku.trans (Cu.h (by omega) (by decide)), rfl⟩
end KNOCK
