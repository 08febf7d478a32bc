/-! THE LAW 3: from its entry (printed by tools/xlaw3.py) -/
set_option maxRecDepth 100000
def UU : Nat := 18396
/-- what there is before anything is made -/
def s00 (g : Nat → Option AC) : Sg := (fun _ _ => 0, fun k => if k = 5 ∨ k = 6 ∨ k = 101 ∨ k = 102 then -1 else 0, fun _ => 0, 0, fun _ => .null, (128, 18396, g))
def h00 (g : Nat → Option AC) : AH := hcs (s00 g) nP 0 0
section START
variable {g : Nat → Option AC}
def s01 (g : Nat → Option AC) : Sg := imgS (ini (s00 g))
def s02 (g : Nat → Option AC) : Sg := (iniM (s01 g)).setA 627 (mv ((iniM (s01 g)).A 627) 0 ((iniM (s01 g)).A 626) 2308)
theorem s01_o {k : Nat} (hk : k < 514 ∨ (515 < k ∧ k < 567) ∨ 618 ≤ k ∨ k = 569 ∨ k = 578 ∨ k = 587) : (s01 g).A k = fun _ => 0 := by
  unfold s01
  rw [img_A, cp_o (Or.inl rfl) (by omega)]
  unfold ini ini1
  rw [setA_ne (by omega), setA_ne (by omega), setA_ne (by omega), setA_ne (by omega)]
  rfl
theorem s01_514 : (s01 g).A 514 = up (fun _ => 0) 2 (-1) := by
  unfold s01
  rw [img_A, cp_o (Or.inl rfl) (by omega)]
  rfl
theorem s01_515 : (s01 g).A 515 = up (fun _ => 0) 1 131 := by
  unfold s01
  rw [img_A, cp_o (Or.inl rfl) (by omega)]
  rfl
theorem iniM_626 {s : Sg} : (iniM s).A 626 = up (up (s.A 626) 9 131) 2 (-1) := rfl
theorem set_627 {s : Sg} {j : Nat} (hj : j < 2308) : (s.setA 627 (mv (s.A 627) 0 (s.A 626) 2308)).A 627 j = (s.setA 627 (mv (s.A 627) 0 (s.A 626) 2308)).A 626 j := by
  rw [setA_at, setA_ne (by decide), mv_in (by omega) (by omega), Nat.sub_zero]
theorem s02_626 : (s02 g).A 626 = up (up (fun _ => 0) 9 131) 2 (-1) := by
  have e : (s02 g).A 626 = (iniM (s01 g)).A 626 := by
    unfold s02
    exact setA_ne (by decide)
  rw [e, iniM_626, s01_o (by decide)]
theorem s02_627 {j : Nat} (hj : j < 2308) : (s02 g).A 627 j = (s02 g).A 626 j := by
  unfold s02
  exact set_627 hj
theorem s02_o {k : Nat} (h1 : k ≠ 626) (h2 : k ≠ 627) : (s02 g).A k = (s01 g).A k := by
  unfold s02 iniM
  rw [setA_ne h2, setA_ne h1, setA_ne h1]
theorem s02_T (j : Nat) : (s02 g).T j = .null := by
  show (if j % 2 = 1 then va_cpy (fun _ => Value.null) (fun _ => Value.null) 0 0 4 (j / 2) else Value.null) = .null
  split
  · unfold va_cpy
    split <;> rfl
  · rfl
theorem inv0 (hB : BH (128, UU, g)) (h0 : ∃ c d, g 0 = some (.inr (4, [.null, .null, .null, c, d]))) : Inv (s02 g) := by
  have hx : RelX 0 0 0 0 0 ((s02 g).A 626) (s02 g).A := by
    rw [s02_626]
    have e4 : (s02 g).A 514 = up (fun _ => 0) 2 (-1) := (s02_o (by decide) (by decide)).trans s01_514
    have e5 : (s02 g).A 515 = up (fun _ => 0) 1 131 := (s02_o (by decide) (by decide)).trans s01_515
    refine ⟨?_, fun h hh => absurd hh (Nat.not_lt_zero h), ?_, fun i hi => absurd hi (Nat.not_lt_zero i), fun i hi => absurd hi (Nat.not_lt_zero i), fun i hi => absurd hi (Nat.not_lt_zero i)⟩
    · unfold HdR
      rw [e4]
      exact ⟨⟨rfl, rfl, by decide⟩, ⟨rfl, rfl, by decide⟩, ⟨rfl, Or.inl rfl⟩, ⟨rfl, rfl, by decide⟩, ⟨rfl, rfl, by decide⟩, ⟨rfl, rfl, by decide⟩⟩
    · rw [e5]
      refine ⟨0, rfl, ⟨rfl, 0, by decide, rfl⟩, ⟨rfl, 131, by decide, rfl⟩, ⟨rfl, by decide, fun i hi => absurd hi (Nat.not_lt_zero i)⟩, fun h hh => absurd hh (Nat.not_lt_zero h), fun i _ => ?_⟩
      show tb 0 i = false
      exact tb_0
  refine ⟨⟨0, 0, 0, 0, 0, 0, 0, 0, 0, 0, hx, ?_, Nat.le_refl _, fun t ht => absurd ht (Nat.not_lt_zero t), fun t ht => absurd ht (Nat.not_lt_zero t)⟩, ⟨0, by decide, rfl, rfl, fun k hk => absurd hk (Nat.not_lt_zero k)⟩, fun j _ => ⟨Or.inl (s02_T j), fun a ha => by rw [s02_T] at ha; cases ha⟩, ⟨rfl, rfl⟩, ⟨0, rfl⟩, ⟨false, rfl⟩, ⟨fun _ => false, ?_⟩, hB, h0⟩
  · have im : ∀ k, k < 573 → imA (s02 g).A k = (cpAll (ini (s00 g)) 514 567).A (k + 53) := fun k hk => s02_o (by omega) (by omega)
    have nw : ∀ k, k < 567 → (s02 g).A k = (ini (s00 g)).A k := fun k hk => by
      rw [s02_o (by omega) (by omega)]
      unfold s01
      rw [img_A, cp_o (Or.inl rfl) (by omega)]
    refine hx.cg (fun j hj => s02_627 hj) (fun j hj => ?_) (fun j hj => ?_) (fun i j hi hj => ?_) (fun i j hi hj => ?_) (fun i j hi hj => ?_)
    · rw [im 514 (by decide), nw 514 (by decide)]; exact cp_0 (Or.inl rfl) hj
    · rw [im 515 (by decide), nw 515 (by decide)]; exact cp_1 (Or.inl rfl) hj
    · rw [im (517 + i) (by omega), nw (517 + i) (by omega), show 517 + i + 53 = 567 + 3 + i by omega]; exact cp_s (Or.inl rfl) hi hj
    · rw [im (526 + i) (by omega), nw (526 + i) (by omega), show 526 + i + 53 = 567 + 12 + i by omega]; exact cp_g (Or.inl rfl) hi hj
    · rw [im (535 + i) (by omega), nw (535 + i) (by omega), show 535 + i + 53 = 567 + 21 + i by omega]; exact cp_t (Or.inl rfl) hi hj
  · rw [s02_o (by decide) (by decide), s01_o (by decide)]
    rfl
theorem mk0 : Run 5 mX0_init [.ref 512] (hcs (s00 g) (upP nP 512 (.inr (0, [.null, .null, .null, .int 0, .int 0, .int 0, .null, .null, .null, .null, .null, .int 0]))) 1 12) (.inl none) (hq 113 (12 + 9668) (s01 g)) := r_X0_init (s := s00 g) (u := 12) (fun _ _ _ => rfl) (fun _ => rfl) rfl rfl rfl rfl
theorem mk2 (h5 : ∀ k, 512 ≤ k → g k = none) : Run 5 mX2_init [.ref 625] (hcs (s01 g) (upP nP 625 (.inr (2, [.null, .null, .null, .null, .int 0, .int 0, .int 0, .int 0, .int 0, .int 0, .int 0, .long 0, .int 0, .int 0, .int 0, .null, .int 0, .int 0, .int 0, .int 0, .int 0, .null, .null, .null, .null, .int 0, .int 0, .int 0, .int 0, .null, .int 0, .int 0, .null, .null, .null, .null]))) 114 (12 + 9668 + 36)) (.inl none) (hp (s02 g)) := r_X2_init (s := s01 g) (u := 12 + 9668 + 36) (fun k h1 h2 => s01_o (by omega)) rfl rfl (fun k hk => by
  show (if k = 5 ∨ k = 6 ∨ k = 101 ∨ k = 102 then (-1 : Int32) else 0) = _
  by_cases z : k = 5 ∨ k = 6
  · rw [if_pos (by omega), if_pos z]
  · rw [if_neg (by omega), if_neg z]) rfl rfl h5
/-- the law, on any script of at most 384 ints, answers true -/
theorem law_go {n : Nat} {f : Nat → Int32} (hn : n ≤ 384) (hB : BH (128, UU, g)) (h0 : ∃ c d, g 0 = some (.inr (4, [.null, .null, .null, c, d]))) (hg : g 500 = some (sc n f)) (h5 : ∀ k, 512 ≤ k → g k = none) : AX (fun h' => h'.n ≤ 320128 ∧ h'.u ≤ UU + 2560000) 140 mL_law (h00 g) 0 [some (.ref 500), none, none, none] [] (.inl (some (.int 1))) := by
  refine AX.map (fun _ k_ => AW.new ci0 dL_law_0 q172 q173 q138 dfX0 (hc_new (s := s00 g) (P := nP) (m := 0) (u := 0)) rfl k_) ?_
  refine AX.map (fun _ k_ => AW.dup dL_law_3 rfl rfl k_) ?_
  refine AX.map (fun _ k_ => AW.callI (Y := mX0_init) (n := 0) (mk0) (by decide) (by decide) rfl q174 q175 q138 q176 dL_law_4 rfl (by decide +kernel) rfl rfl (Nat.le_of_ble_eq_true rfl) rfl k_) ?_
  refine AX.map (fun _ k_ => AW.astore_n (i := 1) dL_law_7 rfl rfl (Nat.le_of_ble_eq_true rfl) rfl rfl k_) ?_
  refine AX.map (fun _ k_ => AW.new ci2 dL_law_8 q1342 q1343 q141 dfX2 (hc_new (s := s01 g) (P := nP) (m := 113) (u := 12 + 9668)) rfl k_) ?_
  refine AX.map (fun _ k_ => AW.dup dL_law_11 rfl rfl k_) ?_
  refine AX.map (fun _ k_ => AW.callI (Y := mX2_init) (n := 0) (mk2 h5) (by decide) (by decide) rfl q1344 q1345 q141 q1346 dL_law_12 rfl (by decide +kernel) rfl rfl (Nat.le_of_ble_eq_true rfl) rfl k_) ?_
  refine AX.map (fun _ k_ => AW.astore_n (i := 2) dL_law_15 rfl rfl (Nat.le_of_ble_eq_true rfl) rfl rfl k_) ?_
  refine AX.map (fun _ k_ => AW.iconst (v := 0) dL_law_16 (by decide) rfl k_) ?_
  refine AX.map (fun _ k_ => AW.istore_n (i := 3) dL_law_17 rfl rfl (Nat.le_of_ble_eq_true rfl) rfl rfl k_) ?_
  exact law_loop hn (n / 6) 0 (s02 g) (by omega) (by omega) (inv0 hB h0) hg (fun v h1 h2 => by
    have e1 : (s02 g).b.n = 128 := rfl
    have e2 : (s02 g).b.u = UU := rfl
    rw [e1] at h1
    rw [e2] at h2
    have : n / 6 ≤ 64 := by omega
    exact ⟨Nat.le_trans h1 (by omega), Nat.le_trans h2 (by omega)⟩)
end START
