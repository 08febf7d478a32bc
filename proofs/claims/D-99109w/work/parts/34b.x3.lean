/-! SYSTEM 3: the state as a whole (printed by tools/x3.py) -/
set_option maxRecDepth 100000
/-- rows from s0 on copied to those from d0 on, k of them -/
def cpR (s : Sg) (s0 d0 w k : Nat) : Sg := (fun j => if d0 ≤ j ∧ j < d0 + k then mv0 (s.A j) (s.A (s0 + (j - d0))) w else s.A j, s.2)
theorem cpR_0 {s : Sg} {s0 d0 w : Nat} : cpR s s0 d0 w 0 = s := by
  show ((fun j => if d0 ≤ j ∧ j < d0 + 0 then mv0 (s.A j) (s.A (s0 + (j - d0))) w else s.A j), s.2) = s
  have : (fun j => if d0 ≤ j ∧ j < d0 + 0 then mv0 (s.A j) (s.A (s0 + (j - d0))) w else s.A j) = s.A := by
    funext j
    rw [if_neg (by omega)]
  rw [this]
  rfl
theorem cpR_out {s : Sg} {s0 d0 w k j : Nat} (h : j < d0 ∨ d0 + k ≤ j) : (cpR s s0 d0 w k).A j = s.A j := by
  show (if d0 ≤ j ∧ j < d0 + k then _ else _) = _
  rw [if_neg (by omega)]
theorem cpR_in {s : Sg} {s0 d0 w k j : Nat} (h : j < k) : (cpR s s0 d0 w k).A (d0 + j) = mv0 (s.A (d0 + j)) (s.A (s0 + j)) w := by
  show (if d0 ≤ d0 + j ∧ d0 + j < d0 + k then mv0 (s.A (d0 + j)) (s.A (s0 + (d0 + j - d0))) w else _) = _
  rw [if_pos (by omega), show d0 + j - d0 = j by omega]
theorem rowg {s : Sg} {a w : Nat} (h : isI a = true ∧ ln a = w) : (hp s).g a = some (ia w (s.A a)) := h.2 ▸ hp_gI h.1
theorem rowset {s t : Sg} {a w : Nat} {f : Nat → Int32} (h : isI a = true ∧ ln a = w) (e : s.setA a f = t) : (hp s).set a (ia w f) = hp t := by
  subst e
  obtain ⟨h1, h2⟩ := h
  subst h2
  exact hp_sI h1
theorem cpR_step {s : Sg} {s0 d0 w n k : Nat} (hk : k < n) (hd : d0 + n ≤ s0 ∨ s0 + n ≤ d0) : (cpR s s0 d0 w k).setA (d0 + k) (mv0 ((cpR s s0 d0 w k).A (d0 + k)) ((cpR s s0 d0 w k).A (s0 + k)) w) = cpR s s0 d0 w (k + 1) := by
  rw [cpR_out (j := d0 + k) (by omega), cpR_out (j := s0 + k) (by omega)]
  refine Prod.ext (funext fun j => ?_) rfl
  show up (cpR s s0 d0 w k).A (d0 + k) _ j = (if d0 ≤ j ∧ j < d0 + (k + 1) then mv0 (s.A j) (s.A (s0 + (j - d0))) w else s.A j)
  by_cases h : j = d0 + k
  · subst h
    rw [up_eq, if_pos (by omega), show d0 + k - d0 = k by omega]
  · rw [up_ne h]
    show (if d0 ≤ j ∧ j < d0 + k then _ else _) = _
    by_cases h2 : d0 ≤ j ∧ j < d0 + k
    · rw [if_pos h2, if_pos (by omega)]
    · rw [if_neg h2, if_neg (by omega)]
theorem xI_in {k n : Nat} (h : k < n) (hn : n < 2147483648) : vp_in (nI k) n := vp_in_iff.mpr ⟨by rw [nI_t (by omega)]; omega, by rw [nI_t (by omega)]; omega⟩
theorem nI_cl {k : Nat} (h : k < 2147483648) : (nI k).toNatClampNeg = k := i32_cl h
theorem xI_lt {i j : Nat} (hi : i < 2147483648) (hj : j < 2147483648) : nI i < nI j ↔ i < j := by
  rw [Int32.lt_iff_toInt_lt, nI_t hi, nI_t hj]
  omega
theorem xI_le {i j : Nat} (hi : i < 2147483648) (hj : j < 2147483648) : nI i ≤ nI j ↔ i ≤ j := by
  rw [Int32.le_iff_toInt_le, nI_t hi, nI_t hj]
  omega
theorem r_X1_copy_2 {s : Sg} {a b s0 d0 n w : Nat} (ga : ∀ s : Sg, (hp s).g a = some (.inl (4, n, fun j => .ref (s0 + j)))) (gb : ∀ s : Sg, (hp s).g b = some (.inl (4, n, fun j => .ref (d0 + j)))) (i1 : ∀ k, k < n → isI (s0 + k) = true ∧ ln (s0 + k) = w) (i2 : ∀ k, k < n → isI (d0 + k) = true ∧ ln (d0 + k) = w) (hd : d0 + n ≤ s0 ∨ s0 + n ≤ d0) (h5 : 512 ≤ d0) (hn : n < 1000) (hw : w < 1000) : Run 3 mX1_copy_2 [.ref a, .ref b] (hp s) (.inl none) (hp (cpR s s0 d0 w n)) := by
  refine Run.of rfl (Nat.le_of_ble_eq_true rfl) rfl ?_
  refine AW.iconst (v := 0) dX1_copy_2_0 (by decide) rfl ?_
  refine AW.istore_n (i := 2) dX1_copy_2_1 rfl rfl (Nat.le_of_ble_eq_true rfl) rfl rfl ?_
  refine AW.hp (h2 := hp (cpR s s0 d0 w 0)) (by rw [cpR_0]) ?_
  refine loopUp (P := fun k => AW 3 mX1_copy_2 (hp (cpR s s0 d0 w k)) 2 [some (.ref a), some (.ref b), some (.int (nI k))] [] (.inl none) (hp (cpR s s0 d0 w n))) n ?_ ?_ 0 (by first | exact Nat.zero_le _ | omega)
  · refine AW.iload_n dX1_copy_2_2 rfl rfl ?_
    refine AW.aload_n dX1_copy_2_3 rfl rfl ?_
    refine AW.alen dX1_copy_2_4 (ga _) rfl rfl ?_
    refine AW.icmp_ge (tgt := 23) dX1_copy_2_5 (by decide) rfl (fun _ => ?_) (fun c_ => by first | exact absurd c_ ((xI_le (by omega) (by omega)).mpr (Nat.le_refl n)) | exact absurd ((xI_le (by omega) (by omega)).mpr (Nat.le_refl n)) c_ | exact absurd c_ (not_not_intro ((xI_le (by omega) (by omega)).mpr (Nat.le_refl n))) | exact Bool.noConfusion (c_.symm.trans ((xI_le (by omega) (by omega)).mpr (Nat.le_refl n))))
    exact AW.vretE dX1_copy_2_23 rfl rfl rfl
  · intro k hk ihk
    refine AW.iload_n dX1_copy_2_2 rfl rfl ?_
    refine AW.aload_n dX1_copy_2_3 rfl rfl ?_
    refine AW.alen dX1_copy_2_4 (ga _) rfl rfl ?_
    refine AW.icmp_ge (tgt := 23) dX1_copy_2_5 (by decide) rfl (fun c_ => by first | exact absurd c_ (Int32.not_le.mpr ((xI_lt (by omega) (by omega)).mpr hk)) | exact absurd (Int32.not_le.mpr ((xI_lt (by omega) (by omega)).mpr hk)) c_ | exact Bool.noConfusion (c_.symm.trans (Int32.not_le.mpr ((xI_lt (by omega) (by omega)).mpr hk)))) (fun _ => ?_)
    refine AW.aload_n dX1_copy_2_8 rfl rfl ?_
    refine AW.iload_n dX1_copy_2_9 rfl rfl ?_
    refine AW.aald dX1_copy_2_10 (ga _) rfl rfl (xI_in hk (by omega)) (nI_cl (k := k) (by omega)) rfl ?_
    refine AW.aload_n dX1_copy_2_11 rfl rfl ?_
    refine AW.iload_n dX1_copy_2_12 rfl rfl ?_
    refine AW.aald dX1_copy_2_13 (gb _) rfl rfl (xI_in hk (by omega)) (nI_cl (k := k) (by omega)) rfl ?_
    refine AW.callS (Y := mX1_copy) (n := 2) (r_X1_copy (h2 := hp (cpR s s0 d0 w (k + 1))) (rowg (i1 k hk)) (by omega) (rowg (i2 k hk)) (Nat.le_refl _) (by omega) (rowset (i2 k hk) (cpR_step hk hd))) (by decide) (by decide) q220 q221 q139 q222 dX1_copy_2_14 (by decide +kernel) rfl rfl (Nat.le_of_ble_eq_true rfl) rfl ?_
    refine AW.iinc (v := 1) dX1_copy_2_17 rfl (by decide) rfl rfl rfl ?_
    refine AW.goto (tgt := 2) dX1_copy_2_20 (by decide) ?_
    exact AW.ls (by rw [nI_succ]; rfl) ihk
theorem r517 : ∀ k, k < 8 → isI (517 + k) = true ∧ ln (517 + k) = 3 := by decide
theorem r570 : ∀ k, k < 8 → isI (570 + k) = true ∧ ln (570 + k) = 3 := by decide
theorem r526 : ∀ k, k < 8 → isI (526 + k) = true ∧ ln (526 + k) = 2 := by decide
theorem r579 : ∀ k, k < 8 → isI (579 + k) = true ∧ ln (579 + k) = 2 := by decide
theorem r535 : ∀ k, k < 30 → isI (535 + k) = true ∧ ln (535 + k) = 145 := by decide
theorem r588 : ∀ k, k < 30 → isI (588 + k) = true ∧ ln (588 + k) = 145 := by decide
def cp1 (s : Sg) (a b w : Nat) : Sg := s.setA b (mv0 (s.A b) (s.A a) w)
def txtI (s : Sg) : Sg := s.setT (fun j => if j % 2 = 1 then va_cpy (fun j => s.T (2 * j)) (fun j => s.T (2 * j + 1)) 0 0 4 (j / 2) else s.T j)
def txtN (s : Sg) : Sg := s.setT (fun j => if j % 2 = 0 then va_cpy (fun j => s.T (2 * j + 1)) (fun j => s.T (2 * j)) 0 0 4 (j / 2) else s.T j)
def imgS (s : Sg) : Sg := txtI (cpR (cpR (cpR (cp1 (cp1 s 514 567 6) 515 568 145) 517 570 3 8) 526 579 2 8) 535 588 145 30)
def bakS (s : Sg) : Sg := txtN (cpR (cpR (cpR (cp1 (cp1 s 567 514 6) 568 515 145) 570 517 3 8) 579 526 2 8) 588 535 145 30)
/-- no text, or an object of the class, made behind the fixed cells -/
def TxV (b : AH) (v : Value) : Prop := v = .null ∨ ∃ (a : Nat) (fs : List Value), 640 ≤ a ∧ v = .ref a ∧ b.g a = some (.inr (4, fs))
theorem nfx {k : Nat} (h : 640 ≤ k) : isFx k = false := by
  unfold isFx
  rw [Bool.and_eq_false_iff]
  exact Or.inr (decide_eq_false (by omega))
theorem hp_gb {s : Sg} {k : Nat} (h : isFx k = false) : (hp s).g k = s.b.g k := by
  show (if isFx k = true then some (fx s k) else s.b.g k) = _
  rw [if_neg (by rw [h]; exact Bool.false_ne_true)]
theorem TxV.or {s : Sg} {v : Value} (h : TxV s.b v) : OrNull (hp s) (fun c => Cond.castable c "ShutDays$Text" ∈ lw_tbl ∨ c = "ShutDays$Text") v := by
  rcases h with e | ⟨a, fs, h1, e, h2⟩
  · exact Or.inl e
  · exact Or.inr ⟨a, 4, fs, _, e, (hp_gb (nfx h1)).trans h2, rfl, Or.inr rfl⟩
theorem r_X1_be_I {s : Sg} (hT : ∀ j, j < 4 → TxV s.b (s.T (2 * j))) : Run 4 mX1_be [.ref 566, .ref 513] (hp s) (.inl none) (hp (imgS s)) := by
  refine Run.of rfl (Nat.le_of_ble_eq_true rfl) rfl ?_
  refine AW.aload_n dX1_be_0 rfl rfl ?_
  refine AW.get ci1 0 (by decide) q190 dX1_be_1 gN rfl rfl ?_
  refine AW.aload_n dX1_be_4 rfl rfl ?_
  refine AW.get ci1 0 (by decide) q190 dX1_be_5 gI rfl rfl ?_
  refine AW.callS (Y := mX1_copy) (n := 2) (r_X1_copy (h2 := hp (cp1 s 514 567 6)) g514 (by decide) g567 (Nat.le_refl _) (by decide) s567) (by decide) (by decide) q220 q221 q139 q222 dX1_be_8 (by decide +kernel) rfl rfl (Nat.le_of_ble_eq_true rfl) rfl ?_
  refine AW.aload_n dX1_be_11 rfl rfl ?_
  refine AW.get ci1 1 (by decide) q192 dX1_be_12 gN rfl rfl ?_
  refine AW.aload_n dX1_be_15 rfl rfl ?_
  refine AW.get ci1 1 (by decide) q192 dX1_be_16 gI rfl rfl ?_
  refine AW.callS (Y := mX1_copy) (n := 2) (r_X1_copy (h2 := hp (cp1 (cp1 s 514 567 6) 515 568 145)) g515 (by decide) g568 (Nat.le_refl _) (by decide) s568) (by decide) (by decide) q220 q221 q139 q222 dX1_be_19 (by decide +kernel) rfl rfl (Nat.le_of_ble_eq_true rfl) rfl ?_
  refine AW.aload_n dX1_be_22 rfl rfl ?_
  refine AW.get ci1 2 (by decide) q194 dX1_be_23 gN rfl rfl ?_
  refine AW.aload_n dX1_be_26 rfl rfl ?_
  refine AW.get ci1 2 (by decide) q194 dX1_be_27 gI rfl rfl ?_
  refine AW.callS (Y := mX1_copy_2) (n := 2) (r_X1_copy_2 (s := (cp1 (cp1 s 514 567 6) 515 568 145)) (n := 8) (w := 3) (s0 := 517) (d0 := 570) (fun _ => g516) (fun _ => g569) r517 r570 (by decide) (by decide) (by decide) (by decide)) (by decide) (by decide) q226 q227 q139 q228 dX1_be_30 (by decide +kernel) rfl rfl (Nat.le_of_ble_eq_true rfl) rfl ?_
  refine AW.aload_n dX1_be_33 rfl rfl ?_
  refine AW.get ci1 3 (by decide) q196 dX1_be_34 gN rfl rfl ?_
  refine AW.aload_n dX1_be_37 rfl rfl ?_
  refine AW.get ci1 3 (by decide) q196 dX1_be_38 gI rfl rfl ?_
  refine AW.callS (Y := mX1_copy_2) (n := 2) (r_X1_copy_2 (s := (cpR (cp1 (cp1 s 514 567 6) 515 568 145) 517 570 3 8)) (n := 8) (w := 2) (s0 := 526) (d0 := 579) (fun _ => g525) (fun _ => g578) r526 r579 (by decide) (by decide) (by decide) (by decide)) (by decide) (by decide) q226 q227 q139 q228 dX1_be_41 (by decide +kernel) rfl rfl (Nat.le_of_ble_eq_true rfl) rfl ?_
  refine AW.aload_n dX1_be_44 rfl rfl ?_
  refine AW.get ci1 4 (by decide) q198 dX1_be_45 gN rfl rfl ?_
  refine AW.aload_n dX1_be_48 rfl rfl ?_
  refine AW.get ci1 4 (by decide) q198 dX1_be_49 gI rfl rfl ?_
  refine AW.callS (Y := mX1_copy_2) (n := 2) (r_X1_copy_2 (s := (cpR (cpR (cp1 (cp1 s 514 567 6) 515 568 145) 517 570 3 8) 526 579 2 8)) (n := 30) (w := 145) (s0 := 535) (d0 := 588) (fun _ => g534) (fun _ => g587) r535 r588 (by decide) (by decide) (by decide) (by decide)) (by decide) (by decide) q226 q227 q139 q228 dX1_be_52 (by decide +kernel) rfl rfl (Nat.le_of_ble_eq_true rfl) rfl ?_
  refine AW.aload_n dX1_be_55 rfl rfl ?_
  refine AW.get ci1 5 (by decide) q200 dX1_be_56 gN rfl rfl ?_
  refine AW.iconst (v := 0) dX1_be_59 (by decide) rfl ?_
  refine AW.aload_n dX1_be_60 rfl rfl ?_
  refine AW.get ci1 5 (by decide) q200 dX1_be_61 gI rfl rfl ?_
  refine AW.iconst (v := 0) dX1_be_64 (by decide) rfl ?_
  refine AW.iconst (v := 4) dX1_be_65 (by decide) rfl ?_
  refine AW.copyT (Cn := "ShutDays$Text") dX1_be_66 q223 q225 q224 q140 g565 (by decide) g618 rfl (fun _ => rfl) (by decide) (by decide) (by decide) (by decide) (by decide) (fun j hj => TxV.or (s := (cpR (cpR (cpR (cp1 (cp1 s 514 567 6) 515 568 145) 517 570 3 8) 526 579 2 8) 535 588 145 30)) (by have e : (0 : Int32).toNatClampNeg + j = j := Nat.zero_add j; rw [e]; exact hT j hj)) (by decide) (Nat.le_of_ble_eq_true rfl) (h3 := hp (txtI (cpR (cpR (cpR (cp1 (cp1 s 514 567 6) 515 568 145) 517 570 3 8) 526 579 2 8) 535 588 145 30))) s618 rfl ?_
  exact AW.vretE dX1_be_69 rfl rfl rfl
theorem r_X1_be_N {s : Sg} (hT : ∀ j, j < 4 → TxV s.b (s.T (2 * j + 1))) : Run 4 mX1_be [.ref 513, .ref 566] (hp s) (.inl none) (hp (bakS s)) := by
  refine Run.of rfl (Nat.le_of_ble_eq_true rfl) rfl ?_
  refine AW.aload_n dX1_be_0 rfl rfl ?_
  refine AW.get ci1 0 (by decide) q190 dX1_be_1 gI rfl rfl ?_
  refine AW.aload_n dX1_be_4 rfl rfl ?_
  refine AW.get ci1 0 (by decide) q190 dX1_be_5 gN rfl rfl ?_
  refine AW.callS (Y := mX1_copy) (n := 2) (r_X1_copy (h2 := hp (cp1 s 567 514 6)) g567 (by decide) g514 (Nat.le_refl _) (by decide) s514) (by decide) (by decide) q220 q221 q139 q222 dX1_be_8 (by decide +kernel) rfl rfl (Nat.le_of_ble_eq_true rfl) rfl ?_
  refine AW.aload_n dX1_be_11 rfl rfl ?_
  refine AW.get ci1 1 (by decide) q192 dX1_be_12 gI rfl rfl ?_
  refine AW.aload_n dX1_be_15 rfl rfl ?_
  refine AW.get ci1 1 (by decide) q192 dX1_be_16 gN rfl rfl ?_
  refine AW.callS (Y := mX1_copy) (n := 2) (r_X1_copy (h2 := hp (cp1 (cp1 s 567 514 6) 568 515 145)) g568 (by decide) g515 (Nat.le_refl _) (by decide) s515) (by decide) (by decide) q220 q221 q139 q222 dX1_be_19 (by decide +kernel) rfl rfl (Nat.le_of_ble_eq_true rfl) rfl ?_
  refine AW.aload_n dX1_be_22 rfl rfl ?_
  refine AW.get ci1 2 (by decide) q194 dX1_be_23 gI rfl rfl ?_
  refine AW.aload_n dX1_be_26 rfl rfl ?_
  refine AW.get ci1 2 (by decide) q194 dX1_be_27 gN rfl rfl ?_
  refine AW.callS (Y := mX1_copy_2) (n := 2) (r_X1_copy_2 (s := (cp1 (cp1 s 567 514 6) 568 515 145)) (n := 8) (w := 3) (s0 := 570) (d0 := 517) (fun _ => g569) (fun _ => g516) r570 r517 (by decide) (by decide) (by decide) (by decide)) (by decide) (by decide) q226 q227 q139 q228 dX1_be_30 (by decide +kernel) rfl rfl (Nat.le_of_ble_eq_true rfl) rfl ?_
  refine AW.aload_n dX1_be_33 rfl rfl ?_
  refine AW.get ci1 3 (by decide) q196 dX1_be_34 gI rfl rfl ?_
  refine AW.aload_n dX1_be_37 rfl rfl ?_
  refine AW.get ci1 3 (by decide) q196 dX1_be_38 gN rfl rfl ?_
  refine AW.callS (Y := mX1_copy_2) (n := 2) (r_X1_copy_2 (s := (cpR (cp1 (cp1 s 567 514 6) 568 515 145) 570 517 3 8)) (n := 8) (w := 2) (s0 := 579) (d0 := 526) (fun _ => g578) (fun _ => g525) r579 r526 (by decide) (by decide) (by decide) (by decide)) (by decide) (by decide) q226 q227 q139 q228 dX1_be_41 (by decide +kernel) rfl rfl (Nat.le_of_ble_eq_true rfl) rfl ?_
  refine AW.aload_n dX1_be_44 rfl rfl ?_
  refine AW.get ci1 4 (by decide) q198 dX1_be_45 gI rfl rfl ?_
  refine AW.aload_n dX1_be_48 rfl rfl ?_
  refine AW.get ci1 4 (by decide) q198 dX1_be_49 gN rfl rfl ?_
  refine AW.callS (Y := mX1_copy_2) (n := 2) (r_X1_copy_2 (s := (cpR (cpR (cp1 (cp1 s 567 514 6) 568 515 145) 570 517 3 8) 579 526 2 8)) (n := 30) (w := 145) (s0 := 588) (d0 := 535) (fun _ => g587) (fun _ => g534) r588 r535 (by decide) (by decide) (by decide) (by decide)) (by decide) (by decide) q226 q227 q139 q228 dX1_be_52 (by decide +kernel) rfl rfl (Nat.le_of_ble_eq_true rfl) rfl ?_
  refine AW.aload_n dX1_be_55 rfl rfl ?_
  refine AW.get ci1 5 (by decide) q200 dX1_be_56 gI rfl rfl ?_
  refine AW.iconst (v := 0) dX1_be_59 (by decide) rfl ?_
  refine AW.aload_n dX1_be_60 rfl rfl ?_
  refine AW.get ci1 5 (by decide) q200 dX1_be_61 gN rfl rfl ?_
  refine AW.iconst (v := 0) dX1_be_64 (by decide) rfl ?_
  refine AW.iconst (v := 4) dX1_be_65 (by decide) rfl ?_
  refine AW.copyT (Cn := "ShutDays$Text") dX1_be_66 q223 q225 q224 q140 g618 (by decide) g565 rfl (fun _ => rfl) (by decide) (by decide) (by decide) (by decide) (by decide) (fun j hj => TxV.or (s := (cpR (cpR (cpR (cp1 (cp1 s 567 514 6) 568 515 145) 570 517 3 8) 579 526 2 8) 588 535 145 30)) (by have e : (0 : Int32).toNatClampNeg + j = j := Nat.zero_add j; rw [e]; exact hT j hj)) (by decide) (Nat.le_of_ble_eq_true rfl) (h3 := hp (txtN (cpR (cpR (cpR (cp1 (cp1 s 567 514 6) 568 515 145) 570 517 3 8) 579 526 2 8) 588 535 145 30))) s565 rfl ?_
  exact AW.vretE dX1_be_69 rfl rfl rfl
theorem r_X0_image {s : Sg} (hT : ∀ j, j < 4 → TxV s.b (s.T (2 * j))) : Run 5 mX0_image [.ref 512] (hp s) (.inl (some (.int ((imgS s).A 515 0)))) (hp (imgS s)) := by
  refine Run.of rfl (Nat.le_of_ble_eq_true rfl) rfl ?_
  refine AW.aload_n dX0_image_0 rfl rfl ?_
  refine AW.get ci0 1 (by decide) q230 dX0_image_1 gX rfl rfl ?_
  refine AW.aload_n dX0_image_4 rfl rfl ?_
  refine AW.get ci0 0 (by decide) q229 dX0_image_5 gX rfl rfl ?_
  refine AW.callV (Y := mX1_be) (n := 1) (r_X1_be_I hT) (by decide) (by decide) rfl gI q216 q217 q218 q139 q219 dX0_image_8 (by decide +kernel) rfl rfl (Nat.le_of_ble_eq_true rfl) rfl ?_
  refine AW.aload_n dX0_image_11 rfl rfl ?_
  refine AW.get ci0 0 (by decide) q229 dX0_image_12 gX rfl rfl ?_
  refine AW.getN ci1 1 (by decide) q193 dX0_image_15 gN rfl rfl ?_
  refine AW.iconst (v := 0) dX0_image_18 (by decide) rfl ?_
  refine AW.iald dX0_image_19 g515 (vp_in_iff.mpr (by decide)) (j := 0) (by decide) rfl ?_
  exact AW.iretE dX0_image_20 rfl rfl rfl rfl
theorem r_X0_back {s : Sg} (hT : ∀ j, j < 4 → TxV s.b (s.T (2 * j + 1))) : Run 5 mX0_back [.ref 512] (hp s) (.inl (some (.int ((bakS s).A 515 0)))) (hp (bakS s)) := by
  refine Run.of rfl (Nat.le_of_ble_eq_true rfl) rfl ?_
  refine AW.aload_n dX0_back_0 rfl rfl ?_
  refine AW.get ci0 0 (by decide) q229 dX0_back_1 gX rfl rfl ?_
  refine AW.aload_n dX0_back_4 rfl rfl ?_
  refine AW.get ci0 1 (by decide) q230 dX0_back_5 gX rfl rfl ?_
  refine AW.callV (Y := mX1_be) (n := 1) (r_X1_be_N hT) (by decide) (by decide) rfl gN q216 q217 q218 q139 q219 dX0_back_8 (by decide +kernel) rfl rfl (Nat.le_of_ble_eq_true rfl) rfl ?_
  refine AW.aload_n dX0_back_11 rfl rfl ?_
  refine AW.get ci0 0 (by decide) q229 dX0_back_12 gX rfl rfl ?_
  refine AW.getN ci1 1 (by decide) q193 dX0_back_15 gN rfl rfl ?_
  refine AW.iconst (v := 0) dX0_back_18 (by decide) rfl ?_
  refine AW.iald dX0_back_19 g515 (vp_in_iff.mpr (by decide)) (j := 0) (by decide) rfl ?_
  exact AW.iretE dX0_back_20 rfl rfl rfl rfl
