/-! CONSTRUCTORS 2: be over the heap under way; ShutDays and the model made (printed by tools/x41.py) -/
set_option maxRecDepth 100000
def hq (m u : Nat) (s : Sg) : AH := hcs s nP m u
section HQ
variable {s : Sg} {m u a w : Nat}
theorem rowgq (h : isI a = true ∧ ln a = w ∧ a < 512 + m) : (hq m u s).g a = some (ia w (s.A a)) := by
  have h5 : 512 ≤ a := by
    have := h.1
    unfold isI isFx at this
    simp only [Bool.and_eq_true, decide_eq_true_eq] at this
    exact this.1.1
  have q := hc_gI (s := s) (P := nP) (m := m) (u := u) h.1 rfl h5 h.2.2
  rw [h.2.1] at q
  exact q
theorem rowsetq {t : Sg} {f : Nat → Int32} (h : isI a = true ∧ ln a = w ∧ a < 512 + m) (e : s.setA a f = t) : (hq m u s).set a (ia w f) = hq m u t := by
  subst e
  have h5 : 512 ≤ a := by
    have := h.1
    unfold isI isFx at this
    simp only [Bool.and_eq_true, decide_eq_true_eq] at this
    exact this.1.1
  have q := hc_sI (s := s) (P := nP) (m := m) (u := u) (f := f) h.1 rfl h5 h.2.2
  rw [h.2.1] at q
  exact q
theorem hq_fx {c : AC} (h1 : 512 ≤ a) (h2 : a < 512 + m) (hc : fx s a = c) : (hq m u s).g a = some c := hc ▸ hc_fx rfl h1 h2
end HQ
theorem w514 {s : Sg} {u : Nat} : (hq 113 u s).g 514 = some (ia 6 (s.A 514)) := rowgq ⟨rfl, rfl, by decide⟩
theorem w515 {s : Sg} {u : Nat} : (hq 113 u s).g 515 = some (ia 145 (s.A 515)) := rowgq ⟨rfl, rfl, by decide⟩
theorem w567 {s : Sg} {u : Nat} : (hq 113 u s).g 567 = some (ia 6 (s.A 567)) := rowgq ⟨rfl, rfl, by decide⟩
theorem w568 {s : Sg} {u : Nat} : (hq 113 u s).g 568 = some (ia 145 (s.A 568)) := rowgq ⟨rfl, rfl, by decide⟩
theorem w513 {s : Sg} {u : Nat} : (hq 113 u s).g 513 = some (.inr (1, [.ref 514, .ref 515, .ref 516, .ref 525, .ref 534, .ref 565])) := hq_fx (by decide) (by decide) rfl
theorem w566 {s : Sg} {u : Nat} : (hq 113 u s).g 566 = some (.inr (1, [.ref 567, .ref 568, .ref 569, .ref 578, .ref 587, .ref 618])) := hq_fx (by decide) (by decide) rfl
theorem w516 {s : Sg} {u : Nat} : (hq 113 u s).g 516 = some (.inl (4, 8, fun j => .ref (517 + j))) := hq_fx (by decide) (by decide) rfl
theorem w525 {s : Sg} {u : Nat} : (hq 113 u s).g 525 = some (.inl (4, 8, fun j => .ref (526 + j))) := hq_fx (by decide) (by decide) rfl
theorem w534 {s : Sg} {u : Nat} : (hq 113 u s).g 534 = some (.inl (4, 30, fun j => .ref (535 + j))) := hq_fx (by decide) (by decide) rfl
theorem w569 {s : Sg} {u : Nat} : (hq 113 u s).g 569 = some (.inl (4, 8, fun j => .ref (570 + j))) := hq_fx (by decide) (by decide) rfl
theorem w578 {s : Sg} {u : Nat} : (hq 113 u s).g 578 = some (.inl (4, 8, fun j => .ref (579 + j))) := hq_fx (by decide) (by decide) rfl
theorem w587 {s : Sg} {u : Nat} : (hq 113 u s).g 587 = some (.inl (4, 30, fun j => .ref (588 + j))) := hq_fx (by decide) (by decide) rfl
theorem w565 {s : Sg} {u : Nat} : (hq 113 u s).g 565 = some (.inl (5, 4, fun j => s.T (2 * j))) := hq_fx (by decide) (by decide) rfl
theorem w618 {s : Sg} {u : Nat} : (hq 113 u s).g 618 = some (.inl (5, 4, fun j => s.T (2 * j + 1))) := hq_fx (by decide) (by decide) rfl
theorem y567 {s : Sg} {u : Nat} : (hq 113 u s).set 567 (ia 6 (mv0 (s.A 567) (s.A 514) 6)) = hq 113 u (cp1 s 514 567 6) := rowsetq ⟨rfl, rfl, by decide⟩ rfl
theorem y568 {s : Sg} {u : Nat} : (hq 113 u s).set 568 (ia 145 (mv0 (s.A 568) (s.A 515) 145)) = hq 113 u (cp1 s 515 568 145) := rowsetq ⟨rfl, rfl, by decide⟩ rfl
theorem rq_X1_copy_2 {u : Nat} {s : Sg} {a b s0 d0 n w : Nat} (ga : ∀ s : Sg, (hq 113 u s).g a = some (.inl (4, n, fun j => .ref (s0 + j)))) (gb : ∀ s : Sg, (hq 113 u s).g b = some (.inl (4, n, fun j => .ref (d0 + j)))) (i1 : ∀ k, k < n → isI (s0 + k) = true ∧ ln (s0 + k) = w ∧ s0 + k < 625) (i2 : ∀ k, k < n → isI (d0 + k) = true ∧ ln (d0 + k) = w ∧ d0 + k < 625) (hd : d0 + n ≤ s0 ∨ s0 + n ≤ d0) (h5 : 512 ≤ d0) (hn : n < 1000) (hw : w < 1000) : Run 3 mX1_copy_2 [.ref a, .ref b] (hq 113 u s) (.inl none) (hq 113 u (cpR s s0 d0 w n)) := by
  refine Run.of rfl (Nat.le_of_ble_eq_true rfl) rfl ?_
  refine AW.iconst (v := 0) dX1_copy_2_0 (by decide) rfl ?_
  refine AW.istore_n (i := 2) dX1_copy_2_1 rfl rfl (Nat.le_of_ble_eq_true rfl) rfl rfl ?_
  refine AW.hp (h2 := hq 113 u (cpR s s0 d0 w 0)) (by rw [cpR_0]) ?_
  refine loopUp (P := fun k => AW 3 mX1_copy_2 (hq 113 u (cpR s s0 d0 w k)) 2 [some (.ref a), some (.ref b), some (.int (nI k))] [] (.inl none) (hq 113 u (cpR s s0 d0 w n))) n ?_ ?_ 0 (by first | exact Nat.zero_le _ | omega)
  · refine AW.iload_n dX1_copy_2_2 rfl rfl ?_
    refine AW.aload_n dX1_copy_2_3 rfl rfl ?_
    refine AW.alen dX1_copy_2_4 (ga _) rfl rfl ?_
    refine AW.icmp_ge (tgt := 23) dX1_copy_2_5 (by decide) rfl (fun _ => ?_) (fun c_ => by first | exact absurd c_ ((xI_le (by omega) (by omega)).mpr (Nat.le_refl n)) | exact absurd ((xI_le (by omega) (by omega)).mpr (Nat.le_refl n)) c_ | exact absurd c_ (not_not_intro ((xI_le (by omega) (by omega)).mpr (Nat.le_refl n))) | exact Bool.noConfusion (c_.symm.trans ((xI_le (by omega) (by omega)).mpr (Nat.le_refl n))))
    exact AW.vretE dX1_copy_2_23 rfl rfl rfl
  · intro k hk ihk
    refine AW.iload_n dX1_copy_2_2 rfl rfl ?_
    refine AW.aload_n dX1_copy_2_3 rfl rfl ?_
    refine AW.alen dX1_copy_2_4 (ga _) rfl rfl ?_
    refine AW.icmp_ge (tgt := 23) dX1_copy_2_5 (by decide) rfl (fun c_ => by first | exact absurd c_ (Int32.not_le.mpr ((xI_lt (by omega) (by omega)).mpr hk)) | exact absurd (Int32.not_le.mpr ((xI_lt (by omega) (by omega)).mpr hk)) c_ | exact Bool.noConfusion (c_.symm.trans (Int32.not_le.mpr ((xI_lt (by omega) (by omega)).mpr hk)))) (fun _ => ?_)
    refine AW.aload_n dX1_copy_2_8 rfl rfl ?_
    refine AW.iload_n dX1_copy_2_9 rfl rfl ?_
    refine AW.aald dX1_copy_2_10 (ga _) rfl rfl (xI_in hk (by omega)) (nI_cl (k := k) (by omega)) rfl ?_
    refine AW.aload_n dX1_copy_2_11 rfl rfl ?_
    refine AW.iload_n dX1_copy_2_12 rfl rfl ?_
    refine AW.aald dX1_copy_2_13 (gb _) rfl rfl (xI_in hk (by omega)) (nI_cl (k := k) (by omega)) rfl ?_
    refine AW.callS (Y := mX1_copy) (n := 2) (r_X1_copy (h2 := hq 113 u (cpR s s0 d0 w (k + 1))) (rowgq (i1 k hk)) (by omega) (rowgq (i2 k hk)) (Nat.le_refl _) (by omega) (rowsetq (i2 k hk) (cpR_step hk hd))) (by decide) (by decide) q220 q221 q139 q222 dX1_copy_2_14 (by decide +kernel) rfl rfl (Nat.le_of_ble_eq_true rfl) rfl ?_
    refine AW.iinc (v := 1) dX1_copy_2_17 rfl (by decide) rfl rfl rfl ?_
    refine AW.goto (tgt := 2) dX1_copy_2_20 (by decide) ?_
    exact AW.ls (by rw [nI_succ]; rfl) ihk
theorem x517 : ∀ k, k < 8 → isI (517 + k) = true ∧ ln (517 + k) = 3 ∧ 517 + k < 625 := by decide
theorem x570 : ∀ k, k < 8 → isI (570 + k) = true ∧ ln (570 + k) = 3 ∧ 570 + k < 625 := by decide
theorem x526 : ∀ k, k < 8 → isI (526 + k) = true ∧ ln (526 + k) = 2 ∧ 526 + k < 625 := by decide
theorem x579 : ∀ k, k < 8 → isI (579 + k) = true ∧ ln (579 + k) = 2 ∧ 579 + k < 625 := by decide
theorem x535 : ∀ k, k < 30 → isI (535 + k) = true ∧ ln (535 + k) = 145 ∧ 535 + k < 625 := by decide
theorem x588 : ∀ k, k < 30 → isI (588 + k) = true ∧ ln (588 + k) = 145 ∧ 588 + k < 625 := by decide
theorem y618 {s : Sg} {u : Nat} : (hq 113 u s).set 618 (.inl (5, 4, va_cpy (fun j => s.T (2 * j)) (fun j => s.T (2 * j + 1)) 0 0 4)) = hq 113 u (txtI s) := by
  refine congrArg (fun z => (113, u, z)) (funext fun k => ?_)
  have q : (hp s).set 618 (.inl (5, 4, va_cpy (fun j => s.T (2 * j)) (fun j => s.T (2 * j + 1)) 0 0 4)) = hp (txtI s) := s618
  have q2 := congrFun (congrArg (fun z => z.2.2) q) k
  have q3 : (if k = 618 then some (Sum.inl (5, 4, va_cpy (fun j => s.T (2 * j)) (fun j => s.T (2 * j + 1)) 0 0 4) : AC) else if isFx k = true then some (fx s k) else s.b.g k) = if isFx k = true then some (fx (txtI s) k) else s.b.g k := q2
  show (if k = 618 then some (Sum.inl (5, 4, va_cpy (fun j => s.T (2 * j)) (fun j => s.T (2 * j + 1)) 0 0 4) : AC) else if 512 ≤ k ∧ k < 512 + 113 then some (fx s k) else s.b.g k) = if 512 ≤ k ∧ k < 512 + 113 then some (fx (txtI s) k) else s.b.g k
  by_cases h : 512 ≤ k ∧ k < 512 + 113
  · have hf : isFx k = true := by unfold isFx; rw [decide_eq_true h.1, decide_eq_true (by omega)]; rfl
    rw [if_pos hf, if_pos hf] at q3
    rw [if_pos h, if_pos h]
    exact q3
  · rw [if_neg h, if_neg h, if_neg (by omega)]
theorem rq_X1_be {s : Sg} {u : Nat} (hT : ∀ j, s.T j = .null) : Run 4 mX1_be [.ref 566, .ref 513] (hq 113 u s) (.inl none) (hq 113 u (imgS s)) := by
  refine Run.of rfl (Nat.le_of_ble_eq_true rfl) rfl ?_
  refine AW.aload_n dX1_be_0 rfl rfl ?_
  refine AW.get ci1 0 (by decide) q190 dX1_be_1 w513 rfl rfl ?_
  refine AW.aload_n dX1_be_4 rfl rfl ?_
  refine AW.get ci1 0 (by decide) q190 dX1_be_5 w566 rfl rfl ?_
  refine AW.callS (Y := mX1_copy) (n := 2) (r_X1_copy (h2 := hq 113 u (cp1 s 514 567 6)) w514 (by decide) w567 (Nat.le_refl _) (by decide) y567) (by decide) (by decide) q220 q221 q139 q222 dX1_be_8 (by decide +kernel) rfl rfl (Nat.le_of_ble_eq_true rfl) rfl ?_
  refine AW.aload_n dX1_be_11 rfl rfl ?_
  refine AW.get ci1 1 (by decide) q192 dX1_be_12 w513 rfl rfl ?_
  refine AW.aload_n dX1_be_15 rfl rfl ?_
  refine AW.get ci1 1 (by decide) q192 dX1_be_16 w566 rfl rfl ?_
  refine AW.callS (Y := mX1_copy) (n := 2) (r_X1_copy (h2 := hq 113 u (cp1 (cp1 s 514 567 6) 515 568 145)) w515 (by decide) w568 (Nat.le_refl _) (by decide) y568) (by decide) (by decide) q220 q221 q139 q222 dX1_be_19 (by decide +kernel) rfl rfl (Nat.le_of_ble_eq_true rfl) rfl ?_
  refine AW.aload_n dX1_be_22 rfl rfl ?_
  refine AW.get ci1 2 (by decide) q194 dX1_be_23 w513 rfl rfl ?_
  refine AW.aload_n dX1_be_26 rfl rfl ?_
  refine AW.get ci1 2 (by decide) q194 dX1_be_27 w566 rfl rfl ?_
  refine AW.callS (Y := mX1_copy_2) (n := 2) (rq_X1_copy_2 (s := (cp1 (cp1 s 514 567 6) 515 568 145)) (n := 8) (w := 3) (s0 := 517) (d0 := 570) (fun _ => w516) (fun _ => w569) x517 x570 (by decide) (by decide) (by decide) (by decide)) (by decide) (by decide) q226 q227 q139 q228 dX1_be_30 (by decide +kernel) rfl rfl (Nat.le_of_ble_eq_true rfl) rfl ?_
  refine AW.aload_n dX1_be_33 rfl rfl ?_
  refine AW.get ci1 3 (by decide) q196 dX1_be_34 w513 rfl rfl ?_
  refine AW.aload_n dX1_be_37 rfl rfl ?_
  refine AW.get ci1 3 (by decide) q196 dX1_be_38 w566 rfl rfl ?_
  refine AW.callS (Y := mX1_copy_2) (n := 2) (rq_X1_copy_2 (s := (cpR (cp1 (cp1 s 514 567 6) 515 568 145) 517 570 3 8)) (n := 8) (w := 2) (s0 := 526) (d0 := 579) (fun _ => w525) (fun _ => w578) x526 x579 (by decide) (by decide) (by decide) (by decide)) (by decide) (by decide) q226 q227 q139 q228 dX1_be_41 (by decide +kernel) rfl rfl (Nat.le_of_ble_eq_true rfl) rfl ?_
  refine AW.aload_n dX1_be_44 rfl rfl ?_
  refine AW.get ci1 4 (by decide) q198 dX1_be_45 w513 rfl rfl ?_
  refine AW.aload_n dX1_be_48 rfl rfl ?_
  refine AW.get ci1 4 (by decide) q198 dX1_be_49 w566 rfl rfl ?_
  refine AW.callS (Y := mX1_copy_2) (n := 2) (rq_X1_copy_2 (s := (cpR (cpR (cp1 (cp1 s 514 567 6) 515 568 145) 517 570 3 8) 526 579 2 8)) (n := 30) (w := 145) (s0 := 535) (d0 := 588) (fun _ => w534) (fun _ => w587) x535 x588 (by decide) (by decide) (by decide) (by decide)) (by decide) (by decide) q226 q227 q139 q228 dX1_be_52 (by decide +kernel) rfl rfl (Nat.le_of_ble_eq_true rfl) rfl ?_
  refine AW.aload_n dX1_be_55 rfl rfl ?_
  refine AW.get ci1 5 (by decide) q200 dX1_be_56 w513 rfl rfl ?_
  refine AW.iconst (v := 0) dX1_be_59 (by decide) rfl ?_
  refine AW.aload_n dX1_be_60 rfl rfl ?_
  refine AW.get ci1 5 (by decide) q200 dX1_be_61 w566 rfl rfl ?_
  refine AW.iconst (v := 0) dX1_be_64 (by decide) rfl ?_
  refine AW.iconst (v := 4) dX1_be_65 (by decide) rfl ?_
  refine AW.copyT (Cn := "ShutDays$Text") dX1_be_66 q223 q225 q224 q140 w565 (by decide) w618 rfl (fun _ => rfl) (by decide) (by decide) (by decide) (by decide) (by decide) (fun j hj => Or.inl (hT _)) (by decide) (Nat.le_of_ble_eq_true rfl) (h3 := hq 113 u (txtI (cpR (cpR (cpR (cp1 (cp1 s 514 567 6) 515 568 145) 517 570 3 8) 526 579 2 8) 535 588 145 30))) y618 rfl ?_
  exact AW.vretE dX1_be_69 rfl rfl rfl
