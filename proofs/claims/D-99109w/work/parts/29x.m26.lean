/-! MODEL 26: weddings (printed by tools/m26.py) -/
set_option maxRecDepth 100000
/-- the state while rows of weddings are gone through -/
def sw (s : Sg) (M R : Nat → Int32) : Sg := (s.setA 638 M).setA 639 R
section SWW
variable {s : Sg} {M R : Nat → Int32}
theorem sw_638 : (sw s M R).A 638 = M := (setA_ne (by decide)).trans setA_at
theorem sw_639 : (sw s M R).A 639 = R := setA_at
theorem sw_id : sw s (s.A 638) (s.A 639) = s := by
  unfold sw
  rw [setA_id, setA_id]
theorem gw626 : (hp (sw s M R)).g 626 = some (ia 2308 (s.A 626)) := g626
theorem gw638 : (hp (sw s M R)).g 638 = some (ia 7 M) := by rw [g638, sw_638]
theorem gw639 : (hp (sw s M R)).g 639 = some (ia 7 R) := by rw [g639, sw_639]
theorem sw638 {f : Nat → Int32} : (hp (sw s M R)).set 638 (ia 7 f) = hp (sw s f R) := by
  rw [s638]
  unfold sw
  rw [setA_com (j := 639) (k := 638) (by decide), setA_setA]
theorem sw639 {f : Nat → Int32} : (hp (sw s M R)).set 639 (ia 7 f) = hp (sw s M f) := by
  rw [s639]
  unfold sw
  rw [setA_setA]
theorem r_wX2_get (h w : Int32) (hi : vp_in (12 + 8 * h + w) 2308) : Run 1 mX2_get [.ref 625, .int h, .int w] (hp (sw s M R)) (.inl (some (.int (gtM (s.A 626) h w)))) (hp (sw s M R)) := r_X2_get (s := sw s M R) h w hi
theorem r_wX2_isHere (hn : (vwM (s.A 626)).ok) (h : Int32) : Run 3 mX2_isHere [.ref 625, .int h] (hp (sw s M R)) (.inl (some (.int (b2i ((vwM (s.A 626)).her h))))) (hp (sw s M R)) := r_X2_isHere (s := sw s M R) hn h
end SWW
def matOk (n : Nat) (M : Nat → Int32) : Prop := ∀ k, k < n → M k = -1 ∨ ∃ j, j < n ∧ M k = nI j
def shF (v : Vw) (M : Nat → Int32) : Nat → Int32 := sumUp (fun k => if nI k < M k then bitsI (v.sh (nI k) &&& v.sh (M k)) else 0)
def nmF (v : Vw) (M : Nat → Int32) (e : Nat) : Int32 := srch (fun e => v.her (nI e) && decide (M e = -1)) nI (-1) (v.n - e) e
theorem srch_or {p : Nat → Bool} {f : Nat → Int32} {d : Int32} : ∀ (m k : Nat), srch p f d m k = d ∨ ∃ j, k ≤ j ∧ j < k + m ∧ srch p f d m k = f j ∧ p j = true
  | 0, _ => Or.inl rfl
  | m + 1, k => by
    unfold srch
    split
    · rename_i h; exact Or.inr ⟨k, Nat.le_refl _, by omega, rfl, h⟩
    · rcases srch_or (p := p) (f := f) (d := d) m (k + 1) with h | ⟨j, h1, h2, h3, h4⟩
      · exact Or.inl h
      · exact Or.inr ⟨j, by omega, by omega, h3, h4⟩
def freeM (M : Nat → Int32) (k : Nat) : Nat → Int32 := up (if M k = -1 then M else up M (cI (M k)) (-1)) k (-1)
def nrF (v : Vw) : Nat → (Nat → Int32) → Bool × (Nat → Int32)
  | 0, M => (false, M)
  | k + 1, M => if v.her (nI k) = false ∨ ¬ M k = -1 ∧ M k < nI k then nrF v k M
      else if nmF v (freeM M k) (if M k = -1 then k + 1 else cI (M k) + 1) = -1 then nrF v k (freeM M k)
      else (true, up (up (freeM M k) k (nmF v (freeM M k) (if M k = -1 then k + 1 else cI (M k) + 1))) (cI (nmF v (freeM M k) (if M k = -1 then k + 1 else cI (M k) + 1))) (nI k))
theorem matOk_up {n k : Nat} {M : Nat → Int32} {x : Int32} (h : matOk n M) (hx : x = -1 ∨ ∃ j, j < n ∧ x = nI j) : matOk n (up M k x) := fun i hi => by
  by_cases e : i = k
  · rw [e, up_eq]; exact hx
  · rw [up_ne e]; exact h i hi
theorem freeM_ok {n k : Nat} {M : Nat → Int32} (h : matOk n M) : matOk n (freeM M k) := by
  unfold freeM
  refine matOk_up ?_ (Or.inl rfl)
  split
  · exact h
  · exact matOk_up h (Or.inl rfl)
theorem nrF_ok {v : Vw} : ∀ (k : Nat) (M : Nat → Int32), k ≤ v.n → matOk v.n M → matOk v.n (nrF v k M).2
  | 0, _, _, h => h
  | k + 1, M, hk, h => by
    unfold nrF
    by_cases h1 : v.her (nI k) = false ∨ ¬ M k = -1 ∧ M k < nI k
    · rw [if_pos h1]; exact nrF_ok k M (by omega) h
    · rw [if_neg h1]
      by_cases h3 : nmF v (freeM M k) (if M k = -1 then k + 1 else cI (M k) + 1) = -1
      · rw [if_pos h3]; exact nrF_ok k _ (by omega) (freeM_ok h)
      · rw [if_neg h3]
        refine matOk_up (matOk_up (freeM_ok h) ?_) (Or.inr ⟨k, by omega, rfl⟩)
        generalize (if M k = -1 then k + 1 else cI (M k) + 1) = e at *
        rcases srch_or (p := fun e => v.her (nI e) && decide (freeM M k e = -1)) (f := nI) (d := -1) (v.n - e) e with q | ⟨j, q1, q2, q3, q4⟩
        · exact absurd q h3
        · exact Or.inr ⟨j, by omega, q3⟩
theorem r_X2_sharedNow {s : Sg} {M R : Nat → Int32} (hn : (vwM (s.A 626)).ok) (hM : matOk (vwM (s.A 626)).n M) : Run 2 mX2_sharedNow [.ref 625] (hp (sw s M R)) (.inl (some (.int (shF (vwM (s.A 626)) M (vwM (s.A 626)).n)))) (hp (sw s M R)) := by
  refine Run.of rfl (Nat.le_of_ble_eq_true rfl) rfl ?_
  refine AW.iconst (v := 0) dX2_sharedNow_0 (by decide) rfl ?_
  refine AW.istore_n (i := 1) dX2_sharedNow_1 rfl rfl (Nat.le_of_ble_eq_true rfl) rfl rfl ?_
  refine AW.iconst (v := 0) dX2_sharedNow_2 (by decide) rfl ?_
  refine AW.istore_n (i := 2) dX2_sharedNow_3 rfl rfl (Nat.le_of_ble_eq_true rfl) rfl rfl ?_
  refine loopUp (P := fun k => AW 2 mX2_sharedNow (hp (sw s M R)) 4 [some (.ref 625), some (.int (shF (vwM (s.A 626)) M k)), some (.int (nI k))] [] (.inl (some (.int (shF (vwM (s.A 626)) M (vwM (s.A 626)).n)))) (hp (sw s M R))) (vwM (s.A 626)).n ?_ ?_ 0 (by first | exact Nat.zero_le _ | omega)
  · refine AW.iload_n dX2_sharedNow_4 rfl rfl ?_
    refine AW.aload_n dX2_sharedNow_5 rfl rfl ?_
    refine AW.get ci2 0 (by decide) q1351 dX2_sharedNow_6 gM rfl rfl ?_
    refine AW.iconst (v := 0) dX2_sharedNow_9 (by decide) rfl ?_
    refine AW.iald dX2_sharedNow_10 gw626 (vp_in_iff.mpr (by decide)) (j := 0) (by decide) rfl ?_
    refine AW.icmp_ge (tgt := 58) dX2_sharedNow_11 (by decide) rfl (fun _ => ?_) (fun c_ => by first | exact absurd c_ (loop_end (by have := Vw.n7 hn; omega) (Vw.nN hn)) | exact absurd (loop_end (by have := Vw.n7 hn; omega) (Vw.nN hn)) c_ | exact absurd c_ (not_not_intro (loop_end (by have := Vw.n7 hn; omega) (Vw.nN hn))) | exact Bool.noConfusion (c_.symm.trans (loop_end (by have := Vw.n7 hn; omega) (Vw.nN hn))))
    refine AW.iload_n dX2_sharedNow_58 rfl rfl ?_
    exact AW.iretE dX2_sharedNow_59 rfl rfl rfl rfl
  · intro k hk ihk
    refine AW.iload_n dX2_sharedNow_4 rfl rfl ?_
    refine AW.aload_n dX2_sharedNow_5 rfl rfl ?_
    refine AW.get ci2 0 (by decide) q1351 dX2_sharedNow_6 gM rfl rfl ?_
    refine AW.iconst (v := 0) dX2_sharedNow_9 (by decide) rfl ?_
    refine AW.iald dX2_sharedNow_10 gw626 (vp_in_iff.mpr (by decide)) (j := 0) (by decide) rfl ?_
    refine AW.icmp_ge (tgt := 58) dX2_sharedNow_11 (by decide) rfl (fun c_ => by first | exact absurd c_ (loop_in hk (by have := Vw.n7 hn; omega) (Vw.nN hn)) | exact absurd (loop_in hk (by have := Vw.n7 hn; omega) (Vw.nN hn)) c_ | exact Bool.noConfusion (c_.symm.trans (loop_in hk (by have := Vw.n7 hn; omega) (Vw.nN hn)))) (fun _ => ?_)
    refine AW.iload_n dX2_sharedNow_14 rfl rfl ?_
    refine AW.aload_n dX2_sharedNow_15 rfl rfl ?_
    refine AW.get ci2 34 (by decide) q1385 dX2_sharedNow_16 gM rfl rfl ?_
    refine AW.iload_n dX2_sharedNow_19 rfl rfl ?_
    refine AW.iald dX2_sharedNow_20 gw638 (in0 k (by have := Vw.n7 hn; omega) (by decide)) (j := k) (cI_nI (by have := Vw.n7 hn; omega)) rfl ?_
    refine AW.iload_n dX2_sharedNow_21 rfl rfl ?_
    refine AW.icmp_le (tgt := 49) dX2_sharedNow_22 (by decide) rfl (fun c22 => ?_) (fun c22 => ?_)
    · refine AW.iconst (v := 0) dX2_sharedNow_49 (by decide) rfl ?_
      refine AW.iadd dX2_sharedNow_50 rfl ?_
      refine AW.istore_n (i := 1) dX2_sharedNow_51 rfl rfl (Nat.le_of_ble_eq_true rfl) rfl rfl ?_
      refine AW.iinc (v := 1) dX2_sharedNow_52 rfl (by decide) rfl rfl rfl ?_
      refine AW.goto (tgt := 4) dX2_sharedNow_55 (by decide) ?_
      have es : shF (vwM (s.A 626)) M (k + 1) = shF (vwM (s.A 626)) M k + (if nI k < M k then bitsI ((vwM (s.A 626)).sh (nI k) &&& (vwM (s.A 626)).sh (M k)) else 0) := rfl
      rw [if_neg (Int32.not_lt.mpr c22)] at es
      exact AW.ls (by rw [nI_succ k, es]; rfl) ihk
    · have hho : (vwM (s.A 626)).hou (M k) = true := by
        rcases hM k hk with q | ⟨j, q1, q2⟩
        · exfalso; rw [q, Int32.le_iff_toInt_le, nI_t (by have := Vw.n7 hn; omega), tm1] at c22; omega
        · rw [q2]; exact Vw.hou_k hn q1
      refine AW.aload_n dX2_sharedNow_25 rfl rfl ?_
      refine AW.iload_n dX2_sharedNow_26 rfl rfl ?_
      refine AW.iconst (v := 0) dX2_sharedNow_27 (by decide) rfl ?_
      refine AW.callV (Y := mX2_get) (n := 2) (r_wX2_get (nI k) 0 (in_get hn (Vw.hou_k hn hk) (by decide) (by decide))) (by decide) (by decide) rfl gM q1477 q1479 qs63 q141 q1480 dX2_sharedNow_28 (by decide +kernel) rfl rfl (Nat.le_of_ble_eq_true rfl) rfl ?_
      refine AW.aload_n dX2_sharedNow_31 rfl rfl ?_
      refine AW.aload_n dX2_sharedNow_32 rfl rfl ?_
      refine AW.get ci2 34 (by decide) q1385 dX2_sharedNow_33 gM rfl rfl ?_
      refine AW.iload_n dX2_sharedNow_36 rfl rfl ?_
      refine AW.iald dX2_sharedNow_37 gw638 (in0 k (by have := Vw.n7 hn; omega) (by decide)) (j := k) (cI_nI (by have := Vw.n7 hn; omega)) rfl ?_
      refine AW.iconst (v := 0) dX2_sharedNow_38 (by decide) rfl ?_
      refine AW.callV (Y := mX2_get) (n := 2) (r_wX2_get (M k) 0 (in_get hn hho (by decide) (by decide))) (by decide) (by decide) rfl gM q1477 q1479 qs63 q141 q1480 dX2_sharedNow_39 (by decide +kernel) rfl rfl (Nat.le_of_ble_eq_true rfl) rfl ?_
      refine AW.iand dX2_sharedNow_42 rfl ?_
      refine AW.callS (Y := mX2_bits) (n := 1) (r_X2_bits _) (by decide) (by decide) q1685 q1686 q141 q1687 dX2_sharedNow_43 (by decide +kernel) rfl rfl (Nat.le_of_ble_eq_true rfl) rfl ?_
      refine AW.goto (tgt := 50) dX2_sharedNow_46 (by decide) ?_
      refine AW.iadd dX2_sharedNow_50 rfl ?_
      refine AW.istore_n (i := 1) dX2_sharedNow_51 rfl rfl (Nat.le_of_ble_eq_true rfl) rfl rfl ?_
      refine AW.iinc (v := 1) dX2_sharedNow_52 rfl (by decide) rfl rfl rfl ?_
      refine AW.goto (tgt := 4) dX2_sharedNow_55 (by decide) ?_
      have es : shF (vwM (s.A 626)) M (k + 1) = shF (vwM (s.A 626)) M k + (if nI k < M k then bitsI ((vwM (s.A 626)).sh (nI k) &&& (vwM (s.A 626)).sh (M k)) else 0) := rfl
      rw [if_pos (Int32.not_le.mp c22), vwM_sh (Vw.hou_k hn hk), vwM_sh hho] at es
      exact AW.ls (by rw [nI_succ k, es]; rfl) ihk
theorem r_X2_nextMate {s : Sg} {M R : Nat → Int32} (hn : (vwM (s.A 626)).ok) (h had : Int32) (e0 : Nat) (he : (if had = -1 then h + 1 else had + 1) = nI e0) (hle : e0 ≤ (vwM (s.A 626)).n) : Run 4 mX2_nextMate [.ref 625, .int h, .int had] (hp (sw s M R)) (.inl (some (.int (nmF (vwM (s.A 626)) M e0)))) (hp (sw s M R)) := by
  refine Run.of rfl (Nat.le_of_ble_eq_true rfl) rfl ?_
  refine AW.iload_n dX2_nextMate_0 rfl rfl ?_
  refine AW.iconst (v := (-1)) dX2_nextMate_1 (by decide) rfl ?_
  refine AW.icmp_ne (tgt := 11) dX2_nextMate_2 (by decide) rfl (fun c2 => ?_) (fun c2 => ?_)
  · refine AW.iload_n dX2_nextMate_11 rfl rfl ?_
    refine AW.iconst (v := 1) dX2_nextMate_12 (by decide) rfl ?_
    refine AW.iadd dX2_nextMate_13 rfl ?_
    refine AW.st (st' := [.int (nI e0)]) (by first | (rw [← he, if_pos c2]; done) | (rw [← he, if_neg c2]; done)) ?_
    refine AW.istore_n (i := 3) dX2_nextMate_14 rfl rfl (Nat.le_of_ble_eq_true rfl) rfl rfl ?_
    generalize hr : nmF (vwM (s.A 626)) M e0 = r
    refine loopUp (P := fun k => nmF (vwM (s.A 626)) M k = r → AW 4 mX2_nextMate (hp (sw s M R)) 15 [some (.ref 625), some (.int (h)), some (.int (had)), some (.int (nI k))] [] (.inl (some (.int r))) (hp (sw s M R))) (vwM (s.A 626)).n ?_ ?_ e0 hle hr
    · intro hr
      refine AW.iload_n dX2_nextMate_15 rfl rfl ?_
      refine AW.aload_n dX2_nextMate_16 rfl rfl ?_
      refine AW.get ci2 0 (by decide) q1351 dX2_nextMate_17 gM rfl rfl ?_
      refine AW.iconst (v := 0) dX2_nextMate_20 (by decide) rfl ?_
      refine AW.iald dX2_nextMate_21 gw626 (vp_in_iff.mpr (by decide)) (j := 0) (by decide) rfl ?_
      refine AW.icmp_ge (tgt := 49) dX2_nextMate_22 (by decide) rfl (fun _ => ?_) (fun c_ => by first | exact absurd c_ (loop_end (by have := Vw.n7 hn; omega) (Vw.nN hn)) | exact absurd (loop_end (by have := Vw.n7 hn; omega) (Vw.nN hn)) c_ | exact absurd c_ (not_not_intro (loop_end (by have := Vw.n7 hn; omega) (Vw.nN hn))) | exact Bool.noConfusion (c_.symm.trans (loop_end (by have := Vw.n7 hn; omega) (Vw.nN hn))))
      refine AW.iload_n dX2_nextMate_49 rfl rfl ?_
      refine AW.aload_n dX2_nextMate_50 rfl rfl ?_
      refine AW.get ci2 0 (by decide) q1351 dX2_nextMate_51 gM rfl rfl ?_
      refine AW.iconst (v := 0) dX2_nextMate_54 (by decide) rfl ?_
      refine AW.iald dX2_nextMate_55 gw626 (vp_in_iff.mpr (by decide)) (j := 0) (by decide) rfl ?_
      refine AW.icmp_ge (tgt := 63) dX2_nextMate_56 (by decide) rfl (fun _ => ?_) (fun c_ => by first | exact absurd c_ (loop_end (by have := Vw.n7 hn; omega) (Vw.nN hn)) | exact absurd (loop_end (by have := Vw.n7 hn; omega) (Vw.nN hn)) c_ | exact absurd c_ (not_not_intro (loop_end (by have := Vw.n7 hn; omega) (Vw.nN hn))) | exact Bool.noConfusion (c_.symm.trans (loop_end (by have := Vw.n7 hn; omega) (Vw.nN hn))))
      refine AW.iconst (v := (-1)) dX2_nextMate_63 (by decide) rfl ?_
      exact AW.iretE dX2_nextMate_64 rfl rfl (srch_e.symm.trans hr) rfl
    · intro k hk ihk
      intro hr
      refine AW.iload_n dX2_nextMate_15 rfl rfl ?_
      refine AW.aload_n dX2_nextMate_16 rfl rfl ?_
      refine AW.get ci2 0 (by decide) q1351 dX2_nextMate_17 gM rfl rfl ?_
      refine AW.iconst (v := 0) dX2_nextMate_20 (by decide) rfl ?_
      refine AW.iald dX2_nextMate_21 gw626 (vp_in_iff.mpr (by decide)) (j := 0) (by decide) rfl ?_
      refine AW.icmp_ge (tgt := 49) dX2_nextMate_22 (by decide) rfl (fun c_ => by first | exact absurd c_ (loop_in hk (by have := Vw.n7 hn; omega) (Vw.nN hn)) | exact absurd (loop_in hk (by have := Vw.n7 hn; omega) (Vw.nN hn)) c_ | exact Bool.noConfusion (c_.symm.trans (loop_in hk (by have := Vw.n7 hn; omega) (Vw.nN hn)))) (fun _ => ?_)
      refine AW.aload_n dX2_nextMate_25 rfl rfl ?_
      refine AW.iload_n dX2_nextMate_26 rfl rfl ?_
      refine AW.callV (Y := mX2_isHere) (n := 1) (r_wX2_isHere hn _) (by decide) (by decide) rfl gM q1649 q1651 qs91 q141 q1652 dX2_nextMate_27 (by decide +kernel) rfl rfl (Nat.le_of_ble_eq_true rfl) rfl ?_
      refine AW.if_eqB (tgt := 43) dX2_nextMate_30 (by decide) rfl (fun c30 => ?_) (fun c30 => ?_)
      · refine AW.iinc (v := 1) dX2_nextMate_43 rfl (by decide) rfl rfl rfl ?_
        refine AW.goto (tgt := 15) dX2_nextMate_46 (by decide) ?_
        exact AW.ls (by rw [nI_succ k]; rfl) (ihk ((srch_f hk (by rw [c30]; rfl)).symm.trans hr))
      · refine AW.aload_n dX2_nextMate_33 rfl rfl ?_
        refine AW.get ci2 34 (by decide) q1385 dX2_nextMate_34 gM rfl rfl ?_
        refine AW.iload_n dX2_nextMate_37 rfl rfl ?_
        refine AW.iald dX2_nextMate_38 gw638 (in0 k (by have := Vw.n7 hn; omega) (by decide)) (j := k) (cI_nI (by have := Vw.n7 hn; omega)) rfl ?_
        refine AW.iconst (v := (-1)) dX2_nextMate_39 (by decide) rfl ?_
        refine AW.icmp_eq (tgt := 49) dX2_nextMate_40 (by decide) rfl (fun c40 => ?_) (fun c40 => ?_)
        · refine AW.iload_n dX2_nextMate_49 rfl rfl ?_
          refine AW.aload_n dX2_nextMate_50 rfl rfl ?_
          refine AW.get ci2 0 (by decide) q1351 dX2_nextMate_51 gM rfl rfl ?_
          refine AW.iconst (v := 0) dX2_nextMate_54 (by decide) rfl ?_
          refine AW.iald dX2_nextMate_55 gw626 (vp_in_iff.mpr (by decide)) (j := 0) (by decide) rfl ?_
          refine AW.icmp_ge (tgt := 63) dX2_nextMate_56 (by decide) rfl (fun c_ => by first | exact absurd c_ (loop_in hk (by have := Vw.n7 hn; omega) (Vw.nN hn)) | exact absurd (loop_in hk (by have := Vw.n7 hn; omega) (Vw.nN hn)) c_ | exact Bool.noConfusion (c_.symm.trans (loop_in hk (by have := Vw.n7 hn; omega) (Vw.nN hn)))) (fun _ => ?_)
          refine AW.iload_n dX2_nextMate_59 rfl rfl ?_
          refine AW.goto (tgt := 64) dX2_nextMate_60 (by decide) ?_
          exact AW.iretE dX2_nextMate_64 rfl rfl ((srch_t hk (by rw [c30, decide_eq_true c40]; rfl)).symm.trans hr) rfl
        · refine AW.iinc (v := 1) dX2_nextMate_43 rfl (by decide) rfl rfl rfl ?_
          refine AW.goto (tgt := 15) dX2_nextMate_46 (by decide) ?_
          exact AW.ls (by rw [nI_succ k]; rfl) (ihk ((srch_f hk (by rw [c30, decide_eq_false c40]; rfl)).symm.trans hr))
  · refine AW.iload_n dX2_nextMate_5 rfl rfl ?_
    refine AW.iconst (v := 1) dX2_nextMate_6 (by decide) rfl ?_
    refine AW.iadd dX2_nextMate_7 rfl ?_
    refine AW.goto (tgt := 14) dX2_nextMate_8 (by decide) ?_
    refine AW.st (st' := [.int (nI e0)]) (by first | (rw [← he, if_pos c2]; done) | (rw [← he, if_neg c2]; done)) ?_
    refine AW.istore_n (i := 3) dX2_nextMate_14 rfl rfl (Nat.le_of_ble_eq_true rfl) rfl rfl ?_
    generalize hr : nmF (vwM (s.A 626)) M e0 = r
    refine loopUp (P := fun k => nmF (vwM (s.A 626)) M k = r → AW 4 mX2_nextMate (hp (sw s M R)) 15 [some (.ref 625), some (.int (h)), some (.int (had)), some (.int (nI k))] [] (.inl (some (.int r))) (hp (sw s M R))) (vwM (s.A 626)).n ?_ ?_ e0 hle hr
    · intro hr
      refine AW.iload_n dX2_nextMate_15 rfl rfl ?_
      refine AW.aload_n dX2_nextMate_16 rfl rfl ?_
      refine AW.get ci2 0 (by decide) q1351 dX2_nextMate_17 gM rfl rfl ?_
      refine AW.iconst (v := 0) dX2_nextMate_20 (by decide) rfl ?_
      refine AW.iald dX2_nextMate_21 gw626 (vp_in_iff.mpr (by decide)) (j := 0) (by decide) rfl ?_
      refine AW.icmp_ge (tgt := 49) dX2_nextMate_22 (by decide) rfl (fun _ => ?_) (fun c_ => by first | exact absurd c_ (loop_end (by have := Vw.n7 hn; omega) (Vw.nN hn)) | exact absurd (loop_end (by have := Vw.n7 hn; omega) (Vw.nN hn)) c_ | exact absurd c_ (not_not_intro (loop_end (by have := Vw.n7 hn; omega) (Vw.nN hn))) | exact Bool.noConfusion (c_.symm.trans (loop_end (by have := Vw.n7 hn; omega) (Vw.nN hn))))
      refine AW.iload_n dX2_nextMate_49 rfl rfl ?_
      refine AW.aload_n dX2_nextMate_50 rfl rfl ?_
      refine AW.get ci2 0 (by decide) q1351 dX2_nextMate_51 gM rfl rfl ?_
      refine AW.iconst (v := 0) dX2_nextMate_54 (by decide) rfl ?_
      refine AW.iald dX2_nextMate_55 gw626 (vp_in_iff.mpr (by decide)) (j := 0) (by decide) rfl ?_
      refine AW.icmp_ge (tgt := 63) dX2_nextMate_56 (by decide) rfl (fun _ => ?_) (fun c_ => by first | exact absurd c_ (loop_end (by have := Vw.n7 hn; omega) (Vw.nN hn)) | exact absurd (loop_end (by have := Vw.n7 hn; omega) (Vw.nN hn)) c_ | exact absurd c_ (not_not_intro (loop_end (by have := Vw.n7 hn; omega) (Vw.nN hn))) | exact Bool.noConfusion (c_.symm.trans (loop_end (by have := Vw.n7 hn; omega) (Vw.nN hn))))
      refine AW.iconst (v := (-1)) dX2_nextMate_63 (by decide) rfl ?_
      exact AW.iretE dX2_nextMate_64 rfl rfl (srch_e.symm.trans hr) rfl
    · intro k hk ihk
      intro hr
      refine AW.iload_n dX2_nextMate_15 rfl rfl ?_
      refine AW.aload_n dX2_nextMate_16 rfl rfl ?_
      refine AW.get ci2 0 (by decide) q1351 dX2_nextMate_17 gM rfl rfl ?_
      refine AW.iconst (v := 0) dX2_nextMate_20 (by decide) rfl ?_
      refine AW.iald dX2_nextMate_21 gw626 (vp_in_iff.mpr (by decide)) (j := 0) (by decide) rfl ?_
      refine AW.icmp_ge (tgt := 49) dX2_nextMate_22 (by decide) rfl (fun c_ => by first | exact absurd c_ (loop_in hk (by have := Vw.n7 hn; omega) (Vw.nN hn)) | exact absurd (loop_in hk (by have := Vw.n7 hn; omega) (Vw.nN hn)) c_ | exact Bool.noConfusion (c_.symm.trans (loop_in hk (by have := Vw.n7 hn; omega) (Vw.nN hn)))) (fun _ => ?_)
      refine AW.aload_n dX2_nextMate_25 rfl rfl ?_
      refine AW.iload_n dX2_nextMate_26 rfl rfl ?_
      refine AW.callV (Y := mX2_isHere) (n := 1) (r_wX2_isHere hn _) (by decide) (by decide) rfl gM q1649 q1651 qs91 q141 q1652 dX2_nextMate_27 (by decide +kernel) rfl rfl (Nat.le_of_ble_eq_true rfl) rfl ?_
      refine AW.if_eqB (tgt := 43) dX2_nextMate_30 (by decide) rfl (fun c30 => ?_) (fun c30 => ?_)
      · refine AW.iinc (v := 1) dX2_nextMate_43 rfl (by decide) rfl rfl rfl ?_
        refine AW.goto (tgt := 15) dX2_nextMate_46 (by decide) ?_
        exact AW.ls (by rw [nI_succ k]; rfl) (ihk ((srch_f hk (by rw [c30]; rfl)).symm.trans hr))
      · refine AW.aload_n dX2_nextMate_33 rfl rfl ?_
        refine AW.get ci2 34 (by decide) q1385 dX2_nextMate_34 gM rfl rfl ?_
        refine AW.iload_n dX2_nextMate_37 rfl rfl ?_
        refine AW.iald dX2_nextMate_38 gw638 (in0 k (by have := Vw.n7 hn; omega) (by decide)) (j := k) (cI_nI (by have := Vw.n7 hn; omega)) rfl ?_
        refine AW.iconst (v := (-1)) dX2_nextMate_39 (by decide) rfl ?_
        refine AW.icmp_eq (tgt := 49) dX2_nextMate_40 (by decide) rfl (fun c40 => ?_) (fun c40 => ?_)
        · refine AW.iload_n dX2_nextMate_49 rfl rfl ?_
          refine AW.aload_n dX2_nextMate_50 rfl rfl ?_
          refine AW.get ci2 0 (by decide) q1351 dX2_nextMate_51 gM rfl rfl ?_
          refine AW.iconst (v := 0) dX2_nextMate_54 (by decide) rfl ?_
          refine AW.iald dX2_nextMate_55 gw626 (vp_in_iff.mpr (by decide)) (j := 0) (by decide) rfl ?_
          refine AW.icmp_ge (tgt := 63) dX2_nextMate_56 (by decide) rfl (fun c_ => by first | exact absurd c_ (loop_in hk (by have := Vw.n7 hn; omega) (Vw.nN hn)) | exact absurd (loop_in hk (by have := Vw.n7 hn; omega) (Vw.nN hn)) c_ | exact Bool.noConfusion (c_.symm.trans (loop_in hk (by have := Vw.n7 hn; omega) (Vw.nN hn)))) (fun _ => ?_)
          refine AW.iload_n dX2_nextMate_59 rfl rfl ?_
          refine AW.goto (tgt := 64) dX2_nextMate_60 (by decide) ?_
          exact AW.iretE dX2_nextMate_64 rfl rfl ((srch_t hk (by rw [c30, decide_eq_true c40]; rfl)).symm.trans hr) rfl
        · refine AW.iinc (v := 1) dX2_nextMate_43 rfl (by decide) rfl rfl rfl ?_
          refine AW.goto (tgt := 15) dX2_nextMate_46 (by decide) ?_
          exact AW.ls (by rw [nI_succ k]; rfl) (ihk ((srch_f hk (by rw [c30, decide_eq_false c40]; rfl)).symm.trans hr))
theorem r_X2_nextRow {s : Sg} {M R : Nat → Int32} (hn : (vwM (s.A 626)).ok) (hM : matOk (vwM (s.A 626)).n M) : Run 5 mX2_nextRow [.ref 625] (hp (sw s M R)) (.inl (some (.int (b2i (nrF (vwM (s.A 626)) (vwM (s.A 626)).n M).1)))) (hp (sw s (nrF (vwM (s.A 626)) (vwM (s.A 626)).n M).2 R)) := by
  have hnn : (vwM (s.A 626)).n ≤ 7 := Vw.n7 hn
  have hN : nI (vwM (s.A 626)).n = s.A 626 0 := Vw.nN hn
  generalize hR0 : nrF (vwM (s.A 626)) (vwM (s.A 626)).n M = RR
  generalize hne : (vwM (s.A 626)).n = n at *
  refine Run.of rfl (Nat.le_of_ble_eq_true rfl) rfl ?_
  refine AW.aload_n dX2_nextRow_0 rfl rfl ?_
  refine AW.get ci2 0 (by decide) q1351 dX2_nextRow_1 gM rfl rfl ?_
  refine AW.iconst (v := 0) dX2_nextRow_4 (by decide) rfl ?_
  refine AW.iald dX2_nextRow_5 gw626 (vp_in_iff.mpr (by decide)) (j := 0) (by decide) rfl ?_
  refine AW.iconst (v := 1) dX2_nextRow_6 (by decide) rfl ?_
  refine AW.isub dX2_nextRow_7 rfl ?_
  refine AW.istore_n (i := 1) dX2_nextRow_8 rfl rfl (Nat.le_of_ble_eq_true rfl) rfl rfl ?_
  refine AW.ls (ls' := [some (.ref 625), some (.int (nI n - 1 - nI 0)), none, none]) (by rw [show nI 0 = 0 from rfl, Int32.sub_zero, hN]; rfl) ?_
  refine loopUp (P := fun k => ∀ M1, matOk n M1 → nrF (vwM (s.A 626)) (n - k) M1 = RR → AW 5 mX2_nextRow (hp (sw s M1 R)) 9 [some (.ref 625), some (.int (nI n - 1 - nI k)), none, none] [] (.inl (some (.int (b2i RR.1)))) (hp (sw s RR.2 R))) n ?_ ?_ 0 (by first | exact Nat.zero_le _ | omega) M hM hR0
  · intro M1 hM1 hR
    rw [Nat.sub_self] at hR
    refine AW.iload_n dX2_nextRow_9 rfl rfl ?_
    refine AW.if_lt (tgt := 107) dX2_nextRow_10 (by decide) rfl (fun _ => ?_) (fun c_ => by first | exact absurd c_ (by rw [i_sub1, Int32.lt_iff_toInt_lt]; decide) | exact absurd (by rw [i_sub1, Int32.lt_iff_toInt_lt]; decide) c_ | exact absurd c_ (not_not_intro (by rw [i_sub1, Int32.lt_iff_toInt_lt]; decide)) | exact Bool.noConfusion (c_.symm.trans (by rw [i_sub1, Int32.lt_iff_toInt_lt]; decide)))
    refine AW.iconst (v := 0) dX2_nextRow_107 (by decide) rfl ?_
    have hR2 : (false, M1) = RR := hR
    rw [← hR2]
    exact AW.bretE dX2_nextRow_108 rfl rfl rfl rfl
  · intro k hk ihk
    intro M1 hM1 hR
    have hk1 : nI n - 1 - nI k = nI (n - 1 - k) := by rw [nI_s1 (by omega), nI_subN (by omega)]
    have hk9 : nI n - 1 - nI k + (-1) = nI n - 1 - nI (k + 1) := by rw [nI_succ k, Int32.sub_eq_add_neg, Int32.sub_eq_add_neg, Int32.sub_eq_add_neg (b := nI k + 1), Int32.neg_add, Int32.sub_eq_add_neg, Int32.add_assoc (nI n + -1)]
    have hlt : (n - 1 - k) < n := by omega
    refine AW.ls (ls' := [some (.ref 625), some (.int (nI (n - 1 - k))), none, none]) (by rw [hk1]) ?_
    rw [hk1] at hk9
    have hs1 : nrF (vwM (s.A 626)) (n - k) M1 = if (vwM (s.A 626)).her (nI (n - 1 - k)) = false ∨ ¬ M1 (n - 1 - k) = -1 ∧ M1 (n - 1 - k) < nI (n - 1 - k) then nrF (vwM (s.A 626)) (n - (k + 1)) M1 else if nmF (vwM (s.A 626)) (freeM M1 (n - 1 - k)) (if M1 (n - 1 - k) = -1 then (n - 1 - k) + 1 else cI (M1 (n - 1 - k)) + 1) = -1 then nrF (vwM (s.A 626)) (n - (k + 1)) (freeM M1 (n - 1 - k)) else (true, up (up (freeM M1 (n - 1 - k)) (n - 1 - k) (nmF (vwM (s.A 626)) (freeM M1 (n - 1 - k)) (if M1 (n - 1 - k) = -1 then (n - 1 - k) + 1 else cI (M1 (n - 1 - k)) + 1))) (cI (nmF (vwM (s.A 626)) (freeM M1 (n - 1 - k)) (if M1 (n - 1 - k) = -1 then (n - 1 - k) + 1 else cI (M1 (n - 1 - k)) + 1))) (nI (n - 1 - k))) := by
      rw [show n - k = (n - (k + 1)) + 1 by omega, show n - 1 - k = n - (k + 1) by omega]
      rfl
    have hE1 : (if M1 (n - 1 - k) = -1 then (n - 1 - k) + 1 else cI (M1 (n - 1 - k)) + 1) ≤ (vwM (s.A 626)).n := by
      rw [hne]
      split
      · omega
      · rename_i q
        rcases hM1 _ hlt with q0 | ⟨j, q1, q2⟩
        · exact absurd q0 q
        · rw [q2, cI_nI (by omega)]; omega
    have hE0 : (if M1 (n - 1 - k) = -1 then nI (n - 1 - k) + 1 else M1 (n - 1 - k) + 1) = nI (if M1 (n - 1 - k) = -1 then (n - 1 - k) + 1 else cI (M1 (n - 1 - k)) + 1) := by
      split
      · rw [nI_succ]
      · rename_i q
        rcases hM1 _ hlt with q0 | ⟨j, q1, q2⟩
        · exact absurd q0 q
        · rw [q2, cI_nI (by omega), nI_succ]
    have hin98 : ¬ nmF (vwM (s.A 626)) (freeM M1 (n - 1 - k)) (if M1 (n - 1 - k) = -1 then (n - 1 - k) + 1 else cI (M1 (n - 1 - k)) + 1) = -1 → vp_in (nmF (vwM (s.A 626)) (freeM M1 (n - 1 - k)) (if M1 (n - 1 - k) = -1 then (n - 1 - k) + 1 else cI (M1 (n - 1 - k)) + 1)) 7 := fun z => by
      rcases srch_or (p := fun e => (vwM (s.A 626)).her (nI e) && decide ((freeM M1 (n - 1 - k)) e = -1)) (f := nI) (d := -1) ((vwM (s.A 626)).n - (if M1 (n - 1 - k) = -1 then (n - 1 - k) + 1 else cI (M1 (n - 1 - k)) + 1)) (if M1 (n - 1 - k) = -1 then (n - 1 - k) + 1 else cI (M1 (n - 1 - k)) + 1) with q | ⟨j, q1, q2, q3, q4⟩
      · exact absurd q z
      · unfold nmF; rw [q3]; exact in0 j (by rw [hne] at q2 hE1; omega) (by decide)
    refine AW.iload_n dX2_nextRow_9 rfl rfl ?_
    refine AW.if_lt (tgt := 107) dX2_nextRow_10 (by decide) rfl (fun c_ => by first | exact absurd c_ (nI_pos (by omega)) | exact absurd (nI_pos (by omega)) c_ | exact Bool.noConfusion (c_.symm.trans (nI_pos (by omega)))) (fun _ => ?_)
    refine AW.aload_n dX2_nextRow_13 rfl rfl ?_
    refine AW.iload_n dX2_nextRow_14 rfl rfl ?_
    refine AW.callV (Y := mX2_isHere) (n := 1) (r_wX2_isHere hn _) (by decide) (by decide) rfl gM q1649 q1651 qs91 q141 q1652 dX2_nextRow_15 (by decide +kernel) rfl rfl (Nat.le_of_ble_eq_true rfl) rfl ?_
    refine AW.if_eqB (tgt := 101) dX2_nextRow_18 (by decide) rfl (fun c18 => ?_) (fun c18 => ?_)
    · refine AW.iinc (v := (-1)) dX2_nextRow_101 rfl (by decide) rfl rfl rfl ?_
      refine AW.goto (tgt := 9) dX2_nextRow_104 (by decide) ?_
      rw [hs1] at hR
      rw [if_pos (Or.inl c18)] at hR
      exact AW.ls (by rw [hk9]; rfl) (ihk _ hM1 hR)
    · refine AW.aload_n dX2_nextRow_21 rfl rfl ?_
      refine AW.get ci2 34 (by decide) q1385 dX2_nextRow_22 gM rfl rfl ?_
      refine AW.iload_n dX2_nextRow_25 rfl rfl ?_
      refine AW.iald dX2_nextRow_26 gw638 (in0 _ (by omega) (by decide)) (j := (n - 1 - k)) (cI_nI (by omega)) rfl ?_
      refine AW.iconst (v := (-1)) dX2_nextRow_27 (by decide) rfl ?_
      refine AW.icmp_eq (tgt := 44) dX2_nextRow_28 (by decide) rfl (fun c28 => ?_) (fun c28 => ?_)
      · refine AW.aload_n dX2_nextRow_44 rfl rfl ?_
        refine AW.get ci2 34 (by decide) q1385 dX2_nextRow_45 gM rfl rfl ?_
        refine AW.iload_n dX2_nextRow_48 rfl rfl ?_
        refine AW.iald dX2_nextRow_49 gw638 (in0 _ (by omega) (by decide)) (j := (n - 1 - k)) (cI_nI (by omega)) rfl ?_
        refine AW.istore_n (i := 2) dX2_nextRow_50 rfl rfl (Nat.le_of_ble_eq_true rfl) rfl rfl ?_
        refine AW.iload_n dX2_nextRow_51 rfl rfl ?_
        refine AW.iconst (v := (-1)) dX2_nextRow_52 (by decide) rfl ?_
        refine AW.icmp_eq (tgt := 63) dX2_nextRow_53 (by decide) rfl (fun c53 => ?_) (fun c53 => ?_)
        · refine AW.aload_n dX2_nextRow_63 rfl rfl ?_
          refine AW.get ci2 34 (by decide) q1385 dX2_nextRow_64 gM rfl rfl ?_
          refine AW.iload_n dX2_nextRow_67 rfl rfl ?_
          refine AW.iconst (v := (-1)) dX2_nextRow_68 (by decide) rfl ?_
          refine AW.iast dX2_nextRow_69 (by decide) gw638 (in0 _ (by omega) (by decide)) (j := (n - 1 - k)) (cI_nI (by omega)) sw638 rfl ?_
          have hcond : ¬ ((vwM (s.A 626)).her (nI (n - 1 - k)) = false ∨ ¬ M1 (n - 1 - k) = -1 ∧ M1 (n - 1 - k) < nI (n - 1 - k)) := fun z => by
            rcases z with z | ⟨z1, z2⟩
            · rw [c18] at z; exact absurd z (by decide)
            · exact z1 c28
          refine AW.hp (h2 := hp (sw s (freeM M1 (n - 1 - k)) R)) (by unfold freeM; rw [if_pos c53]) ?_
          refine AW.aload_n dX2_nextRow_70 rfl rfl ?_
          refine AW.iload_n dX2_nextRow_71 rfl rfl ?_
          refine AW.iload_n dX2_nextRow_72 rfl rfl ?_
          refine AW.callV (Y := mX2_nextMate) (n := 2) (r_X2_nextMate (M := (freeM M1 (n - 1 - k))) hn _ _ (if M1 (n - 1 - k) = -1 then (n - 1 - k) + 1 else cI (M1 (n - 1 - k)) + 1) hE0 hE1) (by decide) (by decide) rfl gM q1974 q1976 qs134 q141 q1977 dX2_nextRow_73 (by decide +kernel) rfl rfl (Nat.le_of_ble_eq_true rfl) rfl ?_
          refine AW.istore_n (i := 3) dX2_nextRow_76 rfl rfl (Nat.le_of_ble_eq_true rfl) rfl rfl ?_
          refine AW.iload_n dX2_nextRow_77 rfl rfl ?_
          refine AW.iconst (v := (-1)) dX2_nextRow_78 (by decide) rfl ?_
          refine AW.icmp_ne (tgt := 85) dX2_nextRow_79 (by decide) rfl (fun c79 => ?_) (fun c79 => ?_)
          · refine AW.aload_n dX2_nextRow_85 rfl rfl ?_
            refine AW.get ci2 34 (by decide) q1385 dX2_nextRow_86 gM rfl rfl ?_
            refine AW.iload_n dX2_nextRow_89 rfl rfl ?_
            refine AW.iload_n dX2_nextRow_90 rfl rfl ?_
            refine AW.iast dX2_nextRow_91 (by decide) gw638 (in0 _ (by omega) (by decide)) (j := (n - 1 - k)) (cI_nI (by omega)) sw638 rfl ?_
            refine AW.aload_n dX2_nextRow_92 rfl rfl ?_
            refine AW.get ci2 34 (by decide) q1385 dX2_nextRow_93 gM rfl rfl ?_
            refine AW.iload_n dX2_nextRow_96 rfl rfl ?_
            refine AW.iload_n dX2_nextRow_97 rfl rfl ?_
            refine AW.iast dX2_nextRow_98 (by decide) gw638 (hin98 c79) (j := cI (nmF (vwM (s.A 626)) (freeM M1 (n - 1 - k)) (if M1 (n - 1 - k) = -1 then (n - 1 - k) + 1 else cI (M1 (n - 1 - k)) + 1))) rfl sw638 rfl ?_
            refine AW.iconst (v := 1) dX2_nextRow_99 (by decide) rfl ?_
            rw [hs1] at hR
            rw [if_neg hcond, if_neg c79] at hR
            rw [← hR]
            exact AW.bretE dX2_nextRow_100 rfl rfl rfl rfl
          · refine AW.goto (tgt := 101) dX2_nextRow_82 (by decide) ?_
            refine AW.iinc (v := (-1)) dX2_nextRow_101 rfl (by decide) rfl rfl rfl ?_
            refine AW.goto (tgt := 9) dX2_nextRow_104 (by decide) ?_
            rw [hs1] at hR
            rw [if_neg hcond] at hR
            rw [if_pos c79] at hR
            exact AW.fg 2 rfl (AW.fg 3 rfl (AW.ls (by rw [hk9]; rfl) (ihk _ (freeM_ok hM1) hR)))
        · have hin62 : vp_in (M1 (n - 1 - k)) 7 := by
            rcases hM1 _ hlt with q | ⟨j, q1, q2⟩
            · exact absurd q c53
            · rw [q2]; exact in0 j (by omega) (by decide)
          refine AW.aload_n dX2_nextRow_56 rfl rfl ?_
          refine AW.get ci2 34 (by decide) q1385 dX2_nextRow_57 gM rfl rfl ?_
          refine AW.iload_n dX2_nextRow_60 rfl rfl ?_
          refine AW.iconst (v := (-1)) dX2_nextRow_61 (by decide) rfl ?_
          refine AW.iast dX2_nextRow_62 (by decide) gw638 hin62 (j := cI (M1 (n - 1 - k))) rfl sw638 rfl ?_
          refine AW.aload_n dX2_nextRow_63 rfl rfl ?_
          refine AW.get ci2 34 (by decide) q1385 dX2_nextRow_64 gM rfl rfl ?_
          refine AW.iload_n dX2_nextRow_67 rfl rfl ?_
          refine AW.iconst (v := (-1)) dX2_nextRow_68 (by decide) rfl ?_
          refine AW.iast dX2_nextRow_69 (by decide) gw638 (in0 _ (by omega) (by decide)) (j := (n - 1 - k)) (cI_nI (by omega)) sw638 rfl ?_
          have hcond : ¬ ((vwM (s.A 626)).her (nI (n - 1 - k)) = false ∨ ¬ M1 (n - 1 - k) = -1 ∧ M1 (n - 1 - k) < nI (n - 1 - k)) := fun z => by
            rcases z with z | ⟨z1, z2⟩
            · rw [c18] at z; exact absurd z (by decide)
            · exact z1 c28
          refine AW.hp (h2 := hp (sw s (freeM M1 (n - 1 - k)) R)) (by unfold freeM; rw [if_neg c53]) ?_
          refine AW.aload_n dX2_nextRow_70 rfl rfl ?_
          refine AW.iload_n dX2_nextRow_71 rfl rfl ?_
          refine AW.iload_n dX2_nextRow_72 rfl rfl ?_
          refine AW.callV (Y := mX2_nextMate) (n := 2) (r_X2_nextMate (M := (freeM M1 (n - 1 - k))) hn _ _ (if M1 (n - 1 - k) = -1 then (n - 1 - k) + 1 else cI (M1 (n - 1 - k)) + 1) hE0 hE1) (by decide) (by decide) rfl gM q1974 q1976 qs134 q141 q1977 dX2_nextRow_73 (by decide +kernel) rfl rfl (Nat.le_of_ble_eq_true rfl) rfl ?_
          refine AW.istore_n (i := 3) dX2_nextRow_76 rfl rfl (Nat.le_of_ble_eq_true rfl) rfl rfl ?_
          refine AW.iload_n dX2_nextRow_77 rfl rfl ?_
          refine AW.iconst (v := (-1)) dX2_nextRow_78 (by decide) rfl ?_
          refine AW.icmp_ne (tgt := 85) dX2_nextRow_79 (by decide) rfl (fun c79 => ?_) (fun c79 => ?_)
          · refine AW.aload_n dX2_nextRow_85 rfl rfl ?_
            refine AW.get ci2 34 (by decide) q1385 dX2_nextRow_86 gM rfl rfl ?_
            refine AW.iload_n dX2_nextRow_89 rfl rfl ?_
            refine AW.iload_n dX2_nextRow_90 rfl rfl ?_
            refine AW.iast dX2_nextRow_91 (by decide) gw638 (in0 _ (by omega) (by decide)) (j := (n - 1 - k)) (cI_nI (by omega)) sw638 rfl ?_
            refine AW.aload_n dX2_nextRow_92 rfl rfl ?_
            refine AW.get ci2 34 (by decide) q1385 dX2_nextRow_93 gM rfl rfl ?_
            refine AW.iload_n dX2_nextRow_96 rfl rfl ?_
            refine AW.iload_n dX2_nextRow_97 rfl rfl ?_
            refine AW.iast dX2_nextRow_98 (by decide) gw638 (hin98 c79) (j := cI (nmF (vwM (s.A 626)) (freeM M1 (n - 1 - k)) (if M1 (n - 1 - k) = -1 then (n - 1 - k) + 1 else cI (M1 (n - 1 - k)) + 1))) rfl sw638 rfl ?_
            refine AW.iconst (v := 1) dX2_nextRow_99 (by decide) rfl ?_
            rw [hs1] at hR
            rw [if_neg hcond, if_neg c79] at hR
            rw [← hR]
            exact AW.bretE dX2_nextRow_100 rfl rfl rfl rfl
          · refine AW.goto (tgt := 101) dX2_nextRow_82 (by decide) ?_
            refine AW.iinc (v := (-1)) dX2_nextRow_101 rfl (by decide) rfl rfl rfl ?_
            refine AW.goto (tgt := 9) dX2_nextRow_104 (by decide) ?_
            rw [hs1] at hR
            rw [if_neg hcond] at hR
            rw [if_pos c79] at hR
            exact AW.fg 2 rfl (AW.fg 3 rfl (AW.ls (by rw [hk9]; rfl) (ihk _ (freeM_ok hM1) hR)))
      · refine AW.aload_n dX2_nextRow_31 rfl rfl ?_
        refine AW.get ci2 34 (by decide) q1385 dX2_nextRow_32 gM rfl rfl ?_
        refine AW.iload_n dX2_nextRow_35 rfl rfl ?_
        refine AW.iald dX2_nextRow_36 gw638 (in0 _ (by omega) (by decide)) (j := (n - 1 - k)) (cI_nI (by omega)) rfl ?_
        refine AW.iload_n dX2_nextRow_37 rfl rfl ?_
        refine AW.icmp_ge (tgt := 44) dX2_nextRow_38 (by decide) rfl (fun c38 => ?_) (fun c38 => ?_)
        · refine AW.aload_n dX2_nextRow_44 rfl rfl ?_
          refine AW.get ci2 34 (by decide) q1385 dX2_nextRow_45 gM rfl rfl ?_
          refine AW.iload_n dX2_nextRow_48 rfl rfl ?_
          refine AW.iald dX2_nextRow_49 gw638 (in0 _ (by omega) (by decide)) (j := (n - 1 - k)) (cI_nI (by omega)) rfl ?_
          refine AW.istore_n (i := 2) dX2_nextRow_50 rfl rfl (Nat.le_of_ble_eq_true rfl) rfl rfl ?_
          refine AW.iload_n dX2_nextRow_51 rfl rfl ?_
          refine AW.iconst (v := (-1)) dX2_nextRow_52 (by decide) rfl ?_
          refine AW.icmp_eq (tgt := 63) dX2_nextRow_53 (by decide) rfl (fun c53 => ?_) (fun c53 => ?_)
          · refine AW.aload_n dX2_nextRow_63 rfl rfl ?_
            refine AW.get ci2 34 (by decide) q1385 dX2_nextRow_64 gM rfl rfl ?_
            refine AW.iload_n dX2_nextRow_67 rfl rfl ?_
            refine AW.iconst (v := (-1)) dX2_nextRow_68 (by decide) rfl ?_
            refine AW.iast dX2_nextRow_69 (by decide) gw638 (in0 _ (by omega) (by decide)) (j := (n - 1 - k)) (cI_nI (by omega)) sw638 rfl ?_
            have hcond : ¬ ((vwM (s.A 626)).her (nI (n - 1 - k)) = false ∨ ¬ M1 (n - 1 - k) = -1 ∧ M1 (n - 1 - k) < nI (n - 1 - k)) := fun z => by
              rcases z with z | ⟨z1, z2⟩
              · rw [c18] at z; exact absurd z (by decide)
              · exact absurd z2 (Int32.not_lt.mpr c38)
            refine AW.hp (h2 := hp (sw s (freeM M1 (n - 1 - k)) R)) (by unfold freeM; rw [if_pos c53]) ?_
            refine AW.aload_n dX2_nextRow_70 rfl rfl ?_
            refine AW.iload_n dX2_nextRow_71 rfl rfl ?_
            refine AW.iload_n dX2_nextRow_72 rfl rfl ?_
            refine AW.callV (Y := mX2_nextMate) (n := 2) (r_X2_nextMate (M := (freeM M1 (n - 1 - k))) hn _ _ (if M1 (n - 1 - k) = -1 then (n - 1 - k) + 1 else cI (M1 (n - 1 - k)) + 1) hE0 hE1) (by decide) (by decide) rfl gM q1974 q1976 qs134 q141 q1977 dX2_nextRow_73 (by decide +kernel) rfl rfl (Nat.le_of_ble_eq_true rfl) rfl ?_
            refine AW.istore_n (i := 3) dX2_nextRow_76 rfl rfl (Nat.le_of_ble_eq_true rfl) rfl rfl ?_
            refine AW.iload_n dX2_nextRow_77 rfl rfl ?_
            refine AW.iconst (v := (-1)) dX2_nextRow_78 (by decide) rfl ?_
            refine AW.icmp_ne (tgt := 85) dX2_nextRow_79 (by decide) rfl (fun c79 => ?_) (fun c79 => ?_)
            · refine AW.aload_n dX2_nextRow_85 rfl rfl ?_
              refine AW.get ci2 34 (by decide) q1385 dX2_nextRow_86 gM rfl rfl ?_
              refine AW.iload_n dX2_nextRow_89 rfl rfl ?_
              refine AW.iload_n dX2_nextRow_90 rfl rfl ?_
              refine AW.iast dX2_nextRow_91 (by decide) gw638 (in0 _ (by omega) (by decide)) (j := (n - 1 - k)) (cI_nI (by omega)) sw638 rfl ?_
              refine AW.aload_n dX2_nextRow_92 rfl rfl ?_
              refine AW.get ci2 34 (by decide) q1385 dX2_nextRow_93 gM rfl rfl ?_
              refine AW.iload_n dX2_nextRow_96 rfl rfl ?_
              refine AW.iload_n dX2_nextRow_97 rfl rfl ?_
              refine AW.iast dX2_nextRow_98 (by decide) gw638 (hin98 c79) (j := cI (nmF (vwM (s.A 626)) (freeM M1 (n - 1 - k)) (if M1 (n - 1 - k) = -1 then (n - 1 - k) + 1 else cI (M1 (n - 1 - k)) + 1))) rfl sw638 rfl ?_
              refine AW.iconst (v := 1) dX2_nextRow_99 (by decide) rfl ?_
              rw [hs1] at hR
              rw [if_neg hcond, if_neg c79] at hR
              rw [← hR]
              exact AW.bretE dX2_nextRow_100 rfl rfl rfl rfl
            · refine AW.goto (tgt := 101) dX2_nextRow_82 (by decide) ?_
              refine AW.iinc (v := (-1)) dX2_nextRow_101 rfl (by decide) rfl rfl rfl ?_
              refine AW.goto (tgt := 9) dX2_nextRow_104 (by decide) ?_
              rw [hs1] at hR
              rw [if_neg hcond] at hR
              rw [if_pos c79] at hR
              exact AW.fg 2 rfl (AW.fg 3 rfl (AW.ls (by rw [hk9]; rfl) (ihk _ (freeM_ok hM1) hR)))
          · have hin62 : vp_in (M1 (n - 1 - k)) 7 := by
              rcases hM1 _ hlt with q | ⟨j, q1, q2⟩
              · exact absurd q c53
              · rw [q2]; exact in0 j (by omega) (by decide)
            refine AW.aload_n dX2_nextRow_56 rfl rfl ?_
            refine AW.get ci2 34 (by decide) q1385 dX2_nextRow_57 gM rfl rfl ?_
            refine AW.iload_n dX2_nextRow_60 rfl rfl ?_
            refine AW.iconst (v := (-1)) dX2_nextRow_61 (by decide) rfl ?_
            refine AW.iast dX2_nextRow_62 (by decide) gw638 hin62 (j := cI (M1 (n - 1 - k))) rfl sw638 rfl ?_
            refine AW.aload_n dX2_nextRow_63 rfl rfl ?_
            refine AW.get ci2 34 (by decide) q1385 dX2_nextRow_64 gM rfl rfl ?_
            refine AW.iload_n dX2_nextRow_67 rfl rfl ?_
            refine AW.iconst (v := (-1)) dX2_nextRow_68 (by decide) rfl ?_
            refine AW.iast dX2_nextRow_69 (by decide) gw638 (in0 _ (by omega) (by decide)) (j := (n - 1 - k)) (cI_nI (by omega)) sw638 rfl ?_
            have hcond : ¬ ((vwM (s.A 626)).her (nI (n - 1 - k)) = false ∨ ¬ M1 (n - 1 - k) = -1 ∧ M1 (n - 1 - k) < nI (n - 1 - k)) := fun z => by
              rcases z with z | ⟨z1, z2⟩
              · rw [c18] at z; exact absurd z (by decide)
              · exact absurd z2 (Int32.not_lt.mpr c38)
            refine AW.hp (h2 := hp (sw s (freeM M1 (n - 1 - k)) R)) (by unfold freeM; rw [if_neg c53]) ?_
            refine AW.aload_n dX2_nextRow_70 rfl rfl ?_
            refine AW.iload_n dX2_nextRow_71 rfl rfl ?_
            refine AW.iload_n dX2_nextRow_72 rfl rfl ?_
            refine AW.callV (Y := mX2_nextMate) (n := 2) (r_X2_nextMate (M := (freeM M1 (n - 1 - k))) hn _ _ (if M1 (n - 1 - k) = -1 then (n - 1 - k) + 1 else cI (M1 (n - 1 - k)) + 1) hE0 hE1) (by decide) (by decide) rfl gM q1974 q1976 qs134 q141 q1977 dX2_nextRow_73 (by decide +kernel) rfl rfl (Nat.le_of_ble_eq_true rfl) rfl ?_
            refine AW.istore_n (i := 3) dX2_nextRow_76 rfl rfl (Nat.le_of_ble_eq_true rfl) rfl rfl ?_
            refine AW.iload_n dX2_nextRow_77 rfl rfl ?_
            refine AW.iconst (v := (-1)) dX2_nextRow_78 (by decide) rfl ?_
            refine AW.icmp_ne (tgt := 85) dX2_nextRow_79 (by decide) rfl (fun c79 => ?_) (fun c79 => ?_)
            · refine AW.aload_n dX2_nextRow_85 rfl rfl ?_
              refine AW.get ci2 34 (by decide) q1385 dX2_nextRow_86 gM rfl rfl ?_
              refine AW.iload_n dX2_nextRow_89 rfl rfl ?_
              refine AW.iload_n dX2_nextRow_90 rfl rfl ?_
              refine AW.iast dX2_nextRow_91 (by decide) gw638 (in0 _ (by omega) (by decide)) (j := (n - 1 - k)) (cI_nI (by omega)) sw638 rfl ?_
              refine AW.aload_n dX2_nextRow_92 rfl rfl ?_
              refine AW.get ci2 34 (by decide) q1385 dX2_nextRow_93 gM rfl rfl ?_
              refine AW.iload_n dX2_nextRow_96 rfl rfl ?_
              refine AW.iload_n dX2_nextRow_97 rfl rfl ?_
              refine AW.iast dX2_nextRow_98 (by decide) gw638 (hin98 c79) (j := cI (nmF (vwM (s.A 626)) (freeM M1 (n - 1 - k)) (if M1 (n - 1 - k) = -1 then (n - 1 - k) + 1 else cI (M1 (n - 1 - k)) + 1))) rfl sw638 rfl ?_
              refine AW.iconst (v := 1) dX2_nextRow_99 (by decide) rfl ?_
              rw [hs1] at hR
              rw [if_neg hcond, if_neg c79] at hR
              rw [← hR]
              exact AW.bretE dX2_nextRow_100 rfl rfl rfl rfl
            · refine AW.goto (tgt := 101) dX2_nextRow_82 (by decide) ?_
              refine AW.iinc (v := (-1)) dX2_nextRow_101 rfl (by decide) rfl rfl rfl ?_
              refine AW.goto (tgt := 9) dX2_nextRow_104 (by decide) ?_
              rw [hs1] at hR
              rw [if_neg hcond] at hR
              rw [if_pos c79] at hR
              exact AW.fg 2 rfl (AW.fg 3 rfl (AW.ls (by rw [hk9]; rfl) (ihk _ (freeM_ok hM1) hR)))
        · refine AW.goto (tgt := 101) dX2_nextRow_41 (by decide) ?_
          refine AW.iinc (v := (-1)) dX2_nextRow_101 rfl (by decide) rfl rfl rfl ?_
          refine AW.goto (tgt := 9) dX2_nextRow_104 (by decide) ?_
          rw [hs1] at hR
          rw [if_pos (Or.inr ⟨c28, Int32.not_le.mp c38⟩)] at hR
          exact AW.ls (by rw [hk9]; rfl) (ihk _ hM1 hR)
