/-! MODEL 27: the best weddings (printed by tools/m27.py) -/
set_option maxRecDepth 100000
/-- the rows in their order, the best of the first of them -/
def rowW (v : Vw) (M : Nat → Int32) (i : Nat) : Nat → Int32 := iter (fun M => (nrF v v.n M).2) i M
def wedB (v : Vw) (M R : Nat → Int32) : Nat → Int32 × (Nat → Int32)
  | 0 => (-1, R)
  | i + 1 => if (wedB v M R i).1 < shF v (rowW v M i) v.n then (shF v (rowW v M i) v.n, mv (wedB v M R i).2 0 (rowW v M i) 7) else wedB v M R i
def none7 (M : Nat → Int32) : Nat → Int32 := mv M 0 (fun _ => -1) 7
theorem none7_ok {M : Nat → Int32} {n : Nat} (h : n ≤ 7) : matOk n (none7 M) := fun k hk => Or.inl (mv_in (by omega) (by omega))
theorem rowW_ok {v : Vw} {M : Nat → Int32} (h : matOk v.n M) : ∀ i, matOk v.n (rowW v M i)
  | 0 => h
  | i + 1 => nrF_ok v.n _ (Nat.le_refl _) (rowW_ok h i)
theorem r_X2_wed {s : Sg} (hn : (vwM (s.A 626)).ok) (r : Nat) (hr : 1 ≤ r) (hgo : ∀ i, i + 1 < r → (nrF (vwM (s.A 626)) (vwM (s.A 626)).n (rowW (vwM (s.A 626)) (none7 (s.A 638)) i)).1 = true) (hend : ∀ i, i + 1 = r → (nrF (vwM (s.A 626)) (vwM (s.A 626)).n (rowW (vwM (s.A 626)) (none7 (s.A 638)) i)).1 = false) : Run 6 mX2_wed [.ref 625] (hp s) (.inl (some (.int ((wedB (vwM (s.A 626)) (none7 (s.A 638)) (none7 (s.A 639)) r).1)))) (hp (sw s (rowW (vwM (s.A 626)) (none7 (s.A 638)) r) (wedB (vwM (s.A 626)) (none7 (s.A 638)) (none7 (s.A 639)) r).2)) := by
  refine Run.of rfl (Nat.le_of_ble_eq_true rfl) rfl ?_
  have h7 := Vw.n7 hn
  refine AW.hp (h2 := hp (sw s (s.A 638) (s.A 639))) (by rw [sw_id]) ?_
  refine AW.iconst (v := 0) dX2_wed_0 (by decide) rfl ?_
  refine AW.istore_n (i := 1) dX2_wed_1 rfl rfl (Nat.le_of_ble_eq_true rfl) rfl rfl ?_
  refine AW.hp (h2 := hp (sw s (mv (s.A 638) 0 (fun _ => (-1 : Int32)) 0) (mv (s.A 639) 0 (fun _ => (-1 : Int32)) 0))) (by rw [mv_0, mv_0]) ?_
  refine loopUp (P := fun k => AW 6 mX2_wed (hp (sw s (mv (s.A 638) 0 (fun _ => (-1 : Int32)) k) (mv (s.A 639) 0 (fun _ => (-1 : Int32)) k))) 2 [some (.ref 625), some (.int (nI k)), none, none, none] [] (.inl (some (.int ((wedB (vwM (s.A 626)) (none7 (s.A 638)) (none7 (s.A 639)) r).1)))) (hp (sw s (rowW (vwM (s.A 626)) (none7 (s.A 638)) r) (wedB (vwM (s.A 626)) (none7 (s.A 638)) (none7 (s.A 639)) r).2))) 7 ?_ ?_ 0 (by first | exact Nat.zero_le _ | omega)
  · refine AW.iload_n dX2_wed_2 rfl rfl ?_
    refine AW.bipush (v := 7) dX2_wed_3 (by decide) rfl ?_
    refine AW.icmp_ge (tgt := 28) dX2_wed_5 (by decide) rfl (fun _ => ?_) (fun c_ => by first | exact absurd c_ (by decide) | exact absurd (by decide) c_ | exact absurd c_ (not_not_intro (by decide)) | exact Bool.noConfusion (c_.symm.trans (by decide)))
    refine AW.iconst (v := (-1)) dX2_wed_28 (by decide) rfl ?_
    refine AW.istore_n (i := 1) dX2_wed_29 rfl rfl (Nat.le_of_ble_eq_true rfl) rfl rfl ?_
    refine AW.iconst (v := 1) dX2_wed_30 (by decide) rfl ?_
    refine AW.istore_n (i := 2) dX2_wed_31 rfl rfl (Nat.le_of_ble_eq_true rfl) rfl rfl ?_
    refine AW.ls (ls' := [some (.ref 625), some (.int ((wedB (vwM (s.A 626)) (none7 (s.A 638)) (none7 (s.A 639)) 0).1)), some (.int (b2i (decide (0 < r)))), none, none]) (by rw [decide_eq_true (show 0 < r by omega)]; rfl) ?_
    refine AW.hp (h2 := hp (sw s (rowW (vwM (s.A 626)) (none7 (s.A 638)) 0) (wedB (vwM (s.A 626)) (none7 (s.A 638)) (none7 (s.A 639)) 0).2)) rfl ?_
    refine loopUp (P := fun i => AW 6 mX2_wed (hp (sw s (rowW (vwM (s.A 626)) (none7 (s.A 638)) i) (wedB (vwM (s.A 626)) (none7 (s.A 638)) (none7 (s.A 639)) i).2)) 32 [some (.ref 625), some (.int ((wedB (vwM (s.A 626)) (none7 (s.A 638)) (none7 (s.A 639)) i).1)), some (.int (b2i (decide (i < r)))), none, none] [] (.inl (some (.int ((wedB (vwM (s.A 626)) (none7 (s.A 638)) (none7 (s.A 639)) r).1)))) (hp (sw s (rowW (vwM (s.A 626)) (none7 (s.A 638)) r) (wedB (vwM (s.A 626)) (none7 (s.A 638)) (none7 (s.A 639)) r).2))) r ?_ ?_ 0 (by first | exact Nat.zero_le _ | omega)
    · refine AW.iload_n dX2_wed_32 rfl rfl ?_
      refine AW.if_eqB (tgt := 86) dX2_wed_33 (by decide) rfl (fun _ => ?_) (fun c_ => by first | exact absurd c_ (decide_eq_false (Nat.lt_irrefl r)) | exact absurd (decide_eq_false (Nat.lt_irrefl r)) c_ | exact absurd c_ (not_not_intro (decide_eq_false (Nat.lt_irrefl r))) | exact Bool.noConfusion (c_.symm.trans (decide_eq_false (Nat.lt_irrefl r))))
      refine AW.iload_n dX2_wed_86 rfl rfl ?_
      exact AW.iretE dX2_wed_87 rfl rfl rfl rfl
    · intro i hi ihi
      have hMi := rowW_ok (none7_ok (M := s.A 638) h7) i
      have es : (wedB (vwM (s.A 626)) (none7 (s.A 638)) (none7 (s.A 639)) (i + 1)) = if (wedB (vwM (s.A 626)) (none7 (s.A 638)) (none7 (s.A 639)) i).1 < shF (vwM (s.A 626)) (rowW (vwM (s.A 626)) (none7 (s.A 638)) i) (vwM (s.A 626)).n then (shF (vwM (s.A 626)) (rowW (vwM (s.A 626)) (none7 (s.A 638)) i) (vwM (s.A 626)).n, mv (wedB (vwM (s.A 626)) (none7 (s.A 638)) (none7 (s.A 639)) i).2 0 (rowW (vwM (s.A 626)) (none7 (s.A 638)) i) 7) else (wedB (vwM (s.A 626)) (none7 (s.A 638)) (none7 (s.A 639)) i) := rfl
      have er : (rowW (vwM (s.A 626)) (none7 (s.A 638)) (i + 1)) = (nrF (vwM (s.A 626)) (vwM (s.A 626)).n (rowW (vwM (s.A 626)) (none7 (s.A 638)) i)).2 := rfl
      refine AW.iload_n dX2_wed_32 rfl rfl ?_
      refine AW.if_eqB (tgt := 86) dX2_wed_33 (by decide) rfl (fun c_ => by first | exact absurd c_ (decide_eq_true hi) | exact absurd (decide_eq_true hi) c_ | exact Bool.noConfusion (c_.symm.trans (decide_eq_true hi))) (fun _ => ?_)
      refine AW.aload_n dX2_wed_36 rfl rfl ?_
      refine AW.callV (Y := mX2_sharedNow) (n := 0) (r_X2_sharedNow hn hMi) (by decide) (by decide) rfl gM q1966 q1968 qs132 q141 q1969 dX2_wed_37 (by decide +kernel) rfl rfl (Nat.le_of_ble_eq_true rfl) rfl ?_
      refine AW.istore_n (i := 3) dX2_wed_40 rfl rfl (Nat.le_of_ble_eq_true rfl) rfl rfl ?_
      refine AW.iload_n dX2_wed_41 rfl rfl ?_
      refine AW.iload_n dX2_wed_42 rfl rfl ?_
      refine AW.icmp_le (tgt := 78) dX2_wed_43 (by decide) rfl (fun c43 => ?_) (fun c43 => ?_)
      · refine AW.aload_n dX2_wed_78 rfl rfl ?_
        refine AW.callV (Y := mX2_nextRow) (n := 0) (r_X2_nextRow hn hMi) (by decide) (by decide) rfl gM q1970 q1972 qs133 q141 q1973 dX2_wed_79 (by decide +kernel) rfl rfl (Nat.le_of_ble_eq_true rfl) rfl ?_
        refine AW.istore_n (i := 2) dX2_wed_82 rfl rfl (Nat.le_of_ble_eq_true rfl) rfl rfl ?_
        refine AW.goto (tgt := 32) dX2_wed_83 (by decide) ?_
        rw [if_neg (Int32.not_lt.mpr c43)] at es
        have e9 : (nrF (vwM (s.A 626)) (vwM (s.A 626)).n (rowW (vwM (s.A 626)) (none7 (s.A 638)) i)).1 = decide (i + 1 < r) := by
          by_cases q : i + 1 < r
          · rw [hgo i q, decide_eq_true q]
          · rw [hend i (by omega), decide_eq_false q]
        rw [es, er] at ihi
        exact AW.fg 3 rfl (AW.fg 4 rfl (AW.ls (by rw [← e9]; rfl) ihi))
      · refine AW.iload_n dX2_wed_46 rfl rfl ?_
        refine AW.istore_n (i := 1) dX2_wed_47 rfl rfl (Nat.le_of_ble_eq_true rfl) rfl rfl ?_
        refine AW.iconst (v := 0) dX2_wed_48 (by decide) rfl ?_
        refine AW.istore dX2_wed_49 rfl (Nat.le_of_ble_eq_true rfl) rfl rfl ?_
        refine AW.hp (h2 := hp (sw s (rowW (vwM (s.A 626)) (none7 (s.A 638)) i) (mv (wedB (vwM (s.A 626)) (none7 (s.A 638)) (none7 (s.A 639)) i).2 0 (rowW (vwM (s.A 626)) (none7 (s.A 638)) i) 0))) (by rw [mv_0]) ?_
        refine loopUp (P := fun j => AW 6 mX2_wed (hp (sw s (rowW (vwM (s.A 626)) (none7 (s.A 638)) i) (mv (wedB (vwM (s.A 626)) (none7 (s.A 638)) (none7 (s.A 639)) i).2 0 (rowW (vwM (s.A 626)) (none7 (s.A 638)) i) j))) 51 [some (.ref 625), some (.int (shF (vwM (s.A 626)) (rowW (vwM (s.A 626)) (none7 (s.A 638)) i) (vwM (s.A 626)).n)), some (.int (b2i (decide (i < r)))), some (.int (shF (vwM (s.A 626)) (rowW (vwM (s.A 626)) (none7 (s.A 638)) i) (vwM (s.A 626)).n)), some (.int (nI j))] [] (.inl (some (.int ((wedB (vwM (s.A 626)) (none7 (s.A 638)) (none7 (s.A 639)) r).1)))) (hp (sw s (rowW (vwM (s.A 626)) (none7 (s.A 638)) r) (wedB (vwM (s.A 626)) (none7 (s.A 638)) (none7 (s.A 639)) r).2))) 7 ?_ ?_ 0 (by first | exact Nat.zero_le _ | omega)
        · refine AW.iload dX2_wed_51 rfl rfl ?_
          refine AW.bipush (v := 7) dX2_wed_53 (by decide) rfl ?_
          refine AW.icmp_ge (tgt := 78) dX2_wed_55 (by decide) rfl (fun _ => ?_) (fun c_ => by first | exact absurd c_ (by decide) | exact absurd (by decide) c_ | exact absurd c_ (not_not_intro (by decide)) | exact Bool.noConfusion (c_.symm.trans (by decide)))
          refine AW.aload_n dX2_wed_78 rfl rfl ?_
          refine AW.callV (Y := mX2_nextRow) (n := 0) (r_X2_nextRow hn hMi) (by decide) (by decide) rfl gM q1970 q1972 qs133 q141 q1973 dX2_wed_79 (by decide +kernel) rfl rfl (Nat.le_of_ble_eq_true rfl) rfl ?_
          refine AW.istore_n (i := 2) dX2_wed_82 rfl rfl (Nat.le_of_ble_eq_true rfl) rfl rfl ?_
          refine AW.goto (tgt := 32) dX2_wed_83 (by decide) ?_
          rw [if_pos (Int32.not_le.mp c43)] at es
          have e9 : (nrF (vwM (s.A 626)) (vwM (s.A 626)).n (rowW (vwM (s.A 626)) (none7 (s.A 638)) i)).1 = decide (i + 1 < r) := by
            by_cases q : i + 1 < r
            · rw [hgo i q, decide_eq_true q]
            · rw [hend i (by omega), decide_eq_false q]
          rw [es, er] at ihi
          exact AW.fg 3 rfl (AW.fg 4 rfl (AW.ls (by rw [← e9]; rfl) ihi))
        · intro j hj ihj
          refine AW.iload dX2_wed_51 rfl rfl ?_
          refine AW.bipush (v := 7) dX2_wed_53 (by decide) rfl ?_
          refine AW.icmp_ge (tgt := 78) dX2_wed_55 (by decide) rfl (fun c_ => by first | exact absurd c_ (by rw [Int32.le_iff_toInt_le, nI_t (by omega)]; show ¬ (7 : Int) ≤ _; omega) | exact absurd (by rw [Int32.le_iff_toInt_le, nI_t (by omega)]; show ¬ (7 : Int) ≤ _; omega) c_ | exact Bool.noConfusion (c_.symm.trans (by rw [Int32.le_iff_toInt_le, nI_t (by omega)]; show ¬ (7 : Int) ≤ _; omega))) (fun _ => ?_)
          refine AW.aload_n dX2_wed_58 rfl rfl ?_
          refine AW.get ci2 35 (by decide) q1386 dX2_wed_59 gM rfl rfl ?_
          refine AW.iload dX2_wed_62 rfl rfl ?_
          refine AW.aload_n dX2_wed_64 rfl rfl ?_
          refine AW.get ci2 34 (by decide) q1385 dX2_wed_65 gM rfl rfl ?_
          refine AW.iload dX2_wed_68 rfl rfl ?_
          refine AW.iald dX2_wed_70 gw638 (in0 j (by omega) (by decide)) (j := j) (cI_nI (by omega)) rfl ?_
          refine AW.iast dX2_wed_71 (by decide) gw639 (in0 j (by omega) (by decide)) (j := j) (cI_nI (by omega)) sw639 rfl ?_
          refine AW.iinc (v := 1) dX2_wed_72 rfl (by decide) rfl rfl rfl ?_
          refine AW.goto (tgt := 51) dX2_wed_75 (by decide) ?_
          exact AW.hp (by rw [← mv_s]; simp only [Nat.zero_add]) (AW.ls (by rw [nI_succ j]; rfl) ihj)
  · intro k hk ihk
    refine AW.iload_n dX2_wed_2 rfl rfl ?_
    refine AW.bipush (v := 7) dX2_wed_3 (by decide) rfl ?_
    refine AW.icmp_ge (tgt := 28) dX2_wed_5 (by decide) rfl (fun c_ => by first | exact absurd c_ (by rw [Int32.le_iff_toInt_le, nI_t (by omega)]; show ¬ (7 : Int) ≤ _; omega) | exact absurd (by rw [Int32.le_iff_toInt_le, nI_t (by omega)]; show ¬ (7 : Int) ≤ _; omega) c_ | exact Bool.noConfusion (c_.symm.trans (by rw [Int32.le_iff_toInt_le, nI_t (by omega)]; show ¬ (7 : Int) ≤ _; omega))) (fun _ => ?_)
    refine AW.aload_n dX2_wed_8 rfl rfl ?_
    refine AW.get ci2 34 (by decide) q1385 dX2_wed_9 gM rfl rfl ?_
    refine AW.iload_n dX2_wed_12 rfl rfl ?_
    refine AW.iconst (v := (-1)) dX2_wed_13 (by decide) rfl ?_
    refine AW.iast dX2_wed_14 (by decide) gw638 (in0 k (by omega) (by decide)) (j := k) (cI_nI (by omega)) sw638 rfl ?_
    refine AW.aload_n dX2_wed_15 rfl rfl ?_
    refine AW.get ci2 35 (by decide) q1386 dX2_wed_16 gM rfl rfl ?_
    refine AW.iload_n dX2_wed_19 rfl rfl ?_
    refine AW.iconst (v := (-1)) dX2_wed_20 (by decide) rfl ?_
    refine AW.iast dX2_wed_21 (by decide) gw639 (in0 k (by omega) (by decide)) (j := k) (cI_nI (by omega)) sw639 rfl ?_
    refine AW.iinc (v := 1) dX2_wed_22 rfl (by decide) rfl rfl rfl ?_
    refine AW.goto (tgt := 2) dX2_wed_25 (by decide) ?_
    exact AW.hp (by rw [← mv_s, ← mv_s]; simp only [Nat.zero_add]) (AW.ls (by rw [nI_succ k]; rfl) ihk)
theorem r_X2_weddings_f {s : Sg} (h : Int32) (hc : (decide (h = -1) || (vwM (s.A 626)).hou h) = false) : Run 3 mX2_weddings [.ref 625, .int h] (hp s) (.inl (some (.int (-2)))) (hp s) := by
  refine Run.of rfl (Nat.le_of_ble_eq_true rfl) rfl ?_
  refine AW.iload_n dX2_weddings_0 rfl rfl ?_
  refine AW.iconst (v := (-1)) dX2_weddings_1 (by decide) rfl ?_
  refine AW.icmp_eq (tgt := 16) dX2_weddings_2 (by decide) rfl (fun c2 => ?_) (fun c2 => ?_)
  · exact absurd hc (by rw [decide_eq_true c2]; simp)
  · refine AW.aload_n dX2_weddings_5 rfl rfl ?_
    refine AW.iload_n dX2_weddings_6 rfl rfl ?_
    refine AW.callV (Y := mX2_isHouse) (n := 1) (r_X2_isHouse _) (by decide) (by decide) rfl gM q1653 q1655 qs92 q141 q1656 dX2_weddings_7 (by decide +kernel) rfl rfl (Nat.le_of_ble_eq_true rfl) rfl ?_
    refine AW.if_neB (tgt := 16) dX2_weddings_10 (by decide) rfl (fun c10 => ?_) (fun c10 => ?_)
    · exact absurd hc (by rw [c10, Bool.or_true]; decide)
    · refine AW.bipush (v := (-2)) dX2_weddings_13 (by decide) rfl ?_
      exact AW.iretE dX2_weddings_15 rfl rfl rfl rfl
theorem r_X2_weddings_t {s : Sg} (hn : (vwM (s.A 626)).ok) (h : Int32) (hc : (decide (h = -1) || (vwM (s.A 626)).hou h) = true) (r : Nat) (hr : 1 ≤ r) (hgo : ∀ i, i + 1 < r → (nrF (vwM (s.A 626)) (vwM (s.A 626)).n (rowW (vwM (s.A 626)) (none7 (s.A 638)) i)).1 = true) (hend : ∀ i, i + 1 = r → (nrF (vwM (s.A 626)) (vwM (s.A 626)).n (rowW (vwM (s.A 626)) (none7 (s.A 638)) i)).1 = false) : Run 7 mX2_weddings [.ref 625, .int h] (hp s) (.inl (some (.int (if h = -1 then (wedB (vwM (s.A 626)) (none7 (s.A 638)) (none7 (s.A 639)) r).1 else (wedB (vwM (s.A 626)) (none7 (s.A 638)) (none7 (s.A 639)) r).2 (cI h))))) (hp (sw s (rowW (vwM (s.A 626)) (none7 (s.A 638)) r) (wedB (vwM (s.A 626)) (none7 (s.A 638)) (none7 (s.A 639)) r).2)) := by
  refine Run.of rfl (Nat.le_of_ble_eq_true rfl) rfl ?_
  refine AW.iload_n dX2_weddings_0 rfl rfl ?_
  refine AW.iconst (v := (-1)) dX2_weddings_1 (by decide) rfl ?_
  refine AW.icmp_eq (tgt := 16) dX2_weddings_2 (by decide) rfl (fun c2 => ?_) (fun c2 => ?_)
  · refine AW.aload_n dX2_weddings_16 rfl rfl ?_
    refine AW.callV (Y := mX2_wed) (n := 0) (r_X2_wed hn r hr hgo hend) (by decide) (by decide) rfl gM q1962 q1964 qs131 q141 q1965 dX2_weddings_17 (by decide +kernel) rfl rfl (Nat.le_of_ble_eq_true rfl) rfl ?_
    refine AW.istore_n (i := 2) dX2_weddings_20 rfl rfl (Nat.le_of_ble_eq_true rfl) rfl rfl ?_
    refine AW.iload_n dX2_weddings_21 rfl rfl ?_
    refine AW.iconst (v := (-1)) dX2_weddings_22 (by decide) rfl ?_
    refine AW.icmp_ne (tgt := 30) dX2_weddings_23 (by decide) rfl (fun c23 => ?_) (fun c23 => ?_)
    · refine AW.aload_n dX2_weddings_30 rfl rfl ?_
      refine AW.get ci2 35 (by decide) q1386 dX2_weddings_31 gM rfl rfl ?_
      refine AW.iload_n dX2_weddings_34 rfl rfl ?_
      refine AW.iald dX2_weddings_35 gw639 (by have q := Vw.hou_b hn ((Bool.or_eq_true_iff.mp hc).resolve_left (by rw [decide_eq_false c23]; decide)); exact vp_in_iff.mpr (by omega)) rfl rfl ?_
      exact AW.iretE dX2_weddings_36 rfl rfl (by first | (rw [if_pos c23]; done) | (rw [if_neg c23]; done)) rfl
    · refine AW.iload_n dX2_weddings_26 rfl rfl ?_
      refine AW.goto (tgt := 36) dX2_weddings_27 (by decide) ?_
      exact AW.iretE dX2_weddings_36 rfl rfl (by first | (rw [if_pos c23]; done) | (rw [if_neg c23]; done)) rfl
  · refine AW.aload_n dX2_weddings_5 rfl rfl ?_
    refine AW.iload_n dX2_weddings_6 rfl rfl ?_
    refine AW.callV (Y := mX2_isHouse) (n := 1) (r_X2_isHouse _) (by decide) (by decide) rfl gM q1653 q1655 qs92 q141 q1656 dX2_weddings_7 (by decide +kernel) rfl rfl (Nat.le_of_ble_eq_true rfl) rfl ?_
    refine AW.if_neB (tgt := 16) dX2_weddings_10 (by decide) rfl (fun _ => ?_) (fun c_ => by first | exact absurd c_ ((Bool.or_eq_true_iff.mp hc).resolve_left (by rw [decide_eq_false c2]; decide)) | exact absurd ((Bool.or_eq_true_iff.mp hc).resolve_left (by rw [decide_eq_false c2]; decide)) c_ | exact absurd c_ (not_not_intro ((Bool.or_eq_true_iff.mp hc).resolve_left (by rw [decide_eq_false c2]; decide))) | exact Bool.noConfusion (c_.symm.trans ((Bool.or_eq_true_iff.mp hc).resolve_left (by rw [decide_eq_false c2]; decide))))
    refine AW.aload_n dX2_weddings_16 rfl rfl ?_
    refine AW.callV (Y := mX2_wed) (n := 0) (r_X2_wed hn r hr hgo hend) (by decide) (by decide) rfl gM q1962 q1964 qs131 q141 q1965 dX2_weddings_17 (by decide +kernel) rfl rfl (Nat.le_of_ble_eq_true rfl) rfl ?_
    refine AW.istore_n (i := 2) dX2_weddings_20 rfl rfl (Nat.le_of_ble_eq_true rfl) rfl rfl ?_
    refine AW.iload_n dX2_weddings_21 rfl rfl ?_
    refine AW.iconst (v := (-1)) dX2_weddings_22 (by decide) rfl ?_
    refine AW.icmp_ne (tgt := 30) dX2_weddings_23 (by decide) rfl (fun c23 => ?_) (fun c23 => ?_)
    · refine AW.aload_n dX2_weddings_30 rfl rfl ?_
      refine AW.get ci2 35 (by decide) q1386 dX2_weddings_31 gM rfl rfl ?_
      refine AW.iload_n dX2_weddings_34 rfl rfl ?_
      refine AW.iald dX2_weddings_35 gw639 (by have q := Vw.hou_b hn ((Bool.or_eq_true_iff.mp hc).resolve_left (by rw [decide_eq_false c23]; decide)); exact vp_in_iff.mpr (by omega)) rfl rfl ?_
      exact AW.iretE dX2_weddings_36 rfl rfl (by first | (rw [if_pos c23]; done) | (rw [if_neg c23]; done)) rfl
    · refine AW.iload_n dX2_weddings_26 rfl rfl ?_
      refine AW.goto (tgt := 36) dX2_weddings_27 (by decide) ?_
      exact AW.iretE dX2_weddings_36 rfl rfl (by first | (rw [if_pos c23]; done) | (rw [if_neg c23]; done)) rfl
