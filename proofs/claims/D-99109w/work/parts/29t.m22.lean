/-! MODEL 22: next knock, thieves (printed by tools/m22.py) -/
set_option maxRecDepth 100000
/-- the date that tells most: the first of the least far from even -/
def farI (c x : Int32) : Int32 := if c < 2 * x then 2 * x - c else c - 2 * x
def nkF (c : Int32) (w : Nat → Int32) : Nat → Int32 × Int32
  | 0 => (-1, 1000000000)
  | k + 1 => if w k = 0 ∨ w k = c ∨ ¬ farI c (w k) < (nkF c w k).2 then nkF c w k else (nI k, farI c (w k))
theorem r_X2_nextKnock_f {s : Sg} (h m : Int32) (hc : ((vwM (s.A 626)).hou h && inI m 1 3) = false) : Run 3 mX2_nextKnock [.ref 625, .int h, .int m] (hp s) (.inl (some (.int (-1)))) (hp s) := by
  refine Run.of rfl (Nat.le_of_ble_eq_true rfl) rfl ?_
  refine AW.aload_n dX2_nextKnock_0 rfl rfl ?_
  refine AW.iload_n dX2_nextKnock_1 rfl rfl ?_
  refine AW.callV (Y := mX2_isHouse) (n := 1) (r_X2_isHouse _) (by decide) (by decide) rfl gM q1653 q1655 qs92 q141 q1656 dX2_nextKnock_2 (by decide +kernel) rfl rfl (Nat.le_of_ble_eq_true rfl) rfl ?_
  refine AW.if_eqB (tgt := 17) dX2_nextKnock_5 (by decide) rfl (fun c5 => ?_) (fun c5 => ?_)
  · refine AW.iconst (v := (-1)) dX2_nextKnock_17 (by decide) rfl ?_
    exact AW.iretE dX2_nextKnock_18 rfl rfl rfl rfl
  · refine AW.iload_n dX2_nextKnock_8 rfl rfl ?_
    refine AW.iconst (v := 1) dX2_nextKnock_9 (by decide) rfl ?_
    refine AW.iconst (v := 3) dX2_nextKnock_10 (by decide) rfl ?_
    refine AW.callS (Y := mX2_isIn) (n := 3) (r_X2_isIn _ _ _) (by decide) (by decide) q1466 q1467 q141 q1468 dX2_nextKnock_11 (by decide +kernel) rfl rfl (Nat.le_of_ble_eq_true rfl) rfl ?_
    refine AW.if_neB (tgt := 19) dX2_nextKnock_14 (by decide) rfl (fun c14 => ?_) (fun c14 => ?_)
    · exact absurd hc (by rw [c5, c14]; decide)
    · refine AW.iconst (v := (-1)) dX2_nextKnock_17 (by decide) rfl ?_
      exact AW.iretE dX2_nextKnock_18 rfl rfl rfl rfl
theorem r_X2_nextKnock_t {s : Sg} (hb : (bkM (s.A 626)).ok) (he : (ewM (s.A 626)).ok) (h m : Int32) (hc : ((vwM (s.A 626)).hou h && inI m 1 3) = true) : Run 3 mX2_nextKnock [.ref 625, .int h, .int m] (hp s) (.inl (some (.int ((nkF (setsF (bkM (s.A 626)) (ewM (s.A 626)) h m (s.A 635)).1 (setsF (bkM (s.A 626)) (ewM (s.A 626)) h m (s.A 635)).2.2 20).1)))) (hp (sl s (datesP (bkM (s.A 626)) (ewM (s.A 626)) h).1 (datesP (bkM (s.A 626)) (ewM (s.A 626)) h).2 (setsF (bkM (s.A 626)) (ewM (s.A 626)) h m (s.A 635)))) := by
  have hc2 := Bool.and_eq_true_iff.mp hc
  refine Run.of rfl (Nat.le_of_ble_eq_true rfl) rfl ?_
  refine AW.aload_n dX2_nextKnock_0 rfl rfl ?_
  refine AW.iload_n dX2_nextKnock_1 rfl rfl ?_
  refine AW.callV (Y := mX2_isHouse) (n := 1) (r_X2_isHouse _) (by decide) (by decide) rfl gM q1653 q1655 qs92 q141 q1656 dX2_nextKnock_2 (by decide +kernel) rfl rfl (Nat.le_of_ble_eq_true rfl) rfl ?_
  refine AW.if_eqB (tgt := 17) dX2_nextKnock_5 (by decide) rfl (fun c_ => by first | exact absurd c_ hc2.1 | exact absurd hc2.1 c_ | exact Bool.noConfusion (c_.symm.trans hc2.1)) (fun _ => ?_)
  refine AW.iload_n dX2_nextKnock_8 rfl rfl ?_
  refine AW.iconst (v := 1) dX2_nextKnock_9 (by decide) rfl ?_
  refine AW.iconst (v := 3) dX2_nextKnock_10 (by decide) rfl ?_
  refine AW.callS (Y := mX2_isIn) (n := 3) (r_X2_isIn _ _ _) (by decide) (by decide) q1466 q1467 q141 q1468 dX2_nextKnock_11 (by decide +kernel) rfl rfl (Nat.le_of_ble_eq_true rfl) rfl ?_
  refine AW.if_neB (tgt := 19) dX2_nextKnock_14 (by decide) rfl (fun _ => ?_) (fun c_ => by first | exact absurd c_ hc2.2 | exact absurd hc2.2 c_ | exact absurd c_ (not_not_intro hc2.2) | exact Bool.noConfusion (c_.symm.trans hc2.2))
  refine AW.aload_n dX2_nextKnock_19 rfl rfl ?_
  refine AW.iload_n dX2_nextKnock_20 rfl rfl ?_
  refine AW.iload_n dX2_nextKnock_21 rfl rfl ?_
  refine AW.callV (Y := mX2_laySets) (n := 2) (r_X2_laySets hb he h m hc2.2) (by decide) (by decide) rfl gM q1897 q1899 qs123 q141 q1900 dX2_nextKnock_22 (by decide +kernel) rfl rfl (Nat.le_of_ble_eq_true rfl) rfl ?_
  have f27 : (sl s (datesP (bkM (s.A 626)) (ewM (s.A 626)) h).1 (datesP (bkM (s.A 626)) (ewM (s.A 626)) h).2 (setsF (bkM (s.A 626)) (ewM (s.A 626)) h m (s.A 635))).S 27 = (setsF (bkM (s.A 626)) (ewM (s.A 626)) h m (s.A 635)).1 := sl_27
  generalize hF : (setsF (bkM (s.A 626)) (ewM (s.A 626)) h m (s.A 635)) = F at *
  refine AW.iconst (v := (-1)) dX2_nextKnock_25 (by decide) rfl ?_
  refine AW.istore_n (i := 3) dX2_nextKnock_26 rfl rfl (Nat.le_of_ble_eq_true rfl) rfl rfl ?_
  refine AW.ldcw dX2_nextKnock_27 q1921 rfl ?_
  refine AW.istore dX2_nextKnock_30 rfl (Nat.le_of_ble_eq_true rfl) rfl rfl ?_
  refine AW.iconst (v := 0) dX2_nextKnock_32 (by decide) rfl ?_
  refine AW.istore dX2_nextKnock_33 rfl (Nat.le_of_ble_eq_true rfl) rfl rfl ?_
  refine loopUp (P := fun k => AW 3 mX2_nextKnock (hp (sl s (datesP (bkM (s.A 626)) (ewM (s.A 626)) h).1 (datesP (bkM (s.A 626)) (ewM (s.A 626)) h).2 F)) 35 [some (.ref 625), some (.int (h)), some (.int (m)), some (.int ((nkF F.1 F.2.2 k).1)), some (.int ((nkF F.1 F.2.2 k).2)), some (.int (nI k)), none] [] (.inl (some (.int ((nkF F.1 F.2.2 20).1)))) (hp (sl s (datesP (bkM (s.A 626)) (ewM (s.A 626)) h).1 (datesP (bkM (s.A 626)) (ewM (s.A 626)) h).2 F))) 20 ?_ ?_ 0 (by first | exact Nat.zero_le _ | omega)
  · refine AW.iload dX2_nextKnock_35 rfl rfl ?_
    refine AW.bipush (v := 20) dX2_nextKnock_37 (by decide) rfl ?_
    refine AW.icmp_ge (tgt := 138) dX2_nextKnock_39 (by decide) rfl (fun _ => ?_) (fun c_ => by first | exact absurd c_ (by decide) | exact absurd (by decide) c_ | exact absurd c_ (not_not_intro (by decide)) | exact Bool.noConfusion (c_.symm.trans (by decide)))
    refine AW.iload_n dX2_nextKnock_138 rfl rfl ?_
    exact AW.iretE dX2_nextKnock_139 rfl rfl rfl rfl
  · intro k hk ihk
    refine AW.iload dX2_nextKnock_35 rfl rfl ?_
    refine AW.bipush (v := 20) dX2_nextKnock_37 (by decide) rfl ?_
    refine AW.icmp_ge (tgt := 138) dX2_nextKnock_39 (by decide) rfl (fun c_ => by first | exact absurd c_ (nI_nle20' hk) | exact absurd (nI_nle20' hk) c_ | exact Bool.noConfusion (c_.symm.trans (nI_nle20' hk))) (fun _ => ?_)
    refine AW.iconst (v := 2) dX2_nextKnock_42 (by decide) rfl ?_
    refine AW.aload_n dX2_nextKnock_43 rfl rfl ?_
    refine AW.get ci2 29 (by decide) q1380 dX2_nextKnock_44 gM rfl rfl ?_
    refine AW.iload dX2_nextKnock_47 rfl rfl ?_
    refine AW.iald dX2_nextKnock_49 gl635 (in0 k (by omega) (by decide)) (j := k) (cI_nI (by omega)) rfl ?_
    refine AW.imul dX2_nextKnock_50 rfl ?_
    refine AW.aload_n dX2_nextKnock_51 rfl rfl ?_
    refine AW.get ci2 27 (by decide) q1378 dX2_nextKnock_52 gM rfl rfl ?_
    refine AW.icmp_le (tgt := 75) dX2_nextKnock_55 (by decide) rfl (fun c55 => ?_) (fun c55 => ?_)
    · refine AW.aload_n dX2_nextKnock_75 rfl rfl ?_
      refine AW.get ci2 27 (by decide) q1378 dX2_nextKnock_76 gM rfl rfl ?_
      refine AW.iconst (v := 2) dX2_nextKnock_79 (by decide) rfl ?_
      refine AW.aload_n dX2_nextKnock_80 rfl rfl ?_
      refine AW.get ci2 29 (by decide) q1380 dX2_nextKnock_81 gM rfl rfl ?_
      refine AW.iload dX2_nextKnock_84 rfl rfl ?_
      refine AW.iald dX2_nextKnock_86 gl635 (in0 k (by omega) (by decide)) (j := k) (cI_nI (by omega)) rfl ?_
      refine AW.imul dX2_nextKnock_87 rfl ?_
      refine AW.isub dX2_nextKnock_88 rfl ?_
      refine AW.st (st' := [.int (farI F.1 (F.2.2 k))]) (by rw [f27] at c55 ⊢; unfold farI; first | (rw [if_neg (Int32.not_lt.mpr c55)]; done) | (rw [if_pos (Int32.not_le.mp c55)]; done)) ?_
      refine AW.istore dX2_nextKnock_89 rfl (Nat.le_of_ble_eq_true rfl) rfl rfl ?_
      refine AW.aload_n dX2_nextKnock_91 rfl rfl ?_
      refine AW.get ci2 29 (by decide) q1380 dX2_nextKnock_92 gM rfl rfl ?_
      refine AW.iload dX2_nextKnock_95 rfl rfl ?_
      refine AW.iald dX2_nextKnock_97 gl635 (in0 k (by omega) (by decide)) (j := k) (cI_nI (by omega)) rfl ?_
      refine AW.if_eq (tgt := 132) dX2_nextKnock_98 (by decide) rfl (fun c98 => ?_) (fun c98 => ?_)
      · refine AW.iinc (v := 1) dX2_nextKnock_132 rfl (by decide) rfl rfl rfl ?_
        refine AW.goto (tgt := 35) dX2_nextKnock_135 (by decide) ?_
        have es : nkF F.1 F.2.2 (k + 1) = if F.2.2 k = 0 ∨ F.2.2 k = F.1 ∨ ¬ farI F.1 (F.2.2 k) < (nkF F.1 F.2.2 k).2 then nkF F.1 F.2.2 k else (nI k, farI F.1 (F.2.2 k)) := rfl
        rw [if_pos (Or.inl c98)] at es
        exact AW.fg 6 rfl (AW.ls (by rw [es, nI_succ k]; rfl) ihk)
      · refine AW.aload_n dX2_nextKnock_101 rfl rfl ?_
        refine AW.get ci2 29 (by decide) q1380 dX2_nextKnock_102 gM rfl rfl ?_
        refine AW.iload dX2_nextKnock_105 rfl rfl ?_
        refine AW.iald dX2_nextKnock_107 gl635 (in0 k (by omega) (by decide)) (j := k) (cI_nI (by omega)) rfl ?_
        refine AW.aload_n dX2_nextKnock_108 rfl rfl ?_
        refine AW.get ci2 27 (by decide) q1378 dX2_nextKnock_109 gM rfl rfl ?_
        refine AW.icmp_eq (tgt := 132) dX2_nextKnock_112 (by decide) rfl (fun c112 => ?_) (fun c112 => ?_)
        · refine AW.iinc (v := 1) dX2_nextKnock_132 rfl (by decide) rfl rfl rfl ?_
          refine AW.goto (tgt := 35) dX2_nextKnock_135 (by decide) ?_
          have es : nkF F.1 F.2.2 (k + 1) = if F.2.2 k = 0 ∨ F.2.2 k = F.1 ∨ ¬ farI F.1 (F.2.2 k) < (nkF F.1 F.2.2 k).2 then nkF F.1 F.2.2 k else (nI k, farI F.1 (F.2.2 k)) := rfl
          rw [if_pos (Or.inr (Or.inl (by rw [f27] at c112; exact c112)))] at es
          exact AW.fg 6 rfl (AW.ls (by rw [es, nI_succ k]; rfl) ihk)
        · refine AW.iload dX2_nextKnock_115 rfl rfl ?_
          refine AW.iload dX2_nextKnock_117 rfl rfl ?_
          refine AW.icmp_lt (tgt := 125) dX2_nextKnock_119 (by decide) rfl (fun c119 => ?_) (fun c119 => ?_)
          · refine AW.iload dX2_nextKnock_125 rfl rfl ?_
            refine AW.istore dX2_nextKnock_127 rfl (Nat.le_of_ble_eq_true rfl) rfl rfl ?_
            refine AW.iload dX2_nextKnock_129 rfl rfl ?_
            refine AW.istore_n (i := 3) dX2_nextKnock_131 rfl rfl (Nat.le_of_ble_eq_true rfl) rfl rfl ?_
            refine AW.iinc (v := 1) dX2_nextKnock_132 rfl (by decide) rfl rfl rfl ?_
            refine AW.goto (tgt := 35) dX2_nextKnock_135 (by decide) ?_
            have es : nkF F.1 F.2.2 (k + 1) = if F.2.2 k = 0 ∨ F.2.2 k = F.1 ∨ ¬ farI F.1 (F.2.2 k) < (nkF F.1 F.2.2 k).2 then nkF F.1 F.2.2 k else (nI k, farI F.1 (F.2.2 k)) := rfl
            rw [if_neg (fun q => by rcases q with q | q | q; exact c98 q; exact c112 (by rw [f27]; exact q); exact q c119)] at es
            exact AW.fg 6 rfl (AW.ls (by rw [es, nI_succ k]; rfl) ihk)
          · refine AW.goto (tgt := 132) dX2_nextKnock_122 (by decide) ?_
            refine AW.iinc (v := 1) dX2_nextKnock_132 rfl (by decide) rfl rfl rfl ?_
            refine AW.goto (tgt := 35) dX2_nextKnock_135 (by decide) ?_
            have es : nkF F.1 F.2.2 (k + 1) = if F.2.2 k = 0 ∨ F.2.2 k = F.1 ∨ ¬ farI F.1 (F.2.2 k) < (nkF F.1 F.2.2 k).2 then nkF F.1 F.2.2 k else (nI k, farI F.1 (F.2.2 k)) := rfl
            rw [if_pos (Or.inr (Or.inr c119))] at es
            exact AW.fg 6 rfl (AW.ls (by rw [es, nI_succ k]; rfl) ihk)
    · refine AW.iconst (v := 2) dX2_nextKnock_58 (by decide) rfl ?_
      refine AW.aload_n dX2_nextKnock_59 rfl rfl ?_
      refine AW.get ci2 29 (by decide) q1380 dX2_nextKnock_60 gM rfl rfl ?_
      refine AW.iload dX2_nextKnock_63 rfl rfl ?_
      refine AW.iald dX2_nextKnock_65 gl635 (in0 k (by omega) (by decide)) (j := k) (cI_nI (by omega)) rfl ?_
      refine AW.imul dX2_nextKnock_66 rfl ?_
      refine AW.aload_n dX2_nextKnock_67 rfl rfl ?_
      refine AW.get ci2 27 (by decide) q1378 dX2_nextKnock_68 gM rfl rfl ?_
      refine AW.isub dX2_nextKnock_71 rfl ?_
      refine AW.goto (tgt := 89) dX2_nextKnock_72 (by decide) ?_
      refine AW.st (st' := [.int (farI F.1 (F.2.2 k))]) (by rw [f27] at c55 ⊢; unfold farI; first | (rw [if_neg (Int32.not_lt.mpr c55)]; done) | (rw [if_pos (Int32.not_le.mp c55)]; done)) ?_
      refine AW.istore dX2_nextKnock_89 rfl (Nat.le_of_ble_eq_true rfl) rfl rfl ?_
      refine AW.aload_n dX2_nextKnock_91 rfl rfl ?_
      refine AW.get ci2 29 (by decide) q1380 dX2_nextKnock_92 gM rfl rfl ?_
      refine AW.iload dX2_nextKnock_95 rfl rfl ?_
      refine AW.iald dX2_nextKnock_97 gl635 (in0 k (by omega) (by decide)) (j := k) (cI_nI (by omega)) rfl ?_
      refine AW.if_eq (tgt := 132) dX2_nextKnock_98 (by decide) rfl (fun c98 => ?_) (fun c98 => ?_)
      · refine AW.iinc (v := 1) dX2_nextKnock_132 rfl (by decide) rfl rfl rfl ?_
        refine AW.goto (tgt := 35) dX2_nextKnock_135 (by decide) ?_
        have es : nkF F.1 F.2.2 (k + 1) = if F.2.2 k = 0 ∨ F.2.2 k = F.1 ∨ ¬ farI F.1 (F.2.2 k) < (nkF F.1 F.2.2 k).2 then nkF F.1 F.2.2 k else (nI k, farI F.1 (F.2.2 k)) := rfl
        rw [if_pos (Or.inl c98)] at es
        exact AW.fg 6 rfl (AW.ls (by rw [es, nI_succ k]; rfl) ihk)
      · refine AW.aload_n dX2_nextKnock_101 rfl rfl ?_
        refine AW.get ci2 29 (by decide) q1380 dX2_nextKnock_102 gM rfl rfl ?_
        refine AW.iload dX2_nextKnock_105 rfl rfl ?_
        refine AW.iald dX2_nextKnock_107 gl635 (in0 k (by omega) (by decide)) (j := k) (cI_nI (by omega)) rfl ?_
        refine AW.aload_n dX2_nextKnock_108 rfl rfl ?_
        refine AW.get ci2 27 (by decide) q1378 dX2_nextKnock_109 gM rfl rfl ?_
        refine AW.icmp_eq (tgt := 132) dX2_nextKnock_112 (by decide) rfl (fun c112 => ?_) (fun c112 => ?_)
        · refine AW.iinc (v := 1) dX2_nextKnock_132 rfl (by decide) rfl rfl rfl ?_
          refine AW.goto (tgt := 35) dX2_nextKnock_135 (by decide) ?_
          have es : nkF F.1 F.2.2 (k + 1) = if F.2.2 k = 0 ∨ F.2.2 k = F.1 ∨ ¬ farI F.1 (F.2.2 k) < (nkF F.1 F.2.2 k).2 then nkF F.1 F.2.2 k else (nI k, farI F.1 (F.2.2 k)) := rfl
          rw [if_pos (Or.inr (Or.inl (by rw [f27] at c112; exact c112)))] at es
          exact AW.fg 6 rfl (AW.ls (by rw [es, nI_succ k]; rfl) ihk)
        · refine AW.iload dX2_nextKnock_115 rfl rfl ?_
          refine AW.iload dX2_nextKnock_117 rfl rfl ?_
          refine AW.icmp_lt (tgt := 125) dX2_nextKnock_119 (by decide) rfl (fun c119 => ?_) (fun c119 => ?_)
          · refine AW.iload dX2_nextKnock_125 rfl rfl ?_
            refine AW.istore dX2_nextKnock_127 rfl (Nat.le_of_ble_eq_true rfl) rfl rfl ?_
            refine AW.iload dX2_nextKnock_129 rfl rfl ?_
            refine AW.istore_n (i := 3) dX2_nextKnock_131 rfl rfl (Nat.le_of_ble_eq_true rfl) rfl rfl ?_
            refine AW.iinc (v := 1) dX2_nextKnock_132 rfl (by decide) rfl rfl rfl ?_
            refine AW.goto (tgt := 35) dX2_nextKnock_135 (by decide) ?_
            have es : nkF F.1 F.2.2 (k + 1) = if F.2.2 k = 0 ∨ F.2.2 k = F.1 ∨ ¬ farI F.1 (F.2.2 k) < (nkF F.1 F.2.2 k).2 then nkF F.1 F.2.2 k else (nI k, farI F.1 (F.2.2 k)) := rfl
            rw [if_neg (fun q => by rcases q with q | q | q; exact c98 q; exact c112 (by rw [f27]; exact q); exact q c119)] at es
            exact AW.fg 6 rfl (AW.ls (by rw [es, nI_succ k]; rfl) ihk)
          · refine AW.goto (tgt := 132) dX2_nextKnock_122 (by decide) ?_
            refine AW.iinc (v := 1) dX2_nextKnock_132 rfl (by decide) rfl rfl rfl ?_
            refine AW.goto (tgt := 35) dX2_nextKnock_135 (by decide) ?_
            have es : nkF F.1 F.2.2 (k + 1) = if F.2.2 k = 0 ∨ F.2.2 k = F.1 ∨ ¬ farI F.1 (F.2.2 k) < (nkF F.1 F.2.2 k).2 then nkF F.1 F.2.2 k else (nI k, farI F.1 (F.2.2 k)) := rfl
            rw [if_pos (Or.inr (Or.inr c119))] at es
            exact AW.fg 6 rfl (AW.ls (by rw [es, nI_succ k]; rfl) ihk)
