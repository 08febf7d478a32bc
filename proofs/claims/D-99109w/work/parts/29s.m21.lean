/-! MODEL 21: odds, next knock, thieves (printed by tools/m21.py) -/
set_option maxRecDepth 100000
theorem nI_rem {a b : Nat} (ha : a < 2147483648) (hb : b < 2147483648) : nI a % nI b = nI (a % b) := by
  apply Int32.toInt_inj.mp
  have h1 : a % b ≤ a := Nat.mod_le a b
  rw [nI_t (by omega)]
  show ((nI a) % (nI b)).toInt = _
  rw [Int32.toInt_mod, nI_t ha, nI_t hb]
  rfl
theorem nI_nz {a : Nat} (ha : a < 2147483648) (h : a ≠ 0) : ¬ nI a = 0 := fun q => h (by
  have := nI_t ha
  rw [q] at this
  have t : (0 : Int32).toInt = 0 := rfl
  omega)
theorem common_l {h : AH} {x y : Int32} : ∀ (n p : Nat), p < 2147483648 → n < 2147483648 → AW 1 mX2_common h 4 [some (.int x), some (.int y), some (.int (nI p)), some (.int (nI n)), none] [] (.inl (some (.int (nI (Nat.gcd p n))))) h := by
  intro n
  induction n using Nat.strongRecOn with
  | ind n ih =>
    intro p hp hn
    by_cases h0 : n = 0
    · subst h0
      rw [Nat.gcd_zero_right]
      refine AW.iload_n dX2_common_4 rfl rfl ?_
      refine AW.if_eq (tgt := 21) dX2_common_5 (by decide) rfl (fun _ => ?_) (fun c_ => by first | exact absurd c_ (show nI 0 = 0 from rfl) | exact absurd (show nI 0 = 0 from rfl) c_ | exact absurd c_ (not_not_intro (show nI 0 = 0 from rfl)) | exact Bool.noConfusion (c_.symm.trans (show nI 0 = 0 from rfl)))
      refine AW.iload_n dX2_common_21 rfl rfl ?_
      exact AW.iretE dX2_common_22 rfl rfl rfl rfl
    · have hlt : p % n < n := Nat.mod_lt p (by omega)
      rw [Nat.gcd_comm, Nat.gcd_rec, Nat.gcd_comm]
      refine AW.iload_n dX2_common_4 rfl rfl ?_
      refine AW.if_eq (tgt := 21) dX2_common_5 (by decide) rfl (fun c_ => by first | exact absurd c_ (nI_nz hn h0) | exact absurd (nI_nz hn h0) c_ | exact Bool.noConfusion (c_.symm.trans (nI_nz hn h0))) (fun _ => ?_)
      refine AW.iload_n dX2_common_8 rfl rfl ?_
      refine AW.iload_n dX2_common_9 rfl rfl ?_
      refine AW.irem dX2_common_10 (nI_nz hn h0) rfl ?_
      refine AW.istore dX2_common_11 rfl (Nat.le_of_ble_eq_true rfl) rfl rfl ?_
      refine AW.iload_n dX2_common_13 rfl rfl ?_
      refine AW.istore_n (i := 2) dX2_common_14 rfl rfl (Nat.le_of_ble_eq_true rfl) rfl rfl ?_
      refine AW.iload dX2_common_15 rfl rfl ?_
      refine AW.istore_n (i := 3) dX2_common_17 rfl rfl (Nat.le_of_ble_eq_true rfl) rfl rfl ?_
      refine AW.goto (tgt := 4) dX2_common_18 (by decide) ?_
      exact AW.fg 4 rfl (AW.ls (by rw [nI_rem hp hn]; rfl) (ih (p % n) hlt n hn (by omega)))
theorem r_X2_common {h : AH} (p n : Nat) (hp : p < 2147483648) (hn : n < 2147483648) : Run 1 mX2_common [.int (nI p), .int (nI n)] h (.inl (some (.int (nI (Nat.gcd p n))))) h := by
  refine Run.of rfl (Nat.le_of_ble_eq_true rfl) rfl ?_
  refine AW.iload_n dX2_common_0 rfl rfl ?_
  refine AW.istore_n (i := 2) dX2_common_1 rfl rfl (Nat.le_of_ble_eq_true rfl) rfl rfl ?_
  refine AW.iload_n dX2_common_2 rfl rfl ?_
  refine AW.istore_n (i := 3) dX2_common_3 rfl rfl (Nat.le_of_ble_eq_true rfl) rfl rfl ?_
  exact common_l n p hp hn
def oddsF (c w : Nat) (low : Bool) : Int32 := if c = 0 then b2i low else nI ((if low = true then c else w) / Nat.gcd w c)
theorem nI_div {a b : Nat} (ha : a < 2147483648) (hb : b < 2147483648) : nI a / nI b = nI (a / b) := by
  apply Int32.toInt_inj.mp
  have h1 : a / b ≤ a := Nat.div_le_self a b
  rw [nI_t (by omega)]
  show ((nI a) / (nI b)).toInt = _
  rw [Int32.toInt_div, nI_t ha, nI_t hb]
  rw [Int.tdiv_eq_ediv_of_nonneg (by omega)]
  rw [← Int.natCast_ediv]
  generalize a / b = c at *
  exact Int.bmod_eq_of_le (by omega) (by omega)
theorem r_X2_odds_f {s : Sg} (h m dt : Int32) (p : Bool) (hc : ((vwM (s.A 626)).hou h && (inI m 1 3 && inI dt 0 19)) = false) : Run 3 mX2_odds [.ref 625, .int h, .int m, .int dt, .int (b2i p)] (hp s) (.inl (some (.int (-1)))) (hp s) := by
  refine Run.of rfl (Nat.le_of_ble_eq_true rfl) rfl ?_
  refine AW.aload_n dX2_odds_0 rfl rfl ?_
  refine AW.iload_n dX2_odds_1 rfl rfl ?_
  refine AW.callV (Y := mX2_isHouse) (n := 1) (r_X2_isHouse _) (by decide) (by decide) rfl gM q1653 q1655 qs92 q141 q1656 dX2_odds_2 (by decide +kernel) rfl rfl (Nat.le_of_ble_eq_true rfl) rfl ?_
  refine AW.if_eqB (tgt := 27) dX2_odds_5 (by decide) rfl (fun c5 => ?_) (fun c5 => ?_)
  · refine AW.iconst (v := (-1)) dX2_odds_27 (by decide) rfl ?_
    exact AW.iretE dX2_odds_28 rfl rfl rfl rfl
  · refine AW.iload_n dX2_odds_8 rfl rfl ?_
    refine AW.iconst (v := 1) dX2_odds_9 (by decide) rfl ?_
    refine AW.iconst (v := 3) dX2_odds_10 (by decide) rfl ?_
    refine AW.callS (Y := mX2_isIn) (n := 3) (r_X2_isIn _ _ _) (by decide) (by decide) q1466 q1467 q141 q1468 dX2_odds_11 (by decide +kernel) rfl rfl (Nat.le_of_ble_eq_true rfl) rfl ?_
    refine AW.if_eqB (tgt := 27) dX2_odds_14 (by decide) rfl (fun c14 => ?_) (fun c14 => ?_)
    · refine AW.iconst (v := (-1)) dX2_odds_27 (by decide) rfl ?_
      exact AW.iretE dX2_odds_28 rfl rfl rfl rfl
    · refine AW.iload_n dX2_odds_17 rfl rfl ?_
      refine AW.iconst (v := 0) dX2_odds_18 (by decide) rfl ?_
      refine AW.bipush (v := 19) dX2_odds_19 (by decide) rfl ?_
      refine AW.callS (Y := mX2_isIn) (n := 3) (r_X2_isIn _ _ _) (by decide) (by decide) q1466 q1467 q141 q1468 dX2_odds_21 (by decide +kernel) rfl rfl (Nat.le_of_ble_eq_true rfl) rfl ?_
      refine AW.if_neB (tgt := 29) dX2_odds_24 (by decide) rfl (fun c24 => ?_) (fun c24 => ?_)
      · exact absurd hc (by rw [c5, c14, c24]; decide)
      · refine AW.iconst (v := (-1)) dX2_odds_27 (by decide) rfl ?_
        exact AW.iretE dX2_odds_28 rfl rfl rfl rfl
theorem r_X2_odds_t {s : Sg} (hb : (bkM (s.A 626)).ok) (he : (ewM (s.A 626)).ok) (h m dt : Int32) (p : Bool) (hc : ((vwM (s.A 626)).hou h && (inI m 1 3 && inI dt 0 19)) = true) (c w : Nat) (hc1 : (setsF (bkM (s.A 626)) (ewM (s.A 626)) h m (s.A 635)).1 = nI c) (hw : (setsF (bkM (s.A 626)) (ewM (s.A 626)) h m (s.A 635)).2.2 (cI dt) = nI w) (hcl : c < 2147483648) (hwl : w < 2147483648) : Run 3 mX2_odds [.ref 625, .int h, .int m, .int dt, .int (b2i p)] (hp s) (.inl (some (.int (oddsF c w p)))) (hp (sl s (datesP (bkM (s.A 626)) (ewM (s.A 626)) h).1 (datesP (bkM (s.A 626)) (ewM (s.A 626)) h).2 (setsF (bkM (s.A 626)) (ewM (s.A 626)) h m (s.A 635)))) := by
  have hc2 := Bool.and_eq_true_iff.mp hc
  have hc3 := Bool.and_eq_true_iff.mp hc2.2
  have hdt := inI_iff.mp hc3.2
  rw [t0, show (19 : Int32).toInt = 19 from rfl] at hdt
  refine Run.of rfl (Nat.le_of_ble_eq_true rfl) rfl ?_
  refine AW.aload_n dX2_odds_0 rfl rfl ?_
  refine AW.iload_n dX2_odds_1 rfl rfl ?_
  refine AW.callV (Y := mX2_isHouse) (n := 1) (r_X2_isHouse _) (by decide) (by decide) rfl gM q1653 q1655 qs92 q141 q1656 dX2_odds_2 (by decide +kernel) rfl rfl (Nat.le_of_ble_eq_true rfl) rfl ?_
  refine AW.if_eqB (tgt := 27) dX2_odds_5 (by decide) rfl (fun c_ => by first | exact absurd c_ hc2.1 | exact absurd hc2.1 c_ | exact Bool.noConfusion (c_.symm.trans hc2.1)) (fun _ => ?_)
  refine AW.iload_n dX2_odds_8 rfl rfl ?_
  refine AW.iconst (v := 1) dX2_odds_9 (by decide) rfl ?_
  refine AW.iconst (v := 3) dX2_odds_10 (by decide) rfl ?_
  refine AW.callS (Y := mX2_isIn) (n := 3) (r_X2_isIn _ _ _) (by decide) (by decide) q1466 q1467 q141 q1468 dX2_odds_11 (by decide +kernel) rfl rfl (Nat.le_of_ble_eq_true rfl) rfl ?_
  refine AW.if_eqB (tgt := 27) dX2_odds_14 (by decide) rfl (fun c_ => by first | exact absurd c_ hc3.1 | exact absurd hc3.1 c_ | exact Bool.noConfusion (c_.symm.trans hc3.1)) (fun _ => ?_)
  refine AW.iload_n dX2_odds_17 rfl rfl ?_
  refine AW.iconst (v := 0) dX2_odds_18 (by decide) rfl ?_
  refine AW.bipush (v := 19) dX2_odds_19 (by decide) rfl ?_
  refine AW.callS (Y := mX2_isIn) (n := 3) (r_X2_isIn _ _ _) (by decide) (by decide) q1466 q1467 q141 q1468 dX2_odds_21 (by decide +kernel) rfl rfl (Nat.le_of_ble_eq_true rfl) rfl ?_
  refine AW.if_neB (tgt := 29) dX2_odds_24 (by decide) rfl (fun _ => ?_) (fun c_ => by first | exact absurd c_ hc3.2 | exact absurd hc3.2 c_ | exact absurd c_ (not_not_intro hc3.2) | exact Bool.noConfusion (c_.symm.trans hc3.2))
  refine AW.aload_n dX2_odds_29 rfl rfl ?_
  refine AW.iload_n dX2_odds_30 rfl rfl ?_
  refine AW.iload_n dX2_odds_31 rfl rfl ?_
  refine AW.callV (Y := mX2_laySets) (n := 2) (r_X2_laySets hb he h m hc3.1) (by decide) (by decide) rfl gM q1897 q1899 qs123 q141 q1900 dX2_odds_32 (by decide +kernel) rfl rfl (Nat.le_of_ble_eq_true rfl) rfl ?_
  have f27 : (sl s (datesP (bkM (s.A 626)) (ewM (s.A 626)) h).1 (datesP (bkM (s.A 626)) (ewM (s.A 626)) h).2 (setsF (bkM (s.A 626)) (ewM (s.A 626)) h m (s.A 635))).S 27 = (setsF (bkM (s.A 626)) (ewM (s.A 626)) h m (s.A 635)).1 := sl_27
  generalize hF : (setsF (bkM (s.A 626)) (ewM (s.A 626)) h m (s.A 635)) = F at *
  refine AW.aload_n dX2_odds_35 rfl rfl ?_
  refine AW.get ci2 27 (by decide) q1378 dX2_odds_36 gM rfl rfl ?_
  refine AW.if_ne (tgt := 53) dX2_odds_39 (by decide) rfl (fun c39 => ?_) (fun c39 => ?_)
  · have c0 : ¬ c = 0 := fun q => c39 (by rw [f27, hc1, q]; rfl)
    refine AW.iload dX2_odds_53 rfl rfl ?_
    refine AW.if_eqB (tgt := 65) dX2_odds_55 (by decide) rfl (fun c55 => ?_) (fun c55 => ?_)
    · refine AW.aload_n dX2_odds_65 rfl rfl ?_
      refine AW.get ci2 29 (by decide) q1380 dX2_odds_66 gM rfl rfl ?_
      refine AW.iload_n dX2_odds_69 rfl rfl ?_
      refine AW.iald dX2_odds_70 gl635 (vp_in_iff.mpr (by omega)) rfl rfl ?_
      refine AW.aload_n dX2_odds_71 rfl rfl ?_
      refine AW.get ci2 29 (by decide) q1380 dX2_odds_72 gM rfl rfl ?_
      refine AW.iload_n dX2_odds_75 rfl rfl ?_
      refine AW.iald dX2_odds_76 gl635 (vp_in_iff.mpr (by omega)) rfl rfl ?_
      refine AW.st (st' := [.int (nI w), .int (nI (if p = true then c else w))]) (by rw [hw]; first | (rw [if_pos c55, ← hc1, ← f27]; rfl) | (rw [if_neg (by rw [c55]; decide)]; rfl)) ?_
      refine AW.aload_n dX2_odds_77 rfl rfl ?_
      refine AW.get ci2 27 (by decide) q1378 dX2_odds_78 gM rfl rfl ?_
      refine AW.st (st' := [.int (nI c), .int (nI w), .int (nI (if p = true then c else w))]) (by rw [← hc1, ← f27]) ?_
      refine AW.callS (Y := mX2_common) (n := 2) (r_X2_common w c hwl hcl) (by decide) (by decide) q1914 q1915 q141 q1916 dX2_odds_81 (by decide +kernel) rfl rfl (Nat.le_of_ble_eq_true rfl) rfl ?_
      refine AW.idiv dX2_odds_84 (nI_nz (by have := Nat.gcd_le_right w (Nat.pos_of_ne_zero c0); omega) (fun q => c0 (Nat.gcd_eq_zero_iff.mp q).2)) rfl ?_
      exact AW.iretE dX2_odds_85 rfl rfl (by unfold oddsF; first | (rw [if_neg c0, nI_div (by split <;> assumption) (by have := Nat.gcd_le_right w (Nat.pos_of_ne_zero c0); omega)]; done) | (rw [if_pos (by rw [f27, hc1] at c39; exact Classical.byContradiction (fun q => nI_nz hcl q c39)), show p = _ from c44]; rfl)) rfl
    · refine AW.aload_n dX2_odds_58 rfl rfl ?_
      refine AW.get ci2 27 (by decide) q1378 dX2_odds_59 gM rfl rfl ?_
      refine AW.goto (tgt := 71) dX2_odds_62 (by decide) ?_
      refine AW.aload_n dX2_odds_71 rfl rfl ?_
      refine AW.get ci2 29 (by decide) q1380 dX2_odds_72 gM rfl rfl ?_
      refine AW.iload_n dX2_odds_75 rfl rfl ?_
      refine AW.iald dX2_odds_76 gl635 (vp_in_iff.mpr (by omega)) rfl rfl ?_
      refine AW.st (st' := [.int (nI w), .int (nI (if p = true then c else w))]) (by rw [hw]; first | (rw [if_pos c55, ← hc1, ← f27]; rfl) | (rw [if_neg (by rw [c55]; decide)]; rfl)) ?_
      refine AW.aload_n dX2_odds_77 rfl rfl ?_
      refine AW.get ci2 27 (by decide) q1378 dX2_odds_78 gM rfl rfl ?_
      refine AW.st (st' := [.int (nI c), .int (nI w), .int (nI (if p = true then c else w))]) (by rw [← hc1, ← f27]) ?_
      refine AW.callS (Y := mX2_common) (n := 2) (r_X2_common w c hwl hcl) (by decide) (by decide) q1914 q1915 q141 q1916 dX2_odds_81 (by decide +kernel) rfl rfl (Nat.le_of_ble_eq_true rfl) rfl ?_
      refine AW.idiv dX2_odds_84 (nI_nz (by have := Nat.gcd_le_right w (Nat.pos_of_ne_zero c0); omega) (fun q => c0 (Nat.gcd_eq_zero_iff.mp q).2)) rfl ?_
      exact AW.iretE dX2_odds_85 rfl rfl (by unfold oddsF; first | (rw [if_neg c0, nI_div (by split <;> assumption) (by have := Nat.gcd_le_right w (Nat.pos_of_ne_zero c0); omega)]; done) | (rw [if_pos (by rw [f27, hc1] at c39; exact Classical.byContradiction (fun q => nI_nz hcl q c39)), show p = _ from c44]; rfl)) rfl
  · refine AW.iload dX2_odds_42 rfl rfl ?_
    refine AW.if_eqB (tgt := 51) dX2_odds_44 (by decide) rfl (fun c44 => ?_) (fun c44 => ?_)
    · refine AW.iconst (v := 0) dX2_odds_51 (by decide) rfl ?_
      exact AW.iretE dX2_odds_52 rfl rfl (by unfold oddsF; first | (rw [if_neg c0, nI_div (by split <;> assumption) (by have := Nat.gcd_le_right w (Nat.pos_of_ne_zero c0); omega)]; done) | (rw [if_pos (by rw [f27, hc1] at c39; exact Classical.byContradiction (fun q => nI_nz hcl q c39)), show p = _ from c44]; rfl)) rfl
    · refine AW.iconst (v := 1) dX2_odds_47 (by decide) rfl ?_
      refine AW.goto (tgt := 52) dX2_odds_48 (by decide) ?_
      exact AW.iretE dX2_odds_52 rfl rfl (by unfold oddsF; first | (rw [if_neg c0, nI_div (by split <;> assumption) (by have := Nat.gcd_le_right w (Nat.pos_of_ne_zero c0); omega)]; done) | (rw [if_pos (by rw [f27, hc1] at c39; exact Classical.byContradiction (fun q => nI_nz hcl q c39)), show p = _ from c44]; rfl)) rfl
