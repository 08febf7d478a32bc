/-! SYSTEM 8: sets of dates, odds; what is fed (printed by tools/x8.py) -/
set_option maxRecDepth 100000
def heldI (v : Int64) (lo hi : Int32) : Int32 := (maxL lo.toInt64 (minL hi.toInt64 v)).toInt32
def waysI : Nat → Int32 → Int32 → Int32
  | 0, _, _ => 0
  | f + 1, n, k => if k < 0 then 0 else if n < k then 0 else if k = 0 then 1 else waysI f n (k - 1) * (n - k + 1) / k
theorem waysE {f : Nat} {n k : Int32} : waysI (f + 1) n k = if k < 0 then 0 else if n < k then 0 else if k = 0 then 1 else waysI f n (k - 1) * (n - k + 1) / k := rfl
def setsW (must may m : Int32) : Int32 := if must &&& may = 0 then waysI 4 (20 - bcI (must ||| may)) (m - bcI must) else 0
def setsWS (b : Bw) (e : Ew) (h m more : Int32) : Int32 := setsW (datesS b e h 1 ||| more) (datesS b e h 0) m
def sureS (b : Bw) (e : Ew) (h m : Int32) : Nat → Int32 := orUp (fun d => if setsWS b e h m (bit (nI d)) = setsWS b e h m 0 then bit (nI d) else 0)
def nkS (a : Int32) (w : Nat → Int32) : Nat → Int32 × Int32
  | 0 => (-1, a)
  | k + 1 => if absI (2 * w k - a) < (nkS a w k).2 then (nI k, absI (2 * w k - a)) else nkS a w k
def likeI (x : Int32) : Int32 := (x + (x &&& -x)) ||| (((x ^^^ (x + (x &&& -x))) / (x &&& -x)) >>> (2 &&& 31))
theorem and63 (x : Int32) : 0 ≤ (x &&& 63).toInt ∧ (x &&& 63).toInt ≤ 63 := by
  have h : x &&& 63 = nI (bN x &&& 63) := by
    apply Int32.toBitVec_inj.mp
    apply BitVec.eq_of_toNat_eq
    show (x.toBitVec &&& (63 : Int32).toBitVec).toNat = (Int32.ofNat (bN x &&& 63)).toBitVec.toNat
    rw [BitVec.toNat_and]
    have q : x.toBitVec.toNat &&& 63 ≤ 63 := Nat.and_le_right
    show x.toBitVec.toNat &&& 63 = (BitVec.ofNat 32 (x.toBitVec.toNat &&& 63)).toNat
    rw [BitVec.toNat_ofNat, Nat.mod_eq_of_lt (by omega)]
  have q : bN x &&& 63 ≤ 63 := Nat.and_le_right
  rw [h, nI_t (by omega)]
  omega
theorem bcI_b (x : Int32) : 0 ≤ (bcI x).toInt ∧ (bcI x).toInt ≤ 63 := and63 _
theorem r_X0_held {h : AH} (v : Int64) (lo hi : Int32) : Run 2 mX0_held [.long v, .int lo, .int hi] h (.inl (some (.int (heldI v lo hi)))) h := by
  refine Run.of rfl (Nat.le_of_ble_eq_true rfl) rfl ?_
  refine AW.iload_n dX0_held_0 rfl rfl ?_
  refine AW.i2l dX0_held_1 rfl ?_
  refine AW.iload_n dX0_held_2 rfl rfl ?_
  refine AW.i2l dX0_held_3 rfl ?_
  refine AW.lload_n dX0_held_4 rfl rfl ?_
  refine AW.mminL dX0_held_5 q968 q960 q151 q961 (by decide) (Nat.le_of_ble_eq_true rfl) rfl ?_
  refine AW.mmaxL dX0_held_8 q969 q963 q151 q964 (by decide) (Nat.le_of_ble_eq_true rfl) rfl ?_
  refine AW.l2i dX0_held_11 rfl ?_
  exact AW.iretE dX0_held_12 rfl rfl rfl rfl
theorem r_X0_ways {h : AH} : ∀ (f : Nat) (n k : Int32), k.toInt ≤ f → Run (f + 1) mX0_ways [.int n, .int k] h (.inl (some (.int (waysI (f + 1) n k)))) h := by
  intro f
  induction f with
  | zero =>
    intro n k hk
    refine Run.of rfl (Nat.le_of_ble_eq_true rfl) rfl ?_
    refine AW.iload_n dX0_ways_0 rfl rfl ?_
    refine AW.if_lt (tgt := 9) dX0_ways_1 (by decide) rfl (fun c1 => ?_) (fun c1 => ?_)
    · refine AW.iconst (v := 0) dX0_ways_9 (by decide) rfl ?_
      refine AW.goto (tgt := 36) dX0_ways_10 (by decide) ?_
      exact AW.iretE dX0_ways_36 rfl rfl (by rw [waysE (n := n) (k := k)]; first | (rw [if_pos c1]; done) | (rw [if_neg (Int32.not_lt.mpr (Int32.not_lt.mp c1)), if_pos (Int32.not_le.mp c6)]; done) | (rw [if_neg c1, if_neg (Int32.not_lt.mpr c6), if_pos c14]; done) | (rw [if_neg c1, if_neg (Int32.not_lt.mpr c6), if_neg c14]; done)) rfl
    · refine AW.iload_n dX0_ways_4 rfl rfl ?_
      refine AW.iload_n dX0_ways_5 rfl rfl ?_
      refine AW.icmp_ge (tgt := 13) dX0_ways_6 (by decide) rfl (fun c6 => ?_) (fun c6 => ?_)
      · refine AW.iload_n dX0_ways_13 rfl rfl ?_
        refine AW.if_ne (tgt := 21) dX0_ways_14 (by decide) rfl (fun c14 => ?_) (fun c14 => ?_)
        · exact absurd (Int32.toInt_inj.mp (by have := Int32.le_iff_toInt_le.mp (Int32.not_lt.mp c1); have e0 : (0 : Int32).toInt = 0 := rfl; omega)) c14
        · refine AW.iconst (v := 1) dX0_ways_17 (by decide) rfl ?_
          refine AW.goto (tgt := 36) dX0_ways_18 (by decide) ?_
          exact AW.iretE dX0_ways_36 rfl rfl (by rw [waysE (n := n) (k := k)]; first | (rw [if_pos c1]; done) | (rw [if_neg (Int32.not_lt.mpr (Int32.not_lt.mp c1)), if_pos (Int32.not_le.mp c6)]; done) | (rw [if_neg c1, if_neg (Int32.not_lt.mpr c6), if_pos c14]; done) | (rw [if_neg c1, if_neg (Int32.not_lt.mpr c6), if_neg c14]; done)) rfl
      · refine AW.iconst (v := 0) dX0_ways_9 (by decide) rfl ?_
        refine AW.goto (tgt := 36) dX0_ways_10 (by decide) ?_
        exact AW.iretE dX0_ways_36 rfl rfl (by rw [waysE (n := n) (k := k)]; first | (rw [if_pos c1]; done) | (rw [if_neg (Int32.not_lt.mpr (Int32.not_lt.mp c1)), if_pos (Int32.not_le.mp c6)]; done) | (rw [if_neg c1, if_neg (Int32.not_lt.mpr c6), if_pos c14]; done) | (rw [if_neg c1, if_neg (Int32.not_lt.mpr c6), if_neg c14]; done)) rfl
  | succ f ih =>
    intro n k hk
    refine Run.of rfl (Nat.le_of_ble_eq_true rfl) rfl ?_
    refine AW.iload_n dX0_ways_0 rfl rfl ?_
    refine AW.if_lt (tgt := 9) dX0_ways_1 (by decide) rfl (fun c1 => ?_) (fun c1 => ?_)
    · refine AW.iconst (v := 0) dX0_ways_9 (by decide) rfl ?_
      refine AW.goto (tgt := 36) dX0_ways_10 (by decide) ?_
      exact AW.iretE dX0_ways_36 rfl rfl (by rw [waysE (n := n) (k := k)]; first | (rw [if_pos c1]; done) | (rw [if_neg (Int32.not_lt.mpr (Int32.not_lt.mp c1)), if_pos (Int32.not_le.mp c6)]; done) | (rw [if_neg c1, if_neg (Int32.not_lt.mpr c6), if_pos c14]; done) | (rw [if_neg c1, if_neg (Int32.not_lt.mpr c6), if_neg c14]; done)) rfl
    · refine AW.iload_n dX0_ways_4 rfl rfl ?_
      refine AW.iload_n dX0_ways_5 rfl rfl ?_
      refine AW.icmp_ge (tgt := 13) dX0_ways_6 (by decide) rfl (fun c6 => ?_) (fun c6 => ?_)
      · refine AW.iload_n dX0_ways_13 rfl rfl ?_
        refine AW.if_ne (tgt := 21) dX0_ways_14 (by decide) rfl (fun c14 => ?_) (fun c14 => ?_)
        · refine AW.iload_n dX0_ways_21 rfl rfl ?_
          refine AW.iload_n dX0_ways_22 rfl rfl ?_
          refine AW.iconst (v := 1) dX0_ways_23 (by decide) rfl ?_
          refine AW.isub dX0_ways_24 rfl ?_
          have hk2 : (k - 1).toInt ≤ f := by have hu := Int32.toInt_lt k; have h0 := Int32.le_iff_toInt_le.mp (Int32.not_lt.mp c1); have e0 : (0 : Int32).toInt = 0 := rfl; have e1 : (1 : Int32).toInt = 1 := rfl; have := subI (a := k) (b := 1) (by omega) (by omega); omega
          refine AW.callS (Y := mX0_ways) (n := 2) (ih n (k - 1) hk2) (by omega) (by decide) q1201 q1202 q138 q1203 dX0_ways_25 (by decide +kernel) rfl rfl (Nat.le_of_ble_eq_true rfl) rfl ?_
          refine AW.iload_n dX0_ways_28 rfl rfl ?_
          refine AW.iload_n dX0_ways_29 rfl rfl ?_
          refine AW.isub dX0_ways_30 rfl ?_
          refine AW.iconst (v := 1) dX0_ways_31 (by decide) rfl ?_
          refine AW.iadd dX0_ways_32 rfl ?_
          refine AW.imul dX0_ways_33 rfl ?_
          refine AW.iload_n dX0_ways_34 rfl rfl ?_
          refine AW.idiv dX0_ways_35 c14 rfl ?_
          exact AW.iretE dX0_ways_36 rfl rfl (by rw [waysE (n := n) (k := k)]; first | (rw [if_pos c1]; done) | (rw [if_neg (Int32.not_lt.mpr (Int32.not_lt.mp c1)), if_pos (Int32.not_le.mp c6)]; done) | (rw [if_neg c1, if_neg (Int32.not_lt.mpr c6), if_pos c14]; done) | (rw [if_neg c1, if_neg (Int32.not_lt.mpr c6), if_neg c14]; done)) rfl
        · refine AW.iconst (v := 1) dX0_ways_17 (by decide) rfl ?_
          refine AW.goto (tgt := 36) dX0_ways_18 (by decide) ?_
          exact AW.iretE dX0_ways_36 rfl rfl (by rw [waysE (n := n) (k := k)]; first | (rw [if_pos c1]; done) | (rw [if_neg (Int32.not_lt.mpr (Int32.not_lt.mp c1)), if_pos (Int32.not_le.mp c6)]; done) | (rw [if_neg c1, if_neg (Int32.not_lt.mpr c6), if_pos c14]; done) | (rw [if_neg c1, if_neg (Int32.not_lt.mpr c6), if_neg c14]; done)) rfl
      · refine AW.iconst (v := 0) dX0_ways_9 (by decide) rfl ?_
        refine AW.goto (tgt := 36) dX0_ways_10 (by decide) ?_
        exact AW.iretE dX0_ways_36 rfl rfl (by rw [waysE (n := n) (k := k)]; first | (rw [if_pos c1]; done) | (rw [if_neg (Int32.not_lt.mpr (Int32.not_lt.mp c1)), if_pos (Int32.not_le.mp c6)]; done) | (rw [if_neg c1, if_neg (Int32.not_lt.mpr c6), if_pos c14]; done) | (rw [if_neg c1, if_neg (Int32.not_lt.mpr c6), if_neg c14]; done)) rfl
theorem r_X0_setsWith {s : Sg} (hb : (bkS (s.A 515)).ok) (he : (ewS s.A).ok) (h m x : Int32) (hm : inI m 1 3 = true) : Run 5 mX0_setsWith [.ref 512, .int h, .int m, .int x] (hp s) (.inl (some (.int (setsWS (bkS (s.A 515)) (ewS s.A) h m x)))) (hp s) := by
  refine Run.of rfl (Nat.le_of_ble_eq_true rfl) rfl ?_
  refine AW.aload_n dX0_setsWith_0 rfl rfl ?_
  refine AW.iload_n dX0_setsWith_1 rfl rfl ?_
  refine AW.iconst (v := 1) dX0_setsWith_2 (by decide) rfl ?_
  refine AW.callV (Y := mX0_datesSeen) (n := 2) (r_X0_datesSeen hb he _ _) (by decide) (by decide) rfl gX q1197 q1199 qs49 q138 q1200 dX0_setsWith_3 (by decide +kernel) rfl rfl (Nat.le_of_ble_eq_true rfl) rfl ?_
  refine AW.iload_n dX0_setsWith_6 rfl rfl ?_
  refine AW.ior dX0_setsWith_7 rfl ?_
  refine AW.istore dX0_setsWith_8 rfl (Nat.le_of_ble_eq_true rfl) rfl rfl ?_
  refine AW.aload_n dX0_setsWith_10 rfl rfl ?_
  refine AW.iload_n dX0_setsWith_11 rfl rfl ?_
  refine AW.iconst (v := 0) dX0_setsWith_12 (by decide) rfl ?_
  refine AW.callV (Y := mX0_datesSeen) (n := 2) (r_X0_datesSeen hb he _ _) (by decide) (by decide) rfl gX q1197 q1199 qs49 q138 q1200 dX0_setsWith_13 (by decide +kernel) rfl rfl (Nat.le_of_ble_eq_true rfl) rfl ?_
  refine AW.istore dX0_setsWith_16 rfl (Nat.le_of_ble_eq_true rfl) rfl rfl ?_
  refine AW.iload dX0_setsWith_18 rfl rfl ?_
  refine AW.iload dX0_setsWith_20 rfl rfl ?_
  refine AW.iand dX0_setsWith_22 rfl ?_
  refine AW.if_eq (tgt := 28) dX0_setsWith_23 (by decide) rfl (fun c23 => ?_) (fun c23 => ?_)
  · refine AW.bipush (v := 20) dX0_setsWith_28 (by decide) rfl ?_
    refine AW.iload dX0_setsWith_30 rfl rfl ?_
    refine AW.iload dX0_setsWith_32 rfl rfl ?_
    refine AW.ior dX0_setsWith_34 rfl ?_
    refine AW.callS (Y := mJ12_bitCount) (n := 1) (r_J12_bitCount _) (by decide) (by decide) q881 q882 q162 q883 dX0_setsWith_35 (by decide +kernel) rfl rfl (Nat.le_of_ble_eq_true rfl) rfl ?_
    refine AW.isub dX0_setsWith_38 rfl ?_
    refine AW.iload_n dX0_setsWith_39 rfl rfl ?_
    refine AW.iload dX0_setsWith_40 rfl rfl ?_
    refine AW.callS (Y := mJ12_bitCount) (n := 1) (r_J12_bitCount _) (by decide) (by decide) q881 q882 q162 q883 dX0_setsWith_42 (by decide +kernel) rfl rfl (Nat.le_of_ble_eq_true rfl) rfl ?_
    refine AW.isub dX0_setsWith_45 rfl ?_
    refine AW.callS (Y := mX0_ways) (n := 2) (r_X0_ways 3 _ _ (by have q1 := bcI_b (datesS (bkS (s.A 515)) (ewS s.A) h 1 ||| x); have q2 := inI_iff.mp hm; have q3 : (1 : Int32).toInt = 1 := rfl; have q4 : (3 : Int32).toInt = 3 := rfl; have q5 := q2.1; have q6 := q2.2; have := subI (a := m) (b := bcI (datesS (bkS (s.A 515)) (ewS s.A) h 1 ||| x)) (by omega) (by omega); omega)) (by decide) (by decide) q1201 q1202 q138 q1203 dX0_setsWith_46 (by decide +kernel) rfl rfl (Nat.le_of_ble_eq_true rfl) rfl ?_
    exact AW.iretE dX0_setsWith_49 rfl rfl (by unfold setsWS setsW; first | (rw [if_pos c23]; done) | (rw [if_neg c23]; done)) rfl
  · refine AW.iconst (v := 0) dX0_setsWith_26 (by decide) rfl ?_
    exact AW.iretE dX0_setsWith_27 rfl rfl (by unfold setsWS setsW; first | (rw [if_pos c23]; done) | (rw [if_neg c23]; done)) rfl
theorem r_X0_sets_f {s : Sg} (h m z : Int32) (hc : ((vwS (s.A 514) (s.A 515)).hou h && inI m 1 3) = false) : Run 3 mX0_sets [.ref 512, .int h, .int m, .int z] (hp s) (.inl (some (.int (-1)))) (hp s) := by
  refine Run.of rfl (Nat.le_of_ble_eq_true rfl) rfl ?_
  refine AW.aload_n dX0_sets_0 rfl rfl ?_
  refine AW.iload_n dX0_sets_1 rfl rfl ?_
  refine AW.callV (Y := mX0_isHouse) (n := 1) (r_X0_isHouse (r := s.A 515) _) (by decide) (by decide) rfl gX q895 q897 qs30 q138 q898 dX0_sets_2 (by decide +kernel) rfl rfl (Nat.le_of_ble_eq_true rfl) rfl ?_
  refine AW.if_eqB (tgt := 17) dX0_sets_5 (by decide) rfl (fun c5 => ?_) (fun c5 => ?_)
  · refine AW.iconst (v := (-1)) dX0_sets_17 (by decide) rfl ?_
    exact AW.iretE dX0_sets_18 rfl rfl rfl rfl
  · refine AW.iload_n dX0_sets_8 rfl rfl ?_
    refine AW.iconst (v := 1) dX0_sets_9 (by decide) rfl ?_
    refine AW.iconst (v := 3) dX0_sets_10 (by decide) rfl ?_
    refine AW.callS (Y := mX0_in) (n := 3) (r_X0_in _ _ _) (by decide) (by decide) q271 q272 q138 q273 dX0_sets_11 (by decide +kernel) rfl rfl (Nat.le_of_ble_eq_true rfl) rfl ?_
    refine AW.if_neB (tgt := 19) dX0_sets_14 (by decide) rfl (fun c14 => ?_) (fun c14 => ?_)
    · exact absurd hc (by rw [c5, c14]; decide)
    · refine AW.iconst (v := (-1)) dX0_sets_17 (by decide) rfl ?_
      exact AW.iretE dX0_sets_18 rfl rfl rfl rfl
theorem r_X0_sets_0 {s : Sg} (hb : (bkS (s.A 515)).ok) (he : (ewS s.A).ok) (h m : Int32) (c5 : (vwS (s.A 514) (s.A 515)).hou h = true) (c14 : inI m 1 3 = true) : Run 6 mX0_sets [.ref 512, .int h, .int m, .int 0] (hp s) (.inl (some (.int (setsWS (bkS (s.A 515)) (ewS s.A) h m 0)))) (hp s) := by
  refine Run.of rfl (Nat.le_of_ble_eq_true rfl) rfl ?_
  refine AW.aload_n dX0_sets_0 rfl rfl ?_
  refine AW.iload_n dX0_sets_1 rfl rfl ?_
  refine AW.callV (Y := mX0_isHouse) (n := 1) (r_X0_isHouse (r := s.A 515) _) (by decide) (by decide) rfl gX q895 q897 qs30 q138 q898 dX0_sets_2 (by decide +kernel) rfl rfl (Nat.le_of_ble_eq_true rfl) rfl ?_
  refine AW.if_eqB (tgt := 17) dX0_sets_5 (by decide) rfl (fun c_ => by first | exact absurd c_ c5 | exact absurd c5 c_ | exact Bool.noConfusion (c_.symm.trans c5)) (fun _ => ?_)
  refine AW.iload_n dX0_sets_8 rfl rfl ?_
  refine AW.iconst (v := 1) dX0_sets_9 (by decide) rfl ?_
  refine AW.iconst (v := 3) dX0_sets_10 (by decide) rfl ?_
  refine AW.callS (Y := mX0_in) (n := 3) (r_X0_in _ _ _) (by decide) (by decide) q271 q272 q138 q273 dX0_sets_11 (by decide +kernel) rfl rfl (Nat.le_of_ble_eq_true rfl) rfl ?_
  refine AW.if_neB (tgt := 19) dX0_sets_14 (by decide) rfl (fun _ => ?_) (fun c_ => by first | exact absurd c_ c14 | exact absurd c14 c_ | exact absurd c_ (not_not_intro c14) | exact Bool.noConfusion (c_.symm.trans c14))
  refine AW.aload_n dX0_sets_19 rfl rfl ?_
  refine AW.iload_n dX0_sets_20 rfl rfl ?_
  refine AW.iload_n dX0_sets_21 rfl rfl ?_
  refine AW.iconst (v := 0) dX0_sets_22 (by decide) rfl ?_
  refine AW.callV (Y := mX0_setsWith) (n := 3) (r_X0_setsWith hb he _ _ _ c14) (by decide) (by decide) rfl gX q1193 q1195 qs48 q138 q1196 dX0_sets_23 (by decide +kernel) rfl rfl (Nat.le_of_ble_eq_true rfl) rfl ?_
  refine AW.istore dX0_sets_26 rfl (Nat.le_of_ble_eq_true rfl) rfl rfl ?_
  refine AW.iload_n dX0_sets_28 rfl rfl ?_
  refine AW.if_ne (tgt := 35) dX0_sets_29 (by decide) rfl (fun c_ => by first | exact absurd c_ (not_not_intro rfl) | exact absurd (not_not_intro rfl) c_ | exact Bool.noConfusion (c_.symm.trans (not_not_intro rfl))) (fun _ => ?_)
  refine AW.iload dX0_sets_32 rfl rfl ?_
  exact AW.iretE dX0_sets_34 rfl rfl rfl rfl
theorem r_X0_sets_1 {s : Sg} (hb : (bkS (s.A 515)).ok) (he : (ewS s.A).ok) (h m z : Int32) (c5 : (vwS (s.A 514) (s.A 515)).hou h = true) (c14 : inI m 1 3 = true) (hz : ¬ z = 0) : Run 6 mX0_sets [.ref 512, .int h, .int m, .int z] (hp s) (.inl (some (.int (if 0 < setsWS (bkS (s.A 515)) (ewS s.A) h m 0 then sureS (bkS (s.A 515)) (ewS s.A) h m 20 else 0)))) (hp s) := by
  refine Run.of rfl (Nat.le_of_ble_eq_true rfl) rfl ?_
  refine AW.aload_n dX0_sets_0 rfl rfl ?_
  refine AW.iload_n dX0_sets_1 rfl rfl ?_
  refine AW.callV (Y := mX0_isHouse) (n := 1) (r_X0_isHouse (r := s.A 515) _) (by decide) (by decide) rfl gX q895 q897 qs30 q138 q898 dX0_sets_2 (by decide +kernel) rfl rfl (Nat.le_of_ble_eq_true rfl) rfl ?_
  refine AW.if_eqB (tgt := 17) dX0_sets_5 (by decide) rfl (fun c_ => by first | exact absurd c_ c5 | exact absurd c5 c_ | exact Bool.noConfusion (c_.symm.trans c5)) (fun _ => ?_)
  refine AW.iload_n dX0_sets_8 rfl rfl ?_
  refine AW.iconst (v := 1) dX0_sets_9 (by decide) rfl ?_
  refine AW.iconst (v := 3) dX0_sets_10 (by decide) rfl ?_
  refine AW.callS (Y := mX0_in) (n := 3) (r_X0_in _ _ _) (by decide) (by decide) q271 q272 q138 q273 dX0_sets_11 (by decide +kernel) rfl rfl (Nat.le_of_ble_eq_true rfl) rfl ?_
  refine AW.if_neB (tgt := 19) dX0_sets_14 (by decide) rfl (fun _ => ?_) (fun c_ => by first | exact absurd c_ c14 | exact absurd c14 c_ | exact absurd c_ (not_not_intro c14) | exact Bool.noConfusion (c_.symm.trans c14))
  refine AW.aload_n dX0_sets_19 rfl rfl ?_
  refine AW.iload_n dX0_sets_20 rfl rfl ?_
  refine AW.iload_n dX0_sets_21 rfl rfl ?_
  refine AW.iconst (v := 0) dX0_sets_22 (by decide) rfl ?_
  refine AW.callV (Y := mX0_setsWith) (n := 3) (r_X0_setsWith hb he _ _ _ c14) (by decide) (by decide) rfl gX q1193 q1195 qs48 q138 q1196 dX0_sets_23 (by decide +kernel) rfl rfl (Nat.le_of_ble_eq_true rfl) rfl ?_
  refine AW.istore dX0_sets_26 rfl (Nat.le_of_ble_eq_true rfl) rfl rfl ?_
  refine AW.iload_n dX0_sets_28 rfl rfl ?_
  refine AW.if_ne (tgt := 35) dX0_sets_29 (by decide) rfl (fun _ => ?_) (fun c_ => by first | exact absurd c_ hz | exact absurd hz c_ | exact absurd c_ (not_not_intro hz) | exact Bool.noConfusion (c_.symm.trans hz))
  refine AW.iconst (v := 0) dX0_sets_35 (by decide) rfl ?_
  refine AW.istore dX0_sets_36 rfl (Nat.le_of_ble_eq_true rfl) rfl rfl ?_
  refine AW.iconst (v := 0) dX0_sets_38 (by decide) rfl ?_
  refine AW.istore dX0_sets_39 rfl (Nat.le_of_ble_eq_true rfl) rfl rfl ?_
  by_cases hall : 0 < setsWS (bkS (s.A 515)) (ewS s.A) h m 0
  rotate_left
  · refine AW.iload dX0_sets_41 rfl rfl ?_
    refine AW.bipush (v := 20) dX0_sets_43 (by decide) rfl ?_
    refine AW.icmp_ge (tgt := 87) dX0_sets_45 (by decide) rfl (fun c => absurd c (by decide)) (fun _ => ?_)
    refine AW.iload dX0_sets_48 rfl rfl ?_
    refine AW.if_le (tgt := 87) dX0_sets_50 (by decide) rfl (fun _ => ?_) (fun c => absurd (Int32.not_lt.mp hall) c)
    refine AW.iload dX0_sets_87 rfl rfl ?_
    exact AW.iretE dX0_sets_89 rfl rfl (by rw [if_neg hall]) rfl
  refine AW.oo (o2 := .inl (some (.int (sureS (bkS (s.A 515)) (ewS s.A) h m 20)))) (by rw [if_pos hall]) ?_
  refine loopUp (P := fun k => AW 6 mX0_sets (hp s) 41 [some (.ref 512), some (.int (h)), some (.int (m)), some (.int z), some (.int (setsWS (bkS (s.A 515)) (ewS s.A) h m 0)), some (.int (sureS (bkS (s.A 515)) (ewS s.A) h m k)), some (.int (nI k))] [] (.inl (some (.int (sureS (bkS (s.A 515)) (ewS s.A) h m 20)))) (hp s)) 20 ?_ ?_ 0 (by first | exact Nat.zero_le _ | omega)
  · refine AW.iload dX0_sets_41 rfl rfl ?_
    refine AW.bipush (v := 20) dX0_sets_43 (by decide) rfl ?_
    refine AW.icmp_ge (tgt := 87) dX0_sets_45 (by decide) rfl (fun _ => ?_) (fun c_ => by first | exact absurd c_ (by decide) | exact absurd (by decide) c_ | exact absurd c_ (not_not_intro (by decide)) | exact Bool.noConfusion (c_.symm.trans (by decide)))
    refine AW.iload dX0_sets_87 rfl rfl ?_
    exact AW.iretE dX0_sets_89 rfl rfl rfl rfl
  · intro k hk ihk
    refine AW.iload dX0_sets_41 rfl rfl ?_
    refine AW.bipush (v := 20) dX0_sets_43 (by decide) rfl ?_
    refine AW.icmp_ge (tgt := 87) dX0_sets_45 (by decide) rfl (fun c_ => by first | exact absurd c_ (nI_nle20' hk) | exact absurd (nI_nle20' hk) c_ | exact Bool.noConfusion (c_.symm.trans (nI_nle20' hk))) (fun _ => ?_)
    refine AW.iload dX0_sets_48 rfl rfl ?_
    refine AW.if_le (tgt := 87) dX0_sets_50 (by decide) rfl (fun c_ => by first | exact absurd c_ (Int32.not_le.mpr hall) | exact absurd (Int32.not_le.mpr hall) c_ | exact Bool.noConfusion (c_.symm.trans (Int32.not_le.mpr hall))) (fun _ => ?_)
    refine AW.iload dX0_sets_53 rfl rfl ?_
    refine AW.aload_n dX0_sets_55 rfl rfl ?_
    refine AW.iload_n dX0_sets_56 rfl rfl ?_
    refine AW.iload_n dX0_sets_57 rfl rfl ?_
    refine AW.iconst (v := 1) dX0_sets_58 (by decide) rfl ?_
    refine AW.iload dX0_sets_59 rfl rfl ?_
    refine AW.ishl dX0_sets_61 rfl ?_
    refine AW.callV (Y := mX0_setsWith) (n := 3) (r_X0_setsWith hb he _ _ _ c14) (by decide) (by decide) rfl gX q1193 q1195 qs48 q138 q1196 dX0_sets_62 (by decide +kernel) rfl rfl (Nat.le_of_ble_eq_true rfl) rfl ?_
    refine AW.iload dX0_sets_65 rfl rfl ?_
    refine AW.icmp_ne (tgt := 77) dX0_sets_67 (by decide) rfl (fun c67 => ?_) (fun c67 => ?_)
    · refine AW.iconst (v := 0) dX0_sets_77 (by decide) rfl ?_
      refine AW.ior dX0_sets_78 rfl ?_
      refine AW.istore dX0_sets_79 rfl (Nat.le_of_ble_eq_true rfl) rfl rfl ?_
      refine AW.iinc (v := 1) dX0_sets_81 rfl (by decide) rfl rfl rfl ?_
      refine AW.goto (tgt := 41) dX0_sets_84 (by decide) ?_
      exact AW.ls (by unfold sureS; rw [orUp_s, nI_succ]; first | (rw [if_pos (show setsWS _ _ h m (bit (nI k)) = _ from c67)]; rfl) | (rw [if_neg (show ¬ setsWS _ _ h m (bit (nI k)) = _ from c67)]; rfl)) ihk
    · refine AW.iconst (v := 1) dX0_sets_70 (by decide) rfl ?_
      refine AW.iload dX0_sets_71 rfl rfl ?_
      refine AW.ishl dX0_sets_73 rfl ?_
      refine AW.goto (tgt := 78) dX0_sets_74 (by decide) ?_
      refine AW.ior dX0_sets_78 rfl ?_
      refine AW.istore dX0_sets_79 rfl (Nat.le_of_ble_eq_true rfl) rfl rfl ?_
      refine AW.iinc (v := 1) dX0_sets_81 rfl (by decide) rfl rfl rfl ?_
      refine AW.goto (tgt := 41) dX0_sets_84 (by decide) ?_
      exact AW.ls (by unfold sureS; rw [orUp_s, nI_succ]; first | (rw [if_pos (show setsWS _ _ h m (bit (nI k)) = _ from c67)]; rfl) | (rw [if_neg (show ¬ setsWS _ _ h m (bit (nI k)) = _ from c67)]; rfl)) ihk
theorem r_X0_nextKnock_f {s : Sg} (h m : Int32) (hc : ((vwS (s.A 514) (s.A 515)).hou h && inI m 1 3) = false) : Run 3 mX0_nextKnock [.ref 512, .int h, .int m] (hp s) (.inl (some (.int (-1)))) (hp s) := by
  refine Run.of rfl (Nat.le_of_ble_eq_true rfl) rfl ?_
  refine AW.aload_n dX0_nextKnock_0 rfl rfl ?_
  refine AW.iload_n dX0_nextKnock_1 rfl rfl ?_
  refine AW.callV (Y := mX0_isHouse) (n := 1) (r_X0_isHouse (r := s.A 515) _) (by decide) (by decide) rfl gX q895 q897 qs30 q138 q898 dX0_nextKnock_2 (by decide +kernel) rfl rfl (Nat.le_of_ble_eq_true rfl) rfl ?_
  refine AW.if_eqB (tgt := 17) dX0_nextKnock_5 (by decide) rfl (fun c5 => ?_) (fun c5 => ?_)
  · refine AW.iconst (v := (-1)) dX0_nextKnock_17 (by decide) rfl ?_
    exact AW.iretE dX0_nextKnock_18 rfl rfl rfl rfl
  · refine AW.iload_n dX0_nextKnock_8 rfl rfl ?_
    refine AW.iconst (v := 1) dX0_nextKnock_9 (by decide) rfl ?_
    refine AW.iconst (v := 3) dX0_nextKnock_10 (by decide) rfl ?_
    refine AW.callS (Y := mX0_in) (n := 3) (r_X0_in _ _ _) (by decide) (by decide) q271 q272 q138 q273 dX0_nextKnock_11 (by decide +kernel) rfl rfl (Nat.le_of_ble_eq_true rfl) rfl ?_
    refine AW.if_neB (tgt := 19) dX0_nextKnock_14 (by decide) rfl (fun c14 => ?_) (fun c14 => ?_)
    · exact absurd hc (by rw [c5, c14]; decide)
    · refine AW.iconst (v := (-1)) dX0_nextKnock_17 (by decide) rfl ?_
      exact AW.iretE dX0_nextKnock_18 rfl rfl rfl rfl
theorem r_X0_nextKnock_t {s : Sg} (hb : (bkS (s.A 515)).ok) (he : (ewS s.A).ok) (h m : Int32) (c5 : (vwS (s.A 514) (s.A 515)).hou h = true) (c14 : inI m 1 3 = true) : Run 6 mX0_nextKnock [.ref 512, .int h, .int m] (hp s) (.inl (some (.int ((nkS (setsWS (bkS (s.A 515)) (ewS s.A) h m 0) (fun k => setsWS (bkS (s.A 515)) (ewS s.A) h m (bit (nI k))) 20).1)))) (hp s) := by
  refine Run.of rfl (Nat.le_of_ble_eq_true rfl) rfl ?_
  refine AW.aload_n dX0_nextKnock_0 rfl rfl ?_
  refine AW.iload_n dX0_nextKnock_1 rfl rfl ?_
  refine AW.callV (Y := mX0_isHouse) (n := 1) (r_X0_isHouse (r := s.A 515) _) (by decide) (by decide) rfl gX q895 q897 qs30 q138 q898 dX0_nextKnock_2 (by decide +kernel) rfl rfl (Nat.le_of_ble_eq_true rfl) rfl ?_
  refine AW.if_eqB (tgt := 17) dX0_nextKnock_5 (by decide) rfl (fun c_ => by first | exact absurd c_ c5 | exact absurd c5 c_ | exact Bool.noConfusion (c_.symm.trans c5)) (fun _ => ?_)
  refine AW.iload_n dX0_nextKnock_8 rfl rfl ?_
  refine AW.iconst (v := 1) dX0_nextKnock_9 (by decide) rfl ?_
  refine AW.iconst (v := 3) dX0_nextKnock_10 (by decide) rfl ?_
  refine AW.callS (Y := mX0_in) (n := 3) (r_X0_in _ _ _) (by decide) (by decide) q271 q272 q138 q273 dX0_nextKnock_11 (by decide +kernel) rfl rfl (Nat.le_of_ble_eq_true rfl) rfl ?_
  refine AW.if_neB (tgt := 19) dX0_nextKnock_14 (by decide) rfl (fun _ => ?_) (fun c_ => by first | exact absurd c_ c14 | exact absurd c14 c_ | exact absurd c_ (not_not_intro c14) | exact Bool.noConfusion (c_.symm.trans c14))
  refine AW.aload_n dX0_nextKnock_19 rfl rfl ?_
  refine AW.iload_n dX0_nextKnock_20 rfl rfl ?_
  refine AW.iload_n dX0_nextKnock_21 rfl rfl ?_
  refine AW.iconst (v := 0) dX0_nextKnock_22 (by decide) rfl ?_
  refine AW.callV (Y := mX0_setsWith) (n := 3) (r_X0_setsWith hb he _ _ _ c14) (by decide) (by decide) rfl gX q1193 q1195 qs48 q138 q1196 dX0_nextKnock_23 (by decide +kernel) rfl rfl (Nat.le_of_ble_eq_true rfl) rfl ?_
  refine AW.istore_n (i := 3) dX0_nextKnock_26 rfl rfl (Nat.le_of_ble_eq_true rfl) rfl rfl ?_
  refine AW.iconst (v := (-1)) dX0_nextKnock_27 (by decide) rfl ?_
  refine AW.istore dX0_nextKnock_28 rfl (Nat.le_of_ble_eq_true rfl) rfl rfl ?_
  refine AW.iload_n dX0_nextKnock_30 rfl rfl ?_
  refine AW.istore dX0_nextKnock_31 rfl (Nat.le_of_ble_eq_true rfl) rfl rfl ?_
  refine AW.iconst (v := 0) dX0_nextKnock_33 (by decide) rfl ?_
  refine AW.istore dX0_nextKnock_34 rfl (Nat.le_of_ble_eq_true rfl) rfl rfl ?_
  refine loopUp (P := fun k => AW 6 mX0_nextKnock (hp s) 36 [some (.ref 512), some (.int (h)), some (.int (m)), some (.int (setsWS (bkS (s.A 515)) (ewS s.A) h m 0)), some (.int ((nkS (setsWS (bkS (s.A 515)) (ewS s.A) h m 0) (fun k => setsWS (bkS (s.A 515)) (ewS s.A) h m (bit (nI k))) k).1)), some (.int ((nkS (setsWS (bkS (s.A 515)) (ewS s.A) h m 0) (fun k => setsWS (bkS (s.A 515)) (ewS s.A) h m (bit (nI k))) k).2)), some (.int (nI k)), none] [] (.inl (some (.int ((nkS (setsWS (bkS (s.A 515)) (ewS s.A) h m 0) (fun k => setsWS (bkS (s.A 515)) (ewS s.A) h m (bit (nI k))) 20).1)))) (hp s)) 20 ?_ ?_ 0 (by first | exact Nat.zero_le _ | omega)
  · refine AW.iload dX0_nextKnock_36 rfl rfl ?_
    refine AW.bipush (v := 20) dX0_nextKnock_38 (by decide) rfl ?_
    refine AW.icmp_ge (tgt := 86) dX0_nextKnock_40 (by decide) rfl (fun _ => ?_) (fun c_ => by first | exact absurd c_ (by decide) | exact absurd (by decide) c_ | exact absurd c_ (not_not_intro (by decide)) | exact Bool.noConfusion (c_.symm.trans (by decide)))
    refine AW.iload dX0_nextKnock_86 rfl rfl ?_
    exact AW.iretE dX0_nextKnock_88 rfl rfl rfl rfl
  · intro k hk ihk
    refine AW.iload dX0_nextKnock_36 rfl rfl ?_
    refine AW.bipush (v := 20) dX0_nextKnock_38 (by decide) rfl ?_
    refine AW.icmp_ge (tgt := 86) dX0_nextKnock_40 (by decide) rfl (fun c_ => by first | exact absurd c_ (nI_nle20' hk) | exact absurd (nI_nle20' hk) c_ | exact Bool.noConfusion (c_.symm.trans (nI_nle20' hk))) (fun _ => ?_)
    refine AW.iconst (v := 2) dX0_nextKnock_43 (by decide) rfl ?_
    refine AW.aload_n dX0_nextKnock_44 rfl rfl ?_
    refine AW.iload_n dX0_nextKnock_45 rfl rfl ?_
    refine AW.iload_n dX0_nextKnock_46 rfl rfl ?_
    refine AW.iconst (v := 1) dX0_nextKnock_47 (by decide) rfl ?_
    refine AW.iload dX0_nextKnock_48 rfl rfl ?_
    refine AW.ishl dX0_nextKnock_50 rfl ?_
    refine AW.callV (Y := mX0_setsWith) (n := 3) (r_X0_setsWith hb he _ _ _ c14) (by decide) (by decide) rfl gX q1193 q1195 qs48 q138 q1196 dX0_nextKnock_51 (by decide +kernel) rfl rfl (Nat.le_of_ble_eq_true rfl) rfl ?_
    refine AW.imul dX0_nextKnock_54 rfl ?_
    refine AW.iload_n dX0_nextKnock_55 rfl rfl ?_
    refine AW.isub dX0_nextKnock_56 rfl ?_
    refine AW.mabs dX0_nextKnock_57 q1215 q1216 q151 q1217 (by decide) (Nat.le_of_ble_eq_true rfl) rfl ?_
    refine AW.istore dX0_nextKnock_60 rfl (Nat.le_of_ble_eq_true rfl) rfl rfl ?_
    refine AW.iload dX0_nextKnock_62 rfl rfl ?_
    refine AW.iload dX0_nextKnock_64 rfl rfl ?_
    refine AW.icmp_lt (tgt := 72) dX0_nextKnock_66 (by decide) rfl (fun c66 => ?_) (fun c66 => ?_)
    · refine AW.iload dX0_nextKnock_72 rfl rfl ?_
      refine AW.istore dX0_nextKnock_74 rfl (Nat.le_of_ble_eq_true rfl) rfl rfl ?_
      refine AW.iload dX0_nextKnock_76 rfl rfl ?_
      refine AW.istore dX0_nextKnock_78 rfl (Nat.le_of_ble_eq_true rfl) rfl rfl ?_
      refine AW.iinc (v := 1) dX0_nextKnock_80 rfl (by decide) rfl rfl rfl ?_
      refine AW.goto (tgt := 36) dX0_nextKnock_83 (by decide) ?_
      exact AW.fg 7 rfl (AW.ls (by rw [nI_succ, nkS]; first | (rw [if_pos (show absI (2 * setsWS _ _ h m (bit (nI k)) - _) < _ from c66)]; rfl) | (rw [if_neg (show ¬ absI (2 * setsWS _ _ h m (bit (nI k)) - _) < _ from c66)]; rfl)) ihk)
    · refine AW.goto (tgt := 80) dX0_nextKnock_69 (by decide) ?_
      refine AW.iinc (v := 1) dX0_nextKnock_80 rfl (by decide) rfl rfl rfl ?_
      refine AW.goto (tgt := 36) dX0_nextKnock_83 (by decide) ?_
      exact AW.fg 7 rfl (AW.ls (by rw [nI_succ, nkS]; first | (rw [if_pos (show absI (2 * setsWS _ _ h m (bit (nI k)) - _) < _ from c66)]; rfl) | (rw [if_neg (show ¬ absI (2 * setsWS _ _ h m (bit (nI k)) - _) < _ from c66)]; rfl)) ihk)
theorem r_X0_common {h : AH} : ∀ (f x y : Nat), y < 2 ^ f → x < 2147483648 → f ≤ 30 → Run (2 * f + 1) mX0_common [.int (nI x), .int (nI y)] h (.inl (some (.int (nI (Nat.gcd x y))))) h := by
  intro f
  induction f with
  | zero =>
    intro x y hy hx h30
    have hy0 : y = 0 := by omega
    subst hy0
    refine Run.of rfl (Nat.le_of_ble_eq_true rfl) rfl ?_
    refine AW.iload_n dX0_common_0 rfl rfl ?_
    refine AW.if_ne (tgt := 8) dX0_common_1 (by decide) rfl (fun c_ => by first | exact absurd c_ (not_not_intro rfl) | exact absurd (not_not_intro rfl) c_ | exact Bool.noConfusion (c_.symm.trans (not_not_intro rfl))) (fun _ => ?_)
    refine AW.iload_n dX0_common_4 rfl rfl ?_
    refine AW.goto (tgt := 15) dX0_common_5 (by decide) ?_
    exact AW.iretE dX0_common_15 rfl rfl (by rw [Nat.gcd_zero_right]) rfl
  | succ f ih =>
    intro x y hy hx h30
    have hp : (2 : Nat) ^ (f + 1) = 2 * 2 ^ f := by rw [Nat.pow_succ]; omega
    have hp2 : (2 : Nat) ^ f ≤ 2 ^ 30 := Nat.pow_le_pow_right (by decide) (by omega)
    have hp3 : (2 : Nat) ^ 30 = 1073741824 := by decide
    by_cases y0 : y = 0
    · subst y0
      refine Run.of rfl (Nat.le_of_ble_eq_true rfl) rfl ?_
      refine AW.iload_n dX0_common_0 rfl rfl ?_
      refine AW.if_ne (tgt := 8) dX0_common_1 (by decide) rfl (fun c_ => by first | exact absurd c_ (not_not_intro rfl) | exact absurd (not_not_intro rfl) c_ | exact Bool.noConfusion (c_.symm.trans (not_not_intro rfl))) (fun _ => ?_)
      refine AW.iload_n dX0_common_4 rfl rfl ?_
      refine AW.goto (tgt := 15) dX0_common_5 (by decide) ?_
      exact AW.iretE dX0_common_15 rfl rfl (by rw [Nat.gcd_zero_right]) rfl
    · have hlt := Nat.mod_lt x (Nat.pos_of_ne_zero y0)
      have ny : ¬ nI y = 0 := nI_ne (b := 0) (by omega) (by omega) y0
      have e1 : nI x % nI y = nI (x % y) := nI_rem hx (by omega)
      have g1 : Nat.gcd x y = Nat.gcd y (x % y) := by rw [Nat.gcd_comm x y, Nat.gcd_rec y x, Nat.gcd_comm]
      have inner : Run (2 * f + 1 + 1) mX0_common [.int (nI y), .int (nI (x % y))] h (.inl (some (.int (nI (Nat.gcd y (x % y)))))) h := by
        by_cases r0 : x % y = 0
        · rw [r0]
          refine Run.of rfl (Nat.le_of_ble_eq_true rfl) rfl ?_
          refine AW.iload_n dX0_common_0 rfl rfl ?_
          refine AW.if_ne (tgt := 8) dX0_common_1 (by decide) rfl (fun c_ => by first | exact absurd c_ (not_not_intro rfl) | exact absurd (not_not_intro rfl) c_ | exact Bool.noConfusion (c_.symm.trans (not_not_intro rfl))) (fun _ => ?_)
          refine AW.iload_n dX0_common_4 rfl rfl ?_
          refine AW.goto (tgt := 15) dX0_common_5 (by decide) ?_
          exact AW.iretE dX0_common_15 rfl rfl (by rw [Nat.gcd_zero_right]) rfl
        · have hlt2 := Nat.mod_lt y (Nat.pos_of_ne_zero r0)
          have nr : ¬ nI (x % y) = 0 := nI_ne (b := 0) (by omega) (by omega) r0
          have e2 : nI y % nI (x % y) = nI (y % (x % y)) := nI_rem (by omega) (by omega)
          have g2 : Nat.gcd y (x % y) = Nat.gcd (x % y) (y % (x % y)) := by rw [Nat.gcd_comm y (x % y), Nat.gcd_rec (x % y) y, Nat.gcd_comm]
          have hh : y % (x % y) < 2 ^ f := by
            have q := Nat.div_add_mod y (x % y)
            have q1 : 1 ≤ y / (x % y) := Nat.div_pos (by omega) (by omega)
            have q2 : x % y ≤ (x % y) * (y / (x % y)) := Nat.le_mul_of_pos_right _ q1
            omega
          refine Run.of rfl (Nat.le_of_ble_eq_true rfl) rfl ?_
          refine AW.iload_n dX0_common_0 rfl rfl ?_
          refine AW.if_ne (tgt := 8) dX0_common_1 (by decide) rfl (fun _ => ?_) (fun c_ => by first | exact absurd c_ nr | exact absurd nr c_ | exact absurd c_ (not_not_intro nr) | exact Bool.noConfusion (c_.symm.trans nr))
          refine AW.iload_n dX0_common_8 rfl rfl ?_
          refine AW.iload_n dX0_common_9 rfl rfl ?_
          refine AW.iload_n dX0_common_10 rfl rfl ?_
          refine AW.irem dX0_common_11 nr rfl ?_
          refine AW.stT (x := .int (nI (y % (x % y)))) (congrArg Value.int e2) ?_
          refine AW.callS (Y := mX0_common) (n := 2) (ih (x % y) (y % (x % y)) hh (by omega) (by omega)) (by omega) (by decide) q1208 q1209 q138 q1210 dX0_common_12 (by decide +kernel) rfl rfl (Nat.le_of_ble_eq_true rfl) rfl ?_
          exact AW.iretE dX0_common_15 rfl rfl (by rw [g2]) rfl
      refine Run.of rfl (Nat.le_of_ble_eq_true rfl) rfl ?_
      refine AW.iload_n dX0_common_0 rfl rfl ?_
      refine AW.if_ne (tgt := 8) dX0_common_1 (by decide) rfl (fun _ => ?_) (fun c_ => by first | exact absurd c_ ny | exact absurd ny c_ | exact absurd c_ (not_not_intro ny) | exact Bool.noConfusion (c_.symm.trans ny))
      refine AW.iload_n dX0_common_8 rfl rfl ?_
      refine AW.iload_n dX0_common_9 rfl rfl ?_
      refine AW.iload_n dX0_common_10 rfl rfl ?_
      refine AW.irem dX0_common_11 ny rfl ?_
      refine AW.stT (x := .int (nI (x % y))) (congrArg Value.int e1) ?_
      refine AW.callS (Y := mX0_common) (n := 2) (inner) (by omega) (by decide) q1208 q1209 q138 q1210 dX0_common_12 (by decide +kernel) rfl rfl (Nat.le_of_ble_eq_true rfl) rfl ?_
      exact AW.iretE dX0_common_15 rfl rfl (by rw [g1]) rfl
theorem r_X0_nextLike {h : AH} (x : Int32) (hx : ¬ x &&& -x = 0) : Run 1 mX0_nextLike [.int x] h (.inl (some (.int (likeI x)))) h := by
  refine Run.of rfl (Nat.le_of_ble_eq_true rfl) rfl ?_
  refine AW.iload_n dX0_nextLike_0 rfl rfl ?_
  refine AW.iload_n dX0_nextLike_1 rfl rfl ?_
  refine AW.ineg dX0_nextLike_2 rfl ?_
  refine AW.iand dX0_nextLike_3 rfl ?_
  refine AW.istore_n (i := 1) dX0_nextLike_4 rfl rfl (Nat.le_of_ble_eq_true rfl) rfl rfl ?_
  refine AW.iload_n dX0_nextLike_5 rfl rfl ?_
  refine AW.iload_n dX0_nextLike_6 rfl rfl ?_
  refine AW.iadd dX0_nextLike_7 rfl ?_
  refine AW.istore_n (i := 2) dX0_nextLike_8 rfl rfl (Nat.le_of_ble_eq_true rfl) rfl rfl ?_
  refine AW.iload_n dX0_nextLike_9 rfl rfl ?_
  refine AW.iload_n dX0_nextLike_10 rfl rfl ?_
  refine AW.iload_n dX0_nextLike_11 rfl rfl ?_
  refine AW.ixor dX0_nextLike_12 rfl ?_
  refine AW.iload_n dX0_nextLike_13 rfl rfl ?_
  refine AW.idiv dX0_nextLike_14 hx rfl ?_
  refine AW.iconst (v := 2) dX0_nextLike_15 (by decide) rfl ?_
  refine AW.ishr dX0_nextLike_16 rfl ?_
  refine AW.ior dX0_nextLike_17 rfl ?_
  exact AW.iretE dX0_nextLike_18 rfl rfl rfl rfl
theorem r_X0_odds_f {s : Sg} (h m dt z : Int32) (hc : ((vwS (s.A 514) (s.A 515)).hou h && (inI m 1 3 && inI dt 0 19)) = false) : Run 3 mX0_odds [.ref 512, .int h, .int m, .int dt, .int z] (hp s) (.inl (some (.int (-1)))) (hp s) := by
  refine Run.of rfl (Nat.le_of_ble_eq_true rfl) rfl ?_
  refine AW.aload_n dX0_odds_0 rfl rfl ?_
  refine AW.iload_n dX0_odds_1 rfl rfl ?_
  refine AW.callV (Y := mX0_isHouse) (n := 1) (r_X0_isHouse (r := s.A 515) _) (by decide) (by decide) rfl gX q895 q897 qs30 q138 q898 dX0_odds_2 (by decide +kernel) rfl rfl (Nat.le_of_ble_eq_true rfl) rfl ?_
  refine AW.if_eqB (tgt := 24) dX0_odds_5 (by decide) rfl (fun c5 => ?_) (fun c5 => ?_)
  · refine AW.iconst (v := (-1)) dX0_odds_24 (by decide) rfl ?_
    exact AW.iretE dX0_odds_25 rfl rfl rfl rfl
  · refine AW.iload_n dX0_odds_8 rfl rfl ?_
    refine AW.iconst (v := 1) dX0_odds_9 (by decide) rfl ?_
    refine AW.iconst (v := 3) dX0_odds_10 (by decide) rfl ?_
    refine AW.callS (Y := mX0_in) (n := 3) (r_X0_in _ _ _) (by decide) (by decide) q271 q272 q138 q273 dX0_odds_11 (by decide +kernel) rfl rfl (Nat.le_of_ble_eq_true rfl) rfl ?_
    refine AW.if_eqB (tgt := 24) dX0_odds_14 (by decide) rfl (fun c14 => ?_) (fun c14 => ?_)
    · refine AW.iconst (v := (-1)) dX0_odds_24 (by decide) rfl ?_
      exact AW.iretE dX0_odds_25 rfl rfl rfl rfl
    · refine AW.iload_n dX0_odds_17 rfl rfl ?_
      refine AW.callS (Y := mX0_isDate) (n := 1) (r_X0_isDate _) (by decide) (by decide) q1064 q1065 q138 q1066 dX0_odds_18 (by decide +kernel) rfl rfl (Nat.le_of_ble_eq_true rfl) rfl ?_
      refine AW.if_neB (tgt := 26) dX0_odds_21 (by decide) rfl (fun c21 => ?_) (fun c21 => ?_)
      · exact absurd hc (by rw [c5, c14, c21]; decide)
      · refine AW.iconst (v := (-1)) dX0_odds_24 (by decide) rfl ?_
        exact AW.iretE dX0_odds_25 rfl rfl rfl rfl
theorem r_X0_odds_0 {s : Sg} (hb : (bkS (s.A 515)).ok) (he : (ewS s.A).ok) (h m dt z : Int32) (c5 : (vwS (s.A 514) (s.A 515)).hou h = true) (c14 : inI m 1 3 = true) (c21 : inI dt 0 19 = true) (hA : setsWS (bkS (s.A 515)) (ewS s.A) h m 0 = 0) : Run 6 mX0_odds [.ref 512, .int h, .int m, .int dt, .int z] (hp s) (.inl (some (.int (if z = 0 then 0 else 1)))) (hp s) := by
  refine Run.of rfl (Nat.le_of_ble_eq_true rfl) rfl ?_
  refine AW.aload_n dX0_odds_0 rfl rfl ?_
  refine AW.iload_n dX0_odds_1 rfl rfl ?_
  refine AW.callV (Y := mX0_isHouse) (n := 1) (r_X0_isHouse (r := s.A 515) _) (by decide) (by decide) rfl gX q895 q897 qs30 q138 q898 dX0_odds_2 (by decide +kernel) rfl rfl (Nat.le_of_ble_eq_true rfl) rfl ?_
  refine AW.if_eqB (tgt := 24) dX0_odds_5 (by decide) rfl (fun c_ => by first | exact absurd c_ c5 | exact absurd c5 c_ | exact Bool.noConfusion (c_.symm.trans c5)) (fun _ => ?_)
  refine AW.iload_n dX0_odds_8 rfl rfl ?_
  refine AW.iconst (v := 1) dX0_odds_9 (by decide) rfl ?_
  refine AW.iconst (v := 3) dX0_odds_10 (by decide) rfl ?_
  refine AW.callS (Y := mX0_in) (n := 3) (r_X0_in _ _ _) (by decide) (by decide) q271 q272 q138 q273 dX0_odds_11 (by decide +kernel) rfl rfl (Nat.le_of_ble_eq_true rfl) rfl ?_
  refine AW.if_eqB (tgt := 24) dX0_odds_14 (by decide) rfl (fun c_ => by first | exact absurd c_ c14 | exact absurd c14 c_ | exact Bool.noConfusion (c_.symm.trans c14)) (fun _ => ?_)
  refine AW.iload_n dX0_odds_17 rfl rfl ?_
  refine AW.callS (Y := mX0_isDate) (n := 1) (r_X0_isDate _) (by decide) (by decide) q1064 q1065 q138 q1066 dX0_odds_18 (by decide +kernel) rfl rfl (Nat.le_of_ble_eq_true rfl) rfl ?_
  refine AW.if_neB (tgt := 26) dX0_odds_21 (by decide) rfl (fun _ => ?_) (fun c_ => by first | exact absurd c_ c21 | exact absurd c21 c_ | exact absurd c_ (not_not_intro c21) | exact Bool.noConfusion (c_.symm.trans c21))
  refine AW.aload_n dX0_odds_26 rfl rfl ?_
  refine AW.iload_n dX0_odds_27 rfl rfl ?_
  refine AW.iload_n dX0_odds_28 rfl rfl ?_
  refine AW.iconst (v := 0) dX0_odds_29 (by decide) rfl ?_
  refine AW.callV (Y := mX0_setsWith) (n := 3) (r_X0_setsWith hb he _ _ _ c14) (by decide) (by decide) rfl gX q1193 q1195 qs48 q138 q1196 dX0_odds_30 (by decide +kernel) rfl rfl (Nat.le_of_ble_eq_true rfl) rfl ?_
  refine AW.istore dX0_odds_33 rfl (Nat.le_of_ble_eq_true rfl) rfl rfl ?_
  refine AW.iload dX0_odds_35 rfl rfl ?_
  refine AW.if_ne (tgt := 51) dX0_odds_37 (by decide) rfl (fun c_ => by first | exact absurd c_ (not_not_intro hA) | exact absurd (not_not_intro hA) c_ | exact Bool.noConfusion (c_.symm.trans (not_not_intro hA))) (fun _ => ?_)
  refine AW.iload dX0_odds_40 rfl rfl ?_
  refine AW.if_eq (tgt := 49) dX0_odds_42 (by decide) rfl (fun cz => ?_) (fun cz => ?_)
  · refine AW.iconst (v := 0) dX0_odds_49 (by decide) rfl ?_
    exact AW.iretE dX0_odds_50 rfl rfl (by first | (rw [if_pos cz]; done) | (rw [if_neg cz]; done)) rfl
  · refine AW.iconst (v := 1) dX0_odds_45 (by decide) rfl ?_
    refine AW.goto (tgt := 50) dX0_odds_46 (by decide) ?_
    exact AW.iretE dX0_odds_50 rfl rfl (by first | (rw [if_pos cz]; done) | (rw [if_neg cz]; done)) rfl
theorem r_X0_odds_1 {s : Sg} (hb : (bkS (s.A 515)).ok) (he : (ewS s.A).ok) (h m dt z : Int32) (c5 : (vwS (s.A 514) (s.A 515)).hou h = true) (c14 : inI m 1 3 = true) (c21 : inI dt 0 19 = true) (a w : Nat) (hA : setsWS (bkS (s.A 515)) (ewS s.A) h m 0 = nI a) (hW : setsWS (bkS (s.A 515)) (ewS s.A) h m (bit dt) = nI w) (ha0 : a ≠ 0) (ha : a < 2 ^ 11) (hw : w < 2 ^ 11) : Run 24 mX0_odds [.ref 512, .int h, .int m, .int dt, .int z] (hp s) (.inl (some (.int (nI ((if z = 0 then w else a) / Nat.gcd a w))))) (hp s) := by
  have hg := Nat.gcd_pos_of_pos_left w (Nat.pos_of_ne_zero ha0)
  have hg2 := Nat.gcd_le_left w (Nat.pos_of_ne_zero ha0)
  have ng : ¬ nI (Nat.gcd a w) = 0 := nI_ne (b := 0) (by omega) (by omega) (by omega)
  refine Run.of rfl (Nat.le_of_ble_eq_true rfl) rfl ?_
  refine AW.aload_n dX0_odds_0 rfl rfl ?_
  refine AW.iload_n dX0_odds_1 rfl rfl ?_
  refine AW.callV (Y := mX0_isHouse) (n := 1) (r_X0_isHouse (r := s.A 515) _) (by decide) (by decide) rfl gX q895 q897 qs30 q138 q898 dX0_odds_2 (by decide +kernel) rfl rfl (Nat.le_of_ble_eq_true rfl) rfl ?_
  refine AW.if_eqB (tgt := 24) dX0_odds_5 (by decide) rfl (fun c_ => by first | exact absurd c_ c5 | exact absurd c5 c_ | exact Bool.noConfusion (c_.symm.trans c5)) (fun _ => ?_)
  refine AW.iload_n dX0_odds_8 rfl rfl ?_
  refine AW.iconst (v := 1) dX0_odds_9 (by decide) rfl ?_
  refine AW.iconst (v := 3) dX0_odds_10 (by decide) rfl ?_
  refine AW.callS (Y := mX0_in) (n := 3) (r_X0_in _ _ _) (by decide) (by decide) q271 q272 q138 q273 dX0_odds_11 (by decide +kernel) rfl rfl (Nat.le_of_ble_eq_true rfl) rfl ?_
  refine AW.if_eqB (tgt := 24) dX0_odds_14 (by decide) rfl (fun c_ => by first | exact absurd c_ c14 | exact absurd c14 c_ | exact Bool.noConfusion (c_.symm.trans c14)) (fun _ => ?_)
  refine AW.iload_n dX0_odds_17 rfl rfl ?_
  refine AW.callS (Y := mX0_isDate) (n := 1) (r_X0_isDate _) (by decide) (by decide) q1064 q1065 q138 q1066 dX0_odds_18 (by decide +kernel) rfl rfl (Nat.le_of_ble_eq_true rfl) rfl ?_
  refine AW.if_neB (tgt := 26) dX0_odds_21 (by decide) rfl (fun _ => ?_) (fun c_ => by first | exact absurd c_ c21 | exact absurd c21 c_ | exact absurd c_ (not_not_intro c21) | exact Bool.noConfusion (c_.symm.trans c21))
  refine AW.aload_n dX0_odds_26 rfl rfl ?_
  refine AW.iload_n dX0_odds_27 rfl rfl ?_
  refine AW.iload_n dX0_odds_28 rfl rfl ?_
  refine AW.iconst (v := 0) dX0_odds_29 (by decide) rfl ?_
  refine AW.callV (Y := mX0_setsWith) (n := 3) (r_X0_setsWith hb he _ _ _ c14) (by decide) (by decide) rfl gX q1193 q1195 qs48 q138 q1196 dX0_odds_30 (by decide +kernel) rfl rfl (Nat.le_of_ble_eq_true rfl) rfl ?_
  refine AW.stT (x := .int (nI a)) (congrArg Value.int hA) ?_
  refine AW.istore dX0_odds_33 rfl (Nat.le_of_ble_eq_true rfl) rfl rfl ?_
  refine AW.iload dX0_odds_35 rfl rfl ?_
  refine AW.if_ne (tgt := 51) dX0_odds_37 (by decide) rfl (fun _ => ?_) (fun c_ => by first | exact absurd c_ (show ¬ nI a = 0 from nI_ne (b := 0) (by omega) (by omega) ha0) | exact absurd (show ¬ nI a = 0 from nI_ne (b := 0) (by omega) (by omega) ha0) c_ | exact absurd c_ (not_not_intro (show ¬ nI a = 0 from nI_ne (b := 0) (by omega) (by omega) ha0)) | exact Bool.noConfusion (c_.symm.trans (show ¬ nI a = 0 from nI_ne (b := 0) (by omega) (by omega) ha0)))
  refine AW.aload_n dX0_odds_51 rfl rfl ?_
  refine AW.iload_n dX0_odds_52 rfl rfl ?_
  refine AW.iload_n dX0_odds_53 rfl rfl ?_
  refine AW.iconst (v := 1) dX0_odds_54 (by decide) rfl ?_
  refine AW.iload_n dX0_odds_55 rfl rfl ?_
  refine AW.ishl dX0_odds_56 rfl ?_
  refine AW.callV (Y := mX0_setsWith) (n := 3) (r_X0_setsWith hb he _ _ _ c14) (by decide) (by decide) rfl gX q1193 q1195 qs48 q138 q1196 dX0_odds_57 (by decide +kernel) rfl rfl (Nat.le_of_ble_eq_true rfl) rfl ?_
  refine AW.stT (x := .int (nI w)) (congrArg Value.int hW) ?_
  refine AW.istore dX0_odds_60 rfl (Nat.le_of_ble_eq_true rfl) rfl rfl ?_
  refine AW.iload dX0_odds_62 rfl rfl ?_
  refine AW.if_eq (tgt := 72) dX0_odds_64 (by decide) rfl (fun cz => ?_) (fun cz => ?_)
  · refine AW.iload dX0_odds_72 rfl rfl ?_
    refine AW.iload dX0_odds_74 rfl rfl ?_
    refine AW.iload dX0_odds_76 rfl rfl ?_
    refine AW.callS (Y := mX0_common) (n := 2) (r_X0_common 11 a w hw (by omega) (by decide)) (by decide) (by decide) q1208 q1209 q138 q1210 dX0_odds_78 (by decide +kernel) rfl rfl (Nat.le_of_ble_eq_true rfl) rfl ?_
    refine AW.idiv dX0_odds_81 ng rfl ?_
    exact AW.iretE dX0_odds_82 rfl rfl (by first | (rw [if_pos cz, nI_div (by omega) (by omega)]; done) | (rw [if_neg cz, nI_div (by omega) (by omega)]; done)) rfl
  · refine AW.iload dX0_odds_67 rfl rfl ?_
    refine AW.goto (tgt := 74) dX0_odds_69 (by decide) ?_
    refine AW.iload dX0_odds_74 rfl rfl ?_
    refine AW.iload dX0_odds_76 rfl rfl ?_
    refine AW.callS (Y := mX0_common) (n := 2) (r_X0_common 11 a w hw (by omega) (by decide)) (by decide) (by decide) q1208 q1209 q138 q1210 dX0_odds_78 (by decide +kernel) rfl rfl (Nat.le_of_ble_eq_true rfl) rfl ?_
    refine AW.idiv dX0_odds_81 ng rfl ?_
    exact AW.iretE dX0_odds_82 rfl rfl (by first | (rw [if_pos cz, nI_div (by omega) (by omega)]; done) | (rw [if_neg cz, nI_div (by omega) (by omega)]; done)) rfl
