/-! SYSTEM 9: what is fed, rounds, weddings (printed by tools/x9.py) -/
set_option maxRecDepth 100000
def byI (v : Int32) (j : Nat) : Int32 := (v >>> (nI (24 - 8 * j) &&& 31)).toInt8.toInt32
def fourS (t : Nat → Int32) (p : Nat) (v : Int32) : Nat → Int32 := mv t p (byI v) 4
def feedS (t : Nat → Int32) (p : Nat) (a b c d e : Int32) : Nat → Int32 := fourS (fourS (fourS (fourS (fourS t p a) (p + 4) b) (p + 8) c) (p + 12) d) (p + 16) e
theorem i8_8 (x : Int32) : x.toInt8.toInt32.toInt8 = x.toInt8 := Int8.toInt8_toInt32 _
theorem r_X0_put {s : Sg} (p : Nat) (h4 : s.S 100 = nI p) (hp4 : p + 4 ≤ 300) (v : Int32) : Run 1 mX0_put [.ref 512, .int v] (hp s) (.inl none) (hp ((s.setA 619 (fourS (s.A 619) p v)).setS 100 (nI (p + 4)))) := by
  refine Run.of rfl (Nat.le_of_ble_eq_true rfl) rfl ?_
  refine AW.bipush (v := 24) dX0_put_0 (by decide) rfl ?_
  refine AW.istore_n (i := 2) dX0_put_2 rfl rfl (Nat.le_of_ble_eq_true rfl) rfl rfl ?_
  refine AW.hp (h2 := (hp ((s.setA 619 (mv (s.A 619) p (byI v) 0)).setS 100 (nI (p + 0))))) (by rw [mv_0, setA_id, Nat.add_zero, ← h4, setS_id]) ?_
  refine loopUp (P := fun k => AW 1 mX0_put (hp ((s.setA 619 (mv (s.A 619) p (byI v) k)).setS 100 (nI (p + k)))) 3 [some (.ref 512), some (.int (v)), some (.int (24 - 8 * nI k))] [] (.inl none) (hp ((s.setA 619 (fourS (s.A 619) p v)).setS 100 (nI (p + 4))))) 4 ?_ ?_ 0 (by first | exact Nat.zero_le _ | omega)
  · refine AW.iload_n dX0_put_3 rfl rfl ?_
    refine AW.if_lt (tgt := 36) dX0_put_4 (by decide) rfl (fun _ => ?_) (fun c_ => by first | exact absurd c_ (by decide) | exact absurd (by decide) c_ | exact absurd c_ (not_not_intro (by decide)) | exact Bool.noConfusion (c_.symm.trans (by decide)))
    exact AW.vretE dX0_put_36 rfl rfl rfl
  · intro k hk ihk
    refine AW.iload_n dX0_put_3 rfl rfl ?_
    refine AW.if_lt (tgt := 36) dX0_put_4 (by decide) rfl (fun c_ => by first | exact absurd c_ (by rw [show (24 : Int32) - 8 * nI k = nI (24 - 8 * k) from sh24 k (by omega)]; exact nI_pos (by omega)) | exact absurd (by rw [show (24 : Int32) - 8 * nI k = nI (24 - 8 * k) from sh24 k (by omega)]; exact nI_pos (by omega)) c_ | exact Bool.noConfusion (c_.symm.trans (by rw [show (24 : Int32) - 8 * nI k = nI (24 - 8 * k) from sh24 k (by omega)]; exact nI_pos (by omega)))) (fun _ => ?_)
    refine AW.aload_n dX0_put_7 rfl rfl ?_
    refine AW.get ci0 2 (by decide) q231 dX0_put_8 gX rfl rfl ?_
    refine AW.aload_n dX0_put_11 rfl rfl ?_
    refine AW.get ci0 3 (by decide) q232 dX0_put_12 gX rfl rfl ?_
    refine AW.iload_n dX0_put_15 rfl rfl ?_
    refine AW.iload_n dX0_put_16 rfl rfl ?_
    refine AW.ishr dX0_put_17 rfl ?_
    refine AW.i2b dX0_put_18 rfl ?_
    refine AW.bast dX0_put_19 (by decide) g619 (by rw [SA_S1]; exact in0 (p + k) (by omega) (by decide)) (j := p + k) (by rw [SA_S1]; exact cI_nI (by omega)) s619 rfl ?_
    refine AW.aload_n dX0_put_20 rfl rfl ?_
    refine AW.dup dX0_put_21 rfl rfl ?_
    refine AW.get ci0 3 (by decide) q232 dX0_put_22 gX rfl rfl ?_
    refine AW.iconst (v := 1) dX0_put_25 (by decide) rfl ?_
    refine AW.iadd dX0_put_26 rfl ?_
    refine AW.put ci0 3 (by decide) q232 dX0_put_27 (by decide) gX rfl (fun _ => rfl) (fun _ => rfl) (Nat.le_of_ble_eq_true rfl) sX3 rfl ?_
    refine AW.iinc (v := (-8)) dX0_put_30 rfl (by decide) rfl rfl rfl ?_
    refine AW.goto (tgt := 3) dX0_put_33 (by decide) ?_
    exact AW.hp (by rw [SA_s, SA_S, SA_A, nI_1, show (24 : Int32) - 8 * nI k = nI (24 - 8 * k) from sh24 k (by omega), i8_8]; exact congrArg (fun q => hp ((s.setA 619 q).setS 100 (nI (p + k + 1)))) mv_s) (AW.ls (by rw [nI_succ k, sh8]; rfl) ihk)
theorem r_X0_feed_f {s : Sg} (a b c e f : Int32) (hb : (300 : Int32) < s.S 100 + 20) : Run 3 mX0_feed [.ref 512, .int a, .int b, .int c, .int e, .int f] (hp s) (.inl (some (.int (-1)))) (hp s) := by
  refine Run.of rfl (Nat.le_of_ble_eq_true rfl) rfl ?_
  refine AW.aload_n dX0_feed_0 rfl rfl ?_
  refine AW.get ci0 3 (by decide) q232 dX0_feed_1 gX rfl rfl ?_
  refine AW.bipush (v := 20) dX0_feed_4 (by decide) rfl ?_
  refine AW.iadd dX0_feed_6 rfl ?_
  refine AW.sipush (v := 300) dX0_feed_7 (by decide) rfl ?_
  refine AW.icmp_le (tgt := 15) dX0_feed_10 (by decide) rfl (fun c_ => by first | exact absurd c_ (fun q => absurd hb (Int32.not_lt.mpr q)) | exact absurd (fun q => absurd hb (Int32.not_lt.mpr q)) c_ | exact Bool.noConfusion (c_.symm.trans (fun q => absurd hb (Int32.not_lt.mpr q)))) (fun _ => ?_)
  refine AW.iconst (v := (-1)) dX0_feed_13 (by decide) rfl ?_
  exact AW.iretE dX0_feed_14 rfl rfl rfl rfl
theorem r_X0_feed_t {s : Sg} (p : Nat) (h4 : s.S 100 = nI p) (hp20 : p + 20 ≤ 300) (a b c e f : Int32) : Run 3 mX0_feed [.ref 512, .int a, .int b, .int c, .int e, .int f] (hp s) (.inl (some (.int (nI (p + 20))))) (hp ((s.setA 619 (feedS (s.A 619) p a b c e f)).setS 100 (nI (p + 20)))) := by
  refine Run.of rfl (Nat.le_of_ble_eq_true rfl) rfl ?_
  refine AW.aload_n dX0_feed_0 rfl rfl ?_
  refine AW.get ci0 3 (by decide) q232 dX0_feed_1 gX rfl rfl ?_
  refine AW.bipush (v := 20) dX0_feed_4 (by decide) rfl ?_
  refine AW.iadd dX0_feed_6 rfl ?_
  refine AW.sipush (v := 300) dX0_feed_7 (by decide) rfl ?_
  refine AW.icmp_le (tgt := 15) dX0_feed_10 (by decide) rfl (fun _ => ?_) (fun c_ => by first | exact absurd c_ (by rw [h4, show (20 : Int32) = nI 20 from rfl, nI_add, Int32.le_iff_toInt_le, nI_t (by omega)]; show _ ≤ (300 : Int); omega) | exact absurd (by rw [h4, show (20 : Int32) = nI 20 from rfl, nI_add, Int32.le_iff_toInt_le, nI_t (by omega)]; show _ ≤ (300 : Int); omega) c_ | exact absurd c_ (not_not_intro (by rw [h4, show (20 : Int32) = nI 20 from rfl, nI_add, Int32.le_iff_toInt_le, nI_t (by omega)]; show _ ≤ (300 : Int); omega)) | exact Bool.noConfusion (c_.symm.trans (by rw [h4, show (20 : Int32) = nI 20 from rfl, nI_add, Int32.le_iff_toInt_le, nI_t (by omega)]; show _ ≤ (300 : Int); omega)))
  refine AW.aload_n dX0_feed_15 rfl rfl ?_
  refine AW.iload_n dX0_feed_16 rfl rfl ?_
  refine AW.callV (Y := mX0_put) (n := 1) (r_X0_put p h4 (by omega) a) (by decide) (by decide) rfl gX q285 q287 qs0 q138 q288 dX0_feed_17 (by decide +kernel) rfl rfl (Nat.le_of_ble_eq_true rfl) rfl ?_
  refine AW.hp (h2 := hp ((s.setA 619 (fourS (s.A 619) p a)).setS 100 (nI (p + 4)))) (by first | rfl | (rw [SA_s, SA_A])) ?_
  refine AW.aload_n dX0_feed_20 rfl rfl ?_
  refine AW.iload_n dX0_feed_21 rfl rfl ?_
  refine AW.callV (Y := mX0_put) (n := 1) (r_X0_put (s := ((s.setA 619 (fourS (s.A 619) p a)).setS 100 (nI (p + 4)))) (p + 4) SA_S1 (by omega) b) (by decide) (by decide) rfl gX q285 q287 qs0 q138 q288 dX0_feed_22 (by decide +kernel) rfl rfl (Nat.le_of_ble_eq_true rfl) rfl ?_
  refine AW.hp (h2 := hp ((s.setA 619 (fourS (fourS (s.A 619) p a) (p + 4) b)).setS 100 (nI (p + 8)))) (by first | rfl | (rw [SA_s, SA_A])) ?_
  refine AW.aload_n dX0_feed_25 rfl rfl ?_
  refine AW.iload_n dX0_feed_26 rfl rfl ?_
  refine AW.callV (Y := mX0_put) (n := 1) (r_X0_put (s := ((s.setA 619 (fourS (fourS (s.A 619) p a) (p + 4) b)).setS 100 (nI (p + 8)))) (p + 8) SA_S1 (by omega) c) (by decide) (by decide) rfl gX q285 q287 qs0 q138 q288 dX0_feed_27 (by decide +kernel) rfl rfl (Nat.le_of_ble_eq_true rfl) rfl ?_
  refine AW.hp (h2 := hp ((s.setA 619 (fourS (fourS (fourS (s.A 619) p a) (p + 4) b) (p + 8) c)).setS 100 (nI (p + 12)))) (by first | rfl | (rw [SA_s, SA_A])) ?_
  refine AW.aload_n dX0_feed_30 rfl rfl ?_
  refine AW.iload dX0_feed_31 rfl rfl ?_
  refine AW.callV (Y := mX0_put) (n := 1) (r_X0_put (s := ((s.setA 619 (fourS (fourS (fourS (s.A 619) p a) (p + 4) b) (p + 8) c)).setS 100 (nI (p + 12)))) (p + 12) SA_S1 (by omega) e) (by decide) (by decide) rfl gX q285 q287 qs0 q138 q288 dX0_feed_33 (by decide +kernel) rfl rfl (Nat.le_of_ble_eq_true rfl) rfl ?_
  refine AW.hp (h2 := hp ((s.setA 619 (fourS (fourS (fourS (fourS (s.A 619) p a) (p + 4) b) (p + 8) c) (p + 12) e)).setS 100 (nI (p + 16)))) (by first | rfl | (rw [SA_s, SA_A])) ?_
  refine AW.aload_n dX0_feed_36 rfl rfl ?_
  refine AW.iload dX0_feed_37 rfl rfl ?_
  refine AW.callV (Y := mX0_put) (n := 1) (r_X0_put (s := ((s.setA 619 (fourS (fourS (fourS (fourS (s.A 619) p a) (p + 4) b) (p + 8) c) (p + 12) e)).setS 100 (nI (p + 16)))) (p + 16) SA_S1 (by omega) f) (by decide) (by decide) rfl gX q285 q287 qs0 q138 q288 dX0_feed_39 (by decide +kernel) rfl rfl (Nat.le_of_ble_eq_true rfl) rfl ?_
  refine AW.hp (h2 := hp ((s.setA 619 (fourS (fourS (fourS (fourS (fourS (s.A 619) p a) (p + 4) b) (p + 8) c) (p + 12) e) (p + 16) f)).setS 100 (nI (p + 20)))) (by first | rfl | (rw [SA_s, SA_A])) ?_
  refine AW.aload_n dX0_feed_42 rfl rfl ?_
  refine AW.get ci0 3 (by decide) q232 dX0_feed_43 gX rfl rfl ?_
  exact AW.iretE dX0_feed_46 rfl rfl SA_S1 rfl
/-- so many steps through the sets of like size, all of them within the dates -/
def likeOk : Nat → Int32 → Bool
  | 0, x => decide (1048576 ≤ x)
  | n + 1, x => decide (x < 1048576) && (!decide (x &&& -x = 0) && likeOk n (likeI x))
theorem likeOk_k : ∀ (k n : Nat) (x : Int32), likeOk (k + n) x = true → likeOk n (iter likeI k x) = true
  | 0, n, x, h => by rw [Nat.zero_add] at h; exact h
  | k + 1, n, x, h => by
    rw [show k + 1 + n = (k + n) + 1 by omega] at h
    unfold likeOk at h
    simp only [Bool.and_eq_true] at h
    have := likeOk_k k n (likeI x) h.2.2
    have e : iter likeI (k + 1) x = iter likeI k (likeI x) := by
      clear h this
      induction k with
      | zero => rfl
      | succ k ih => exact congrArg likeI ih
    rw [e]
    exact this
theorem like1 : likeOk 20 1 = true := by decide +kernel
theorem like2 : likeOk 190 3 = true := by decide +kernel
theorem like3 : likeOk 1140 7 = true := by decide +kernel
def rndS (v : Vw) (c : Int32) (C : Nat) (x : Int32) : Int32 := srch (fun k => !decide (v.isRound (iter likeI k x) = 0)) (fun k => iter likeI k x) c (C - 0) 0
def Vw.roundsS (v : Vw) (g : Int32) : Int32 := if v.thereI g = 0 then 0 else rndS v (rndS v (rndS v 15 1140 7) 190 3) 20 1
theorem rounds_3 {s : Sg} (hn : (vwS (s.A 514) (s.A 515)).ok) : AW 6 mX0_rounds (hp s) 11 [some (.ref 512), some (.int (3)), none] [] (.inl (some (.int (rndS (vwS (s.A 514) (s.A 515)) (15) 1140 7)))) (hp s) := by
  refine AW.iload_n dX0_rounds_11 rfl rfl ?_
  refine AW.iconst (v := 3) dX0_rounds_12 (by decide) rfl ?_
  refine AW.icmp_gt (tgt := 53) dX0_rounds_13 (by decide) rfl (fun c_ => by first | exact absurd c_ (by decide) | exact absurd (by decide) c_ | exact Bool.noConfusion (c_.symm.trans (by decide))) (fun _ => ?_)
  refine AW.iconst (v := 1) dX0_rounds_16 (by decide) rfl ?_
  refine AW.iload_n dX0_rounds_17 rfl rfl ?_
  refine AW.ishl dX0_rounds_18 rfl ?_
  refine AW.iconst (v := 1) dX0_rounds_19 (by decide) rfl ?_
  refine AW.isub dX0_rounds_20 rfl ?_
  refine AW.istore_n (i := 2) dX0_rounds_21 rfl rfl (Nat.le_of_ble_eq_true rfl) rfl rfl ?_
  refine AW.ls (ls' := [some (.ref 512), some (.int (3)), some (.int (iter likeI 0 7))]) (by rfl) ?_
  refine AW.oo (o2 := (.inl (some (.int (srch (fun k => !decide ((vwS (s.A 514) (s.A 515)).isRound (iter likeI k 7) = 0)) (fun k => iter likeI k 7) (15) (1140 - 0) 0))))) rfl ?_
  refine loopUp (P := fun k => AW 6 mX0_rounds (hp s) 22 [some (.ref 512), some (.int (3)), some (.int (iter likeI k 7))] [] (.inl (some (.int (srch (fun k => !decide ((vwS (s.A 514) (s.A 515)).isRound (iter likeI k 7) = 0)) (fun k => iter likeI k 7) (15) (1140 - k) k)))) (hp s)) 1140 ?_ ?_ 0 (by first | exact Nat.zero_le _ | omega)
  · refine AW.oo (o2 := .inl (some (.int (15)))) (by rw [srch_e]) ?_
    refine AW.iload_n dX0_rounds_22 rfl rfl ?_
    refine AW.ldcw dX0_rounds_23 q1254 rfl ?_
    refine AW.icmp_ge (tgt := 47) dX0_rounds_26 (by decide) rfl (fun _ => ?_) (fun c_ => by first | exact absurd c_ (by have q := likeOk_k 1140 0 7 like3; unfold likeOk at q; exact of_decide_eq_true q) | exact absurd (by have q := likeOk_k 1140 0 7 like3; unfold likeOk at q; exact of_decide_eq_true q) c_ | exact absurd c_ (not_not_intro (by have q := likeOk_k 1140 0 7 like3; unfold likeOk at q; exact of_decide_eq_true q)) | exact Bool.noConfusion (c_.symm.trans (by have q := likeOk_k 1140 0 7 like3; unfold likeOk at q; exact of_decide_eq_true q)))
    refine AW.iinc (v := 1) dX0_rounds_47 rfl (by decide) rfl rfl rfl ?_
    refine AW.goto (tgt := 11) dX0_rounds_50 (by decide) ?_
    refine AW.iload_n dX0_rounds_11 rfl rfl ?_
    refine AW.iconst (v := 3) dX0_rounds_12 (by decide) rfl ?_
    refine AW.icmp_gt (tgt := 53) dX0_rounds_13 (by decide) rfl (fun _ => ?_) (fun c => absurd (by decide) c)
    refine AW.bipush (v := 15) dX0_rounds_53 (by decide) rfl ?_
    exact AW.iretE dX0_rounds_55 rfl rfl rfl rfl
  · intro k hk ihk
    have q := likeOk_k k (1140 - (k + 1) + 1) 7 (by rw [show k + (1140 - (k + 1) + 1) = 1140 by omega]; exact like3)
    unfold likeOk at q
    simp only [Bool.and_eq_true, Bool.not_eq_true', decide_eq_true_eq, decide_eq_false_iff_not] at q
    refine AW.iload_n dX0_rounds_22 rfl rfl ?_
    refine AW.ldcw dX0_rounds_23 q1254 rfl ?_
    refine AW.icmp_ge (tgt := 47) dX0_rounds_26 (by decide) rfl (fun c_ => by first | exact absurd c_ (Int32.not_le.mpr q.1) | exact absurd (Int32.not_le.mpr q.1) c_ | exact Bool.noConfusion (c_.symm.trans (Int32.not_le.mpr q.1))) (fun _ => ?_)
    refine AW.aload_n dX0_rounds_29 rfl rfl ?_
    refine AW.iload_n dX0_rounds_30 rfl rfl ?_
    refine AW.callV (Y := mX0_isRound) (n := 1) (r_X0_isRound hn _) (by decide) (by decide) rfl gX q1255 q1257 qs55 q138 q1258 dX0_rounds_31 (by decide +kernel) rfl rfl (Nat.le_of_ble_eq_true rfl) rfl ?_
    refine AW.if_eq (tgt := 39) dX0_rounds_34 (by decide) rfl (fun c => ?_) (fun c => ?_)
    · refine AW.iload_n dX0_rounds_39 rfl rfl ?_
      refine AW.callS (Y := mX0_nextLike) (n := 1) (r_X0_nextLike _ q.2.1) (by decide) (by decide) q1259 q1260 q138 q1261 dX0_rounds_40 (by decide +kernel) rfl rfl (Nat.le_of_ble_eq_true rfl) rfl ?_
      refine AW.istore_n (i := 2) dX0_rounds_43 rfl rfl (Nat.le_of_ble_eq_true rfl) rfl rfl ?_
      refine AW.goto (tgt := 22) dX0_rounds_44 (by decide) ?_
      exact AW.oo (by rw [srch_f hk (by show (!decide _) = false; rw [dec_t (show (vwS (s.A 514) (s.A 515)).isRound (iter likeI k 7) = 0 from c)]; rfl)]) ihk
    · refine AW.iload_n dX0_rounds_37 rfl rfl ?_
      have hq : (fun k => !decide ((vwS (s.A 514) (s.A 515)).isRound (iter likeI k 7) = 0)) k = true := by show (!decide ((vwS (s.A 514) (s.A 515)).isRound (iter likeI k 7) = 0)) = true; rw [dec_f c]; rfl
      exact AW.iretE dX0_rounds_38 rfl rfl (srch_t (f := fun k => iter likeI k 7) hk hq).symm rfl
theorem rounds_2 {s : Sg} (hn : (vwS (s.A 514) (s.A 515)).ok) : AW 6 mX0_rounds (hp s) 11 [some (.ref 512), some (.int (2)), none] [] (.inl (some (.int (rndS (vwS (s.A 514) (s.A 515)) (rndS (vwS (s.A 514) (s.A 515)) 15 1140 7) 190 3)))) (hp s) := by
  refine AW.iload_n dX0_rounds_11 rfl rfl ?_
  refine AW.iconst (v := 3) dX0_rounds_12 (by decide) rfl ?_
  refine AW.icmp_gt (tgt := 53) dX0_rounds_13 (by decide) rfl (fun c_ => by first | exact absurd c_ (by decide) | exact absurd (by decide) c_ | exact Bool.noConfusion (c_.symm.trans (by decide))) (fun _ => ?_)
  refine AW.iconst (v := 1) dX0_rounds_16 (by decide) rfl ?_
  refine AW.iload_n dX0_rounds_17 rfl rfl ?_
  refine AW.ishl dX0_rounds_18 rfl ?_
  refine AW.iconst (v := 1) dX0_rounds_19 (by decide) rfl ?_
  refine AW.isub dX0_rounds_20 rfl ?_
  refine AW.istore_n (i := 2) dX0_rounds_21 rfl rfl (Nat.le_of_ble_eq_true rfl) rfl rfl ?_
  refine AW.ls (ls' := [some (.ref 512), some (.int (2)), some (.int (iter likeI 0 3))]) (by rfl) ?_
  refine AW.oo (o2 := (.inl (some (.int (srch (fun k => !decide ((vwS (s.A 514) (s.A 515)).isRound (iter likeI k 3) = 0)) (fun k => iter likeI k 3) (rndS (vwS (s.A 514) (s.A 515)) 15 1140 7) (190 - 0) 0))))) rfl ?_
  refine loopUp (P := fun k => AW 6 mX0_rounds (hp s) 22 [some (.ref 512), some (.int (2)), some (.int (iter likeI k 3))] [] (.inl (some (.int (srch (fun k => !decide ((vwS (s.A 514) (s.A 515)).isRound (iter likeI k 3) = 0)) (fun k => iter likeI k 3) (rndS (vwS (s.A 514) (s.A 515)) 15 1140 7) (190 - k) k)))) (hp s)) 190 ?_ ?_ 0 (by first | exact Nat.zero_le _ | omega)
  · refine AW.oo (o2 := .inl (some (.int (rndS (vwS (s.A 514) (s.A 515)) 15 1140 7)))) (by rw [srch_e]) ?_
    refine AW.iload_n dX0_rounds_22 rfl rfl ?_
    refine AW.ldcw dX0_rounds_23 q1254 rfl ?_
    refine AW.icmp_ge (tgt := 47) dX0_rounds_26 (by decide) rfl (fun _ => ?_) (fun c_ => by first | exact absurd c_ (by have q := likeOk_k 190 0 3 like2; unfold likeOk at q; exact of_decide_eq_true q) | exact absurd (by have q := likeOk_k 190 0 3 like2; unfold likeOk at q; exact of_decide_eq_true q) c_ | exact absurd c_ (not_not_intro (by have q := likeOk_k 190 0 3 like2; unfold likeOk at q; exact of_decide_eq_true q)) | exact Bool.noConfusion (c_.symm.trans (by have q := likeOk_k 190 0 3 like2; unfold likeOk at q; exact of_decide_eq_true q)))
    refine AW.iinc (v := 1) dX0_rounds_47 rfl (by decide) rfl rfl rfl ?_
    refine AW.goto (tgt := 11) dX0_rounds_50 (by decide) ?_
    exact AW.fg 2 rfl (AW.ls (by rfl) (rounds_3 hn))
  · intro k hk ihk
    have q := likeOk_k k (190 - (k + 1) + 1) 3 (by rw [show k + (190 - (k + 1) + 1) = 190 by omega]; exact like2)
    unfold likeOk at q
    simp only [Bool.and_eq_true, Bool.not_eq_true', decide_eq_true_eq, decide_eq_false_iff_not] at q
    refine AW.iload_n dX0_rounds_22 rfl rfl ?_
    refine AW.ldcw dX0_rounds_23 q1254 rfl ?_
    refine AW.icmp_ge (tgt := 47) dX0_rounds_26 (by decide) rfl (fun c_ => by first | exact absurd c_ (Int32.not_le.mpr q.1) | exact absurd (Int32.not_le.mpr q.1) c_ | exact Bool.noConfusion (c_.symm.trans (Int32.not_le.mpr q.1))) (fun _ => ?_)
    refine AW.aload_n dX0_rounds_29 rfl rfl ?_
    refine AW.iload_n dX0_rounds_30 rfl rfl ?_
    refine AW.callV (Y := mX0_isRound) (n := 1) (r_X0_isRound hn _) (by decide) (by decide) rfl gX q1255 q1257 qs55 q138 q1258 dX0_rounds_31 (by decide +kernel) rfl rfl (Nat.le_of_ble_eq_true rfl) rfl ?_
    refine AW.if_eq (tgt := 39) dX0_rounds_34 (by decide) rfl (fun c => ?_) (fun c => ?_)
    · refine AW.iload_n dX0_rounds_39 rfl rfl ?_
      refine AW.callS (Y := mX0_nextLike) (n := 1) (r_X0_nextLike _ q.2.1) (by decide) (by decide) q1259 q1260 q138 q1261 dX0_rounds_40 (by decide +kernel) rfl rfl (Nat.le_of_ble_eq_true rfl) rfl ?_
      refine AW.istore_n (i := 2) dX0_rounds_43 rfl rfl (Nat.le_of_ble_eq_true rfl) rfl rfl ?_
      refine AW.goto (tgt := 22) dX0_rounds_44 (by decide) ?_
      exact AW.oo (by rw [srch_f hk (by show (!decide _) = false; rw [dec_t (show (vwS (s.A 514) (s.A 515)).isRound (iter likeI k 3) = 0 from c)]; rfl)]) ihk
    · refine AW.iload_n dX0_rounds_37 rfl rfl ?_
      have hq : (fun k => !decide ((vwS (s.A 514) (s.A 515)).isRound (iter likeI k 3) = 0)) k = true := by show (!decide ((vwS (s.A 514) (s.A 515)).isRound (iter likeI k 3) = 0)) = true; rw [dec_f c]; rfl
      exact AW.iretE dX0_rounds_38 rfl rfl (srch_t (f := fun k => iter likeI k 3) hk hq).symm rfl
theorem rounds_1 {s : Sg} (hn : (vwS (s.A 514) (s.A 515)).ok) : AW 6 mX0_rounds (hp s) 11 [some (.ref 512), some (.int (1)), none] [] (.inl (some (.int (rndS (vwS (s.A 514) (s.A 515)) (rndS (vwS (s.A 514) (s.A 515)) (rndS (vwS (s.A 514) (s.A 515)) 15 1140 7) 190 3) 20 1)))) (hp s) := by
  refine AW.iload_n dX0_rounds_11 rfl rfl ?_
  refine AW.iconst (v := 3) dX0_rounds_12 (by decide) rfl ?_
  refine AW.icmp_gt (tgt := 53) dX0_rounds_13 (by decide) rfl (fun c_ => by first | exact absurd c_ (by decide) | exact absurd (by decide) c_ | exact Bool.noConfusion (c_.symm.trans (by decide))) (fun _ => ?_)
  refine AW.iconst (v := 1) dX0_rounds_16 (by decide) rfl ?_
  refine AW.iload_n dX0_rounds_17 rfl rfl ?_
  refine AW.ishl dX0_rounds_18 rfl ?_
  refine AW.iconst (v := 1) dX0_rounds_19 (by decide) rfl ?_
  refine AW.isub dX0_rounds_20 rfl ?_
  refine AW.istore_n (i := 2) dX0_rounds_21 rfl rfl (Nat.le_of_ble_eq_true rfl) rfl rfl ?_
  refine AW.ls (ls' := [some (.ref 512), some (.int (1)), some (.int (iter likeI 0 1))]) (by rfl) ?_
  refine AW.oo (o2 := (.inl (some (.int (srch (fun k => !decide ((vwS (s.A 514) (s.A 515)).isRound (iter likeI k 1) = 0)) (fun k => iter likeI k 1) (rndS (vwS (s.A 514) (s.A 515)) (rndS (vwS (s.A 514) (s.A 515)) 15 1140 7) 190 3) (20 - 0) 0))))) rfl ?_
  refine loopUp (P := fun k => AW 6 mX0_rounds (hp s) 22 [some (.ref 512), some (.int (1)), some (.int (iter likeI k 1))] [] (.inl (some (.int (srch (fun k => !decide ((vwS (s.A 514) (s.A 515)).isRound (iter likeI k 1) = 0)) (fun k => iter likeI k 1) (rndS (vwS (s.A 514) (s.A 515)) (rndS (vwS (s.A 514) (s.A 515)) 15 1140 7) 190 3) (20 - k) k)))) (hp s)) 20 ?_ ?_ 0 (by first | exact Nat.zero_le _ | omega)
  · refine AW.oo (o2 := .inl (some (.int (rndS (vwS (s.A 514) (s.A 515)) (rndS (vwS (s.A 514) (s.A 515)) 15 1140 7) 190 3)))) (by rw [srch_e]) ?_
    refine AW.iload_n dX0_rounds_22 rfl rfl ?_
    refine AW.ldcw dX0_rounds_23 q1254 rfl ?_
    refine AW.icmp_ge (tgt := 47) dX0_rounds_26 (by decide) rfl (fun _ => ?_) (fun c_ => by first | exact absurd c_ (by have q := likeOk_k 20 0 1 like1; unfold likeOk at q; exact of_decide_eq_true q) | exact absurd (by have q := likeOk_k 20 0 1 like1; unfold likeOk at q; exact of_decide_eq_true q) c_ | exact absurd c_ (not_not_intro (by have q := likeOk_k 20 0 1 like1; unfold likeOk at q; exact of_decide_eq_true q)) | exact Bool.noConfusion (c_.symm.trans (by have q := likeOk_k 20 0 1 like1; unfold likeOk at q; exact of_decide_eq_true q)))
    refine AW.iinc (v := 1) dX0_rounds_47 rfl (by decide) rfl rfl rfl ?_
    refine AW.goto (tgt := 11) dX0_rounds_50 (by decide) ?_
    exact AW.fg 2 rfl (AW.ls (by rfl) (rounds_2 hn))
  · intro k hk ihk
    have q := likeOk_k k (20 - (k + 1) + 1) 1 (by rw [show k + (20 - (k + 1) + 1) = 20 by omega]; exact like1)
    unfold likeOk at q
    simp only [Bool.and_eq_true, Bool.not_eq_true', decide_eq_true_eq, decide_eq_false_iff_not] at q
    refine AW.iload_n dX0_rounds_22 rfl rfl ?_
    refine AW.ldcw dX0_rounds_23 q1254 rfl ?_
    refine AW.icmp_ge (tgt := 47) dX0_rounds_26 (by decide) rfl (fun c_ => by first | exact absurd c_ (Int32.not_le.mpr q.1) | exact absurd (Int32.not_le.mpr q.1) c_ | exact Bool.noConfusion (c_.symm.trans (Int32.not_le.mpr q.1))) (fun _ => ?_)
    refine AW.aload_n dX0_rounds_29 rfl rfl ?_
    refine AW.iload_n dX0_rounds_30 rfl rfl ?_
    refine AW.callV (Y := mX0_isRound) (n := 1) (r_X0_isRound hn _) (by decide) (by decide) rfl gX q1255 q1257 qs55 q138 q1258 dX0_rounds_31 (by decide +kernel) rfl rfl (Nat.le_of_ble_eq_true rfl) rfl ?_
    refine AW.if_eq (tgt := 39) dX0_rounds_34 (by decide) rfl (fun c => ?_) (fun c => ?_)
    · refine AW.iload_n dX0_rounds_39 rfl rfl ?_
      refine AW.callS (Y := mX0_nextLike) (n := 1) (r_X0_nextLike _ q.2.1) (by decide) (by decide) q1259 q1260 q138 q1261 dX0_rounds_40 (by decide +kernel) rfl rfl (Nat.le_of_ble_eq_true rfl) rfl ?_
      refine AW.istore_n (i := 2) dX0_rounds_43 rfl rfl (Nat.le_of_ble_eq_true rfl) rfl rfl ?_
      refine AW.goto (tgt := 22) dX0_rounds_44 (by decide) ?_
      exact AW.oo (by rw [srch_f hk (by show (!decide _) = false; rw [dec_t (show (vwS (s.A 514) (s.A 515)).isRound (iter likeI k 1) = 0 from c)]; rfl)]) ihk
    · refine AW.iload_n dX0_rounds_37 rfl rfl ?_
      have hq : (fun k => !decide ((vwS (s.A 514) (s.A 515)).isRound (iter likeI k 1) = 0)) k = true := by show (!decide ((vwS (s.A 514) (s.A 515)).isRound (iter likeI k 1) = 0)) = true; rw [dec_f c]; rfl
      exact AW.iretE dX0_rounds_38 rfl rfl (srch_t (f := fun k => iter likeI k 1) hk hq).symm rfl
theorem r_X0_rounds {s : Sg} (hn : (vwS (s.A 514) (s.A 515)).ok) : Run 6 mX0_rounds [.ref 512] (hp s) (.inl (some (.int ((vwS (s.A 514) (s.A 515)).roundsS (s.A 515 2))))) (hp s) := by
  refine Run.of rfl (Nat.le_of_ble_eq_true rfl) rfl ?_
  refine AW.aload_n dX0_rounds_0 rfl rfl ?_
  refine AW.callV (Y := mX0_there) (n := 0) (r_X0_there) (by decide) (by decide) rfl gX q1242 q1244 qs53 q138 q1245 dX0_rounds_1 (by decide +kernel) rfl rfl (Nat.le_of_ble_eq_true rfl) rfl ?_
  refine AW.if_ne (tgt := 9) dX0_rounds_4 (by decide) rfl (fun c4 => ?_) (fun c4 => ?_)
  · refine AW.iconst (v := 1) dX0_rounds_9 (by decide) rfl ?_
    refine AW.istore_n (i := 1) dX0_rounds_10 rfl rfl (Nat.le_of_ble_eq_true rfl) rfl rfl ?_
    refine AW.oo (o2 := .inl (some (.int (rndS (vwS (s.A 514) (s.A 515)) (rndS (vwS (s.A 514) (s.A 515)) (rndS (vwS (s.A 514) (s.A 515)) 15 1140 7) 190 3) 20 1)))) (by unfold Vw.roundsS; rw [if_neg c4]) ?_
    exact rounds_1 hn
  · refine AW.iconst (v := 0) dX0_rounds_7 (by decide) rfl ?_
    exact AW.iretE dX0_rounds_8 rfl rfl (by unfold Vw.roundsS; rw [if_pos c4]) rfl
