/-! SYSTEM 24: tokens: what a sum begins with (printed by tools/x24.py) -/
set_option maxRecDepth 100000
theorem mk7 {b : AH} {lo a D : Nat} (hl : 640 ≤ lo) (h1 : lo ≤ a) (h2 : a < 512 + b.n) (n : Int32) (g : b.g a = some (.inr (7, [.int n]))) : SumO lo (512 + b.n) b (D + 1) a (fun _ => n.toInt64) := by
  refine ⟨by omega, ⟨hl, h1, h2, Nat.le_refl _⟩, 7, _, (RX7, TX7, 1), mX7_of, rfl, g, List.mem_of_getElem? (i := 1) rfl, q941, q939, q157, q943, (by decide), ⟨q938, q2036⟩, fun dd s2 hdd hs => ?_⟩
  have ga : (hp s2).g a = some (.inr (7, [.int n])) := (hp_gb (nfx (by omega))).trans ((hs a (by omega)).trans g)
  exact r_X7_of ga
theorem mk9 {b : AH} {lo a D : Nat} (hl : 640 ≤ lo) (h1 : lo ≤ a) (h2 : a < 512 + b.n) {w : Int32} (w0 : 0 ≤ w.toInt) (w8 : w.toInt < 8) (g : b.g a = some (.inr (9, [.int w]))) : SumO lo (512 + b.n) b (D + 1) a (fun N => (N (cI w)).toInt64) := by
  refine ⟨by omega, ⟨hl, h1, h2, Nat.le_refl _⟩, 9, _, (RX9, TX9, 1), mX9_of, rfl, g, List.mem_of_getElem? (i := 3) rfl, q935, q933, q159, q937, (by decide), ⟨q932, q2038⟩, fun dd s2 hdd hs => ?_⟩
  have ga : (hp s2).g a = some (.inr (9, [.int w])) := (hp_gb (nfx (by omega))).trans ((hs a (by omega)).trans g)
  exact r_X9_of ga w0 w8
theorem mk10 {b : AH} {lo a D : Nat} (hl : 640 ≤ lo) (h1 : lo ≤ a) (h2 : a < 512 + b.n) {lo1 hi1 x1 : Nat} {F1 : SumF} (o1 : SumO lo1 hi1 b D x1 F1) (l1 : lo ≤ lo1) (g : b.g a = some (.inr (10, [.ref x1]))) : SumO lo (512 + b.n) b (D + 1) a (fun N => -(F1 N)) := by
  refine ⟨by omega, ⟨hl, h1, h2, Nat.le_refl _⟩, 10, _, (RX10, TX10, 1), mX10_of, rfl, g, List.mem_of_getElem? (i := 4) rfl, q927, q925, q160, q929, (by decide), ⟨q924, q2039⟩, fun dd s2 hdd hs => ?_⟩
  have ga : (hp s2).g a = some (.inr (10, [.ref x1])) := (hp_gb (nfx (by omega))).trans ((hs a (by omega)).trans g)
  have z1 := FnO.at_ o1
  exact r_X10_of (dd := D) hdd o1 (fun k hk => hs k (by omega)) ga
theorem mk8 {b : AH} {lo a D : Nat} (hl : 640 ≤ lo) (h1 : lo ≤ a) (h2 : a < 512 + b.n) {lo1 hi1 x1 : Nat} {F1 : SumF} (o1 : SumO lo1 hi1 b D x1 F1) (l1 : lo ≤ lo1) {lo2 hi2 x2 : Nat} {F2 : SumF} (o2 : SumO lo2 hi2 b D x2 F2) (l2 : lo ≤ lo2) (g : b.g a = some (.inr (8, [.ref x1, .ref x2]))) : SumO lo (512 + b.n) b (D + 1) a (fun N => digX (F1 N) (F2 N)) := by
  refine ⟨by omega, ⟨hl, h1, h2, Nat.le_refl _⟩, 8, _, (RX8, TX8, 2), mX8_of, rfl, g, List.mem_of_getElem? (i := 2) rfl, q919, q917, q158, q921, (by decide), ⟨q916, q2037⟩, fun dd s2 hdd hs => ?_⟩
  have ga : (hp s2).g a = some (.inr (8, [.ref x1, .ref x2])) := (hp_gb (nfx (by omega))).trans ((hs a (by omega)).trans g)
  have z1 := FnO.at_ o1
  have z2 := FnO.at_ o2
  exact r_X8_of (dd := D) hdd o1 (fun k hk => hs k (by omega)) o2 (fun k hk => hs k (by omega)) (by omega) ga
theorem mk11 {b : AH} {lo a D : Nat} (hl : 640 ≤ lo) (h1 : lo ≤ a) (h2 : a < 512 + b.n) {lo1 hi1 x1 : Nat} {F1 : AskF} (o1 : AskO lo1 hi1 b D x1 F1) (l1 : lo ≤ lo1) (g : b.g a = some (.inr (11, [.ref x1]))) : AskO lo (512 + b.n) b (D + 1) a (fun N => !(F1 N)) := by
  refine ⟨by omega, ⟨hl, h1, h2, Nat.le_refl _⟩, 11, _, (RX11, TX11, 1), mX11_is, rfl, g, List.mem_of_getElem? (i := 5) rfl, q1026, q1024, q166, q1028, (by decide), ⟨q1023, q2041⟩, fun dd s2 hdd hs => ?_⟩
  have ga : (hp s2).g a = some (.inr (11, [.ref x1])) := (hp_gb (nfx (by omega))).trans ((hs a (by omega)).trans g)
  have z1 := FnO.at_ o1
  exact r_X11_is (dd := D) hdd o1 (fun k hk => hs k (by omega)) ga
theorem mk12 {b : AH} {lo a D : Nat} (hl : 640 ≤ lo) (h1 : lo ≤ a) (h2 : a < 512 + b.n) {lo1 hi1 x1 : Nat} {F1 : SumF} (o1 : SumO lo1 hi1 b D x1 F1) (l1 : lo ≤ lo1) {lo2 hi2 x2 : Nat} {F2 : SumF} (o2 : SumO lo2 hi2 b D x2 F2) (l2 : lo ≤ lo2) (g : b.g a = some (.inr (12, [.ref x1, .ref x2]))) : AskO lo (512 + b.n) b (D + 1) a (fun N => divB (F1 N) (F2 N)) := by
  refine ⟨by omega, ⟨hl, h1, h2, Nat.le_refl _⟩, 12, _, (RX12, TX12, 2), mX12_is, rfl, g, List.mem_of_getElem? (i := 6) rfl, q1018, q1016, q167, q1020, (by decide), ⟨q1015, q2042⟩, fun dd s2 hdd hs => ?_⟩
  have ga : (hp s2).g a = some (.inr (12, [.ref x1, .ref x2])) := (hp_gb (nfx (by omega))).trans ((hs a (by omega)).trans g)
  have z1 := FnO.at_ o1
  have z2 := FnO.at_ o2
  exact r_X12_is (dd := D) hdd o1 (fun k hk => hs k (by omega)) o2 (fun k hk => hs k (by omega)) ga
theorem mk13 {b : AH} {lo a D : Nat} (hl : 640 ≤ lo) (h1 : lo ≤ a) (h2 : a < 512 + b.n) {lo1 hi1 x1 : Nat} {F1 : SumF} (o1 : SumO lo1 hi1 b D x1 F1) (l1 : lo ≤ lo1) {lo2 hi2 x2 : Nat} {F2 : SumF} (o2 : SumO lo2 hi2 b D x2 F2) (l2 : lo ≤ lo2) {sg : Int32} (g : b.g a = some (.inr (13, [.int sg, .ref x1, .ref x2]))) : AskO lo (512 + b.n) b (D + 1) a (fun N => cmpX sg (F1 N - F2 N)) := by
  refine ⟨by omega, ⟨hl, h1, h2, Nat.le_refl _⟩, 13, _, (RX13, TX13, 3), mX13_is, rfl, g, List.mem_of_getElem? (i := 7) rfl, q1010, q1008, q168, q1012, (by decide), ⟨q1007, q2043⟩, fun dd s2 hdd hs => ?_⟩
  have ga : (hp s2).g a = some (.inr (13, [.int sg, .ref x1, .ref x2])) := (hp_gb (nfx (by omega))).trans ((hs a (by omega)).trans g)
  have z1 := FnO.at_ o1
  have z2 := FnO.at_ o2
  exact r_X13_is (dd := D) hdd o1 (fun k hk => hs k (by omega)) o2 (fun k hk => hs k (by omega)) ga
theorem EQ.wr {T n : Nat} {t : Nat → Int32} {L0 : Lq} {kd : Int32} {s : Sg} {lo sc su i : Nat} {nu op : Int32} (hl : lo ≤ 512 + s.b.n) (r : Int32) : EQ T n t L0 kd lo sc su s i r i (.inr (512 + s.b.n), hp (Tk (s.setb (s.b.push (wrC (512 + s.b.n) r (tkL t n L0 i).2.1) 8)) T n t (tkL t n L0 i) nu op kd)) := ⟨Nat.le_refl _, _, _, nu, op, (ExT.push hl).mono (Nat.le_refl _) (by omega) (by omega), ⟨hl, by show _ < 512 + (s.b.n + 1); omega, push_g⟩, rfl⟩
theorem acc_b {B : Nat → Int32} {n : Nat} : ∀ (m k : Nat) (v : Int32), n - k = m → 0 ≤ v.toInt → v.toInt ≤ 1000000 → 0 ≤ (acc isFig B numM n k v).toInt
  | 0, k, v, hm, h0, h1 => by
    unfold acc
    rw [hm]
    exact h0
  | m + 1, k, v, hm, h0, h1 => by
    cases hf : isFig (B k)
    · rw [acc_f (by omega) hf]
      exact h0
    · have hs := numS_s h0 h1 hf
      rw [acc_t (by omega) hf]
      exact acc_b m (k + 1) _ (by omega) hs.2.1 hs.2.2
theorem lex_nu {B : Nat → Int32} {n p : Nat} {L : Lq} (h : (lexT B n p L).2.2.1 = 1) : 0 ≤ (lexT B n p L).2.2.2.1.toInt := by
  unfold lexT at h ⊢
  by_cases h0 : p = n
  · rw [if_pos h0] at h
    exact absurd (show (0 : Int32) = 1 from h) (by decide)
  rw [if_neg h0] at h ⊢
  by_cases h1 : isFig (B p) = true
  · rw [if_pos h1]
    exact acc_b _ p 0 rfl (by decide) (by decide)
  rw [if_neg h1] at h ⊢
  by_cases h2 : isLet (B p) = true
  · rw [if_pos h2] at h
    exact absurd (show (2 : Int32) = 1 from h) (by decide)
  rw [if_neg h2] at h ⊢
  by_cases h3 : (B p = 60 ∨ B p = 62) ∧ B (p + 1) = 61
  · rw [if_pos h3] at h
    have h' : (if B p = 60 then (4 : Int32) else 5) = 1 := h
    split at h' <;> exact absurd h' (by decide)
  rw [if_neg h3] at h
  have h' : (if isSig (B p) = true then B p else 3) = 1 := h
  by_cases h4 : isSig (B p) = true
  · rw [if_pos h4] at h'
    rw [h'] at h4
    exact absurd h4 (by decide)
  · rw [if_neg h4] at h'
    exact absurd h' (by decide)
theorem tk_nu {t : Nat → Int32} {n : Nat} {L0 : Lq} (i : Nat) (h : (tkL t n L0 i).2.2.1 = 1) : 0 ≤ (tkL t n L0 i).2.2.2.1.toInt := by
  cases i with
  | zero => exact lex_nu h
  | succ i => exact lex_nu h
theorem min_in (v lo : Int32) {hi : Int32} (hh : hi.toInt < 99999) : inI (minI 99999 v) lo hi = inI v lo hi ∧ (inI v lo hi = true → minI 99999 v = v) := by
  have t9 : (99999 : Int32).toInt = 99999 := rfl
  unfold minI
  by_cases h : v < 99999
  · rw [if_pos h]
    exact ⟨rfl, fun _ => rfl⟩
  · rw [if_neg h]
    rw [Int32.lt_iff_toInt_lt, t9] at h
    have a : inI 99999 lo hi = false := by
      unfold inI
      rw [decide_eq_false (by rw [Int32.le_iff_toInt_le, t9]; omega : ¬ (99999 : Int32) ≤ hi), Bool.and_false]
    have b : inI v lo hi = false := by
      unfold inI
      rw [decide_eq_false (by rw [Int32.le_iff_toInt_le]; omega : ¬ v ≤ hi), Bool.and_false]
    rw [a, b]
    exact ⟨rfl, fun z => Bool.noConfusion z⟩
theorem num_in {v : Int32} (h0 : 0 ≤ v.toInt) : inI v 0 9999 = !decide (9999 < v) := by
  have e0 : (0 : Int32).toInt = 0 := rfl
  unfold inI
  rw [decide_eq_true (by rw [Int32.le_iff_toInt_le, e0]; exact h0 : (0 : Int32) ≤ v), Bool.true_and]
  by_cases q : (9999 : Int32) < v
  · rw [decide_eq_true q, decide_eq_false (by rw [Int32.lt_iff_toInt_lt] at q; rw [Int32.le_iff_toInt_le]; omega : ¬ v ≤ 9999)]
    rfl
  · rw [decide_eq_false q, decide_eq_true (Int32.not_lt.mp q)]
    rfl
theorem nmT_in (so : Int32) : nmT so = -1 ∨ (0 ≤ (nmT so).toInt ∧ (nmT so).toInt < 8) := by
  unfold nmT
  repeat' split
  all_goals first | exact Or.inl rfl | exact Or.inr (by decide)
theorem dig_b (p w : Int64) : -1000000000000 ≤ (digX p w).toInt ∧ (digX p w).toInt ≤ 1000000000000 := by
  have e0 : (0 : Int64).toInt = 0 := rfl
  have r : ∀ x : Int64, -1000000000000 ≤ (x % 10).toInt ∧ (x % 10).toInt ≤ 1000000000000 := fun x => by
    have e10 : (10 : Int64).toInt = 10 := rfl
    rw [Int64.toInt_mod, e10]
    have h1 := Int.tmod_lt_of_pos x.toInt (show (0 : Int) < 10 by decide)
    have h2 : -10 < x.toInt.tmod 10 := by
      have := Int.tmod_lt_of_pos (-x.toInt) (show (0 : Int) < 10 by decide)
      rw [Int.neg_tmod] at this
      omega
    omega
  unfold digX
  split
  · rw [e0]; omega
  split
  · rw [e0]; omega
  · exact r _
theorem nI_e8 {o : Nat} (ho : o ≤ 8) : nI o = 8 ↔ o = 8 := by
  constructor
  · intro h
    have e := congrArg Int32.toInt h
    rw [nI_t (by omega)] at e
    have e8 : (8 : Int32).toInt = 8 := rfl
    omega
  · intro h
    rw [h]
    rfl
/-- a digit of a sum -/
theorem q_digit {T n : Nat} {t : Nat → Int32} {L0 : Lq} {kd : Int32} {f : Nat} (h1 : CM T n t L0 kd mX3_one GS 0 0 0 0 0 f) {s : Sg} {i o : Nat} {nu : Int32} (hC : TC s T n t) (ho : o ≤ 8) (hd : isWd (tkL t n L0 i) (w5F 100 105 103 105 116) = true) {x : RD} (e0 : x = if nI o = 8 then .inl (3, i) else bd (RF n t L0 kd f 0 [] (i + 1) (o + 1)) fun c j => if isWd (tkL t n L0 j) (w2F 111 102) = true then bd (RF n t L0 kd f 0 [] (j + 1) (o + 1)) fun c2 j2 => .inr (c ++ c2 ++ [(7, 0)], j2) else .inl (1, j)) (hz : nz x) : RXO (PQ T n t L0 kd (GS (6 + 3 * (8 - o))) 1 (512 + s.b.n) 0 0 s i (nI o) x) (11 + 4 * (8 - o)) mX3_digit [.ref T] (hp (Tk s T n t (tkL t n L0 i) nu (nI o) kd)) := by
  have hT := hC.1
  have hTb := hC.2.1
  have h300 := hC.2.2.2.1
  have hB := hC.2.2.2.2
  have hb := hB.1
  by_cases c8 : nI o = 8
  · rw [if_pos c8] at e0
    have w1 := r_X3_opens_f (s := s) (n := n) (at_ := (tkL t n L0 i).1) (tk := (tkL t n L0 i).2.1) (so := sortS (byteF t n) (tkL t n L0 i)) (nu := nu) (kd := kd) hT hTb hb c8
    refine ⟨_, PQ.l e0 (EQ.wr (nu := nu) (op := nI o) (Nat.le_refl _) 3), ?_⟩
    refine Run.ofX rfl (Nat.le_of_ble_eq_true rfl) rfl ?_
    refine AW.aload_n dX3_digit_0 rfl rfl ?_
    exact AW.callVX (Y := mX3_opens) (n := 0) (w1) (by omega) (by decide) rfl (gTk hT) q558 q560 qs10 q142 q561 dX3_digit_1 (by decide +kernel) rfl rfl (Nat.le_of_ble_eq_true rfl) q557 rfl
  rw [if_neg c8] at e0
  have o8 : o < 8 := Nat.lt_of_le_of_ne ho (fun q => c8 ((nI_e8 ho).mpr q))
  obtain ⟨nu2, hN2, w1⟩ := r_X3_opens_t hC i (L0 := L0) (nu := nu) (op := nI o) (kd := kd) c8
  rw [nI_succ' o] at w1
  obtain ⟨⟨o9, h9⟩, q9, w9⟩ := h1 s (i + 1) (o + 1) nu2 hC (by omega) hN2 (nz_bd (by rw [← e0]; exact hz))
  cases hx : RF n t L0 kd f 0 [] (i + 1) (o + 1) with
  | inl e =>
    rw [hx] at q9 e0
    have q8 : EQ T n t L0 kd (512 + s.b.n) 0 0 s i e.1 e.2 (o9, h9) := EQ.up (b1 := s.b) (show EQ T n t L0 kd (512 + s.b.n) 0 0 (s.setb s.b) (i + 1) e.1 e.2 (o9, h9) from q9) (ExT.refl T (512 + s.b.n) s.b) (by omega) (by omega) (by omega) (by omega)
    obtain ⟨-, q, b2, nu3, op3, -, -, qe⟩ := id q8
    obtain ⟨rfl, rfl⟩ := Prod.mk.inj qe
    refine ⟨_, PQ.l e0 q8, ?_⟩
    refine Run.ofX rfl (Nat.le_of_ble_eq_true rfl) rfl ?_
    refine AW.aload_n dX3_digit_0 rfl rfl ?_
    refine AW.callV (Y := mX3_opens) (n := 0) (w1) (by omega) (by decide) rfl (gTk hT) q558 q560 qs10 q142 q561 dX3_digit_1 (by decide +kernel) rfl rfl (Nat.le_of_ble_eq_true rfl) rfl ?_
    refine AW.aload_n dX3_digit_4 rfl rfl ?_
    exact AW.callVX (Y := mX3_one) (n := 0) (w9) (by omega) (by decide) rfl (gTk hT) q533 q535 qs7 q142 q536 dX3_digit_5 (by decide +kernel) rfl rfl (Nat.le_of_ble_eq_true rfl) q557 rfl
  | inr e =>
    obtain ⟨c, j⟩ := e
    rw [hx] at q9 e0
    obtain ⟨j1, y, b2, nu3, x2, ⟨F, hF1, hF2⟩, hN3, qe⟩ := q9
    obtain ⟨rfl, rfl⟩ := Prod.mk.inj qe
    have j1' : i + 1 + 1 ≤ j := j1
    have x2n := x2.1
    have x2c := x2.2.1
    have x2u := x2.2.2.1
    have x2v := x2.2.2.2.1
    have hC2 : TC (s.setb b2) T n t := hC.ext x2 (by omega)
    by_cases cf : isWd (tkL t n L0 j) (w2F 111 102) = true
    · have hs : sortS (byteF t n) (tkL t n L0 j) = 212 := (so_w h300 j (k := 12) (by decide) (by decide) (by decide +kernel)).mpr cf
      have e0 : x = bd (RF n t L0 kd f 0 [] (j + 1) (o + 1)) fun c2 j2 => .inr (c ++ c2 ++ [(7, 0)], j2) := e0.trans (if_pos cf)
      obtain ⟨nu4, hN4, w2⟩ := r_X3_want_t hC2 j (L0 := L0) (nu := nu3) (op := nI (o + 1)) (kd := kd) 212 hs
      obtain ⟨⟨o9, h9⟩, q9, w8⟩ := h1 (s.setb b2) (j + 1) (o + 1) nu4 hC2 (by omega) hN4 (nz_bd (by rw [← e0]; exact hz))
      cases hx2 : RF n t L0 kd f 0 [] (j + 1) (o + 1) with
      | inl e =>
        rw [hx2] at q9 e0
        have q8 : EQ T n t L0 kd (512 + s.b.n) 0 0 s i e.1 e.2 (o9, h9) := EQ.up (PQ.le q9) x2 (by show _ ≤ 512 + b2.n; omega) (by omega) (by omega) (by omega)
        obtain ⟨-, q, b3, nu5, op3, -, -, qe⟩ := id q8
        obtain ⟨rfl, rfl⟩ := Prod.mk.inj qe
        refine ⟨_, PQ.l e0 q8, ?_⟩
        refine Run.ofX rfl (Nat.le_of_ble_eq_true rfl) rfl ?_
        refine AW.aload_n dX3_digit_0 rfl rfl ?_
        refine AW.callV (Y := mX3_opens) (n := 0) (w1) (by omega) (by decide) rfl (gTk hT) q558 q560 qs10 q142 q561 dX3_digit_1 (by decide +kernel) rfl rfl (Nat.le_of_ble_eq_true rfl) rfl ?_
        refine AW.aload_n dX3_digit_4 rfl rfl ?_
        refine AW.callV (Y := mX3_one) (n := 0) (w9) (by omega) (by decide) rfl (gTk hT) q533 q535 qs7 q142 q536 dX3_digit_5 (by decide +kernel) rfl rfl (Nat.le_of_ble_eq_true rfl) rfl ?_
        refine AW.astore_n (i := 1) dX3_digit_8 rfl rfl (Nat.le_of_ble_eq_true rfl) rfl rfl ?_
        refine AW.aload_n dX3_digit_9 rfl rfl ?_
        refine AW.sipush (v := 212) dX3_digit_10 (by decide) rfl ?_
        refine AW.callV (Y := mX3_want) (n := 1) (w2) (by omega) (by decide) rfl (gTk hT) q562 q564 qs11 q142 q565 dX3_digit_13 (by decide +kernel) rfl rfl (Nat.le_of_ble_eq_true rfl) rfl ?_
        refine AW.aload_n dX3_digit_16 rfl rfl ?_
        exact AW.callVX (Y := mX3_one) (n := 0) (w8) (by omega) (by decide) rfl (gTk hT) q533 q535 qs7 q142 q536 dX3_digit_17 (by decide +kernel) rfl rfl (Nat.le_of_ble_eq_true rfl) q557 rfl
      | inr e =>
        obtain ⟨c2, j2⟩ := e
        rw [hx2] at q9 e0
        obtain ⟨j3, y2, b3, nu5, x3, ⟨G, hG1, hG2⟩, hN5, qe⟩ := q9
        obtain ⟨rfl, rfl⟩ := Prod.mk.inj qe
        have j3' : j + 1 + 1 ≤ j2 := j3
        have x3n : b2.n ≤ b3.n := x3.1
        have x3c : b3.n ≤ b2.n + (16 * (j2 - (j + 1)) + 0) := x3.2.1
        have x3u : b2.u ≤ b3.u := x3.2.2.1
        have x3v : b3.u ≤ b2.u + (120 * (j2 - (j + 1)) + 0) := x3.2.2.2.1
        have hop : nI (o + 1) - 1 = nI o := by rw [show (1 : Int32) = nI 1 from rfl, nI_subN (by omega)]; rfl
        have gz : ((s.setb b3).b.push (.inr (8, [.null, .null])) 2).g (512 + b3.n) = some (.inr (8, [.null, .null])) := push_g
        have w3 := r_X8_init (s := Tk (s.setb (b3.push (.inr (8, [.null, .null])) 2)) T n t (tkL t n L0 j2) nu5 (nI o) kd) (a := 512 + b3.n) (by omega) ((Tk_g (by omega)).trans push_g) y y2
        have hw3 : hp ((Tk (s.setb (b3.push (.inr (8, [.null, .null])) 2)) T n t (tkL t n L0 j2) nu5 (nI o) kd).setb ((Tk (s.setb (b3.push (.inr (8, [.null, .null])) 2)) T n t (tkL t n L0 j2) nu5 (nI o) kd).b.set (512 + b3.n) (.inr (8, [.ref y, .ref y2])))) = hp (Tk (s.setb (b3.push (.inr (8, [.ref y, .ref y2])) 2)) T n t (tkL t n L0 j2) nu5 (nI o) kd) := (tk_cm (s := s.setb (b3.push (.inr (8, [.null, .null])) 2)) (by omega)).trans (congrArg (fun z => hp (Tk (s.setb z) T n t (tkL t n L0 j2) nu5 (nI o) kd)) push_set)
        have g3 : ∀ k, k < 512 + b3.n → (b3.push (.inr (8, [.ref y, .ref y2])) 2).g k = b3.g k := fun k hk => push_go (by omega)
        have r1 : SumO (512 + s.b.n) (512 + b2.n) b3 (6 + 3 * (8 - (o + 1))) y F := FnO.ext hF2 x3n (fun k hk => x3.2.2.2.2 k (by show k < 512 + b2.n; omega) (by omega))
        have z1 := FnO.at_ hF2
        have z2 := FnO.at_ hG2
        have z2' : 512 + b2.n ≤ y2 := z2.2.1
        have gB : GS (6 + 3 * (8 - o)) (c ++ c2 ++ [(7, 0)]) (512 + s.b.n) (b3.push (.inr (8, [.ref y, .ref y2])) 2) (512 + b3.n) := by
          refine ⟨fun N => digX (F N) (G N), ?_, ?_⟩
          · exact CS.two hF1 hG1 7 digX (by decide) (by decide) (by decide) (fun p w => (if_pos rfl).trans (dig_M p w)) (fun N => dig_b _ _)
          · exact FnO.widen (mk8 (lo := (512 + s.b.n)) (D := 6 + 3 * (8 - (o + 1))) (by omega) (by omega) (by show _ < 512 + (b3.n + 1); omega) (FnO.ext r1 (Nat.le_succ _) (fun k hk => g3 k (by omega))) (Nat.le_refl _) (FnO.ext hG2 (Nat.le_succ _) (fun k hk => g3 k (by omega))) (by show _ ≤ 512 + b2.n; omega) push_g) (by omega) (Nat.le_refl _) (Nat.le_refl _) (Nat.le_refl _) (by omega)
        have xf : ExT T (512 + s.b.n) (b3.n + 1 - s.b.n) (b3.u + 2 - s.b.u) s.b (b3.push (.inr (8, [.ref y, .ref y2])) 2) := ⟨by show s.b.n ≤ b3.n + 1; omega, by show b3.n + 1 ≤ _; omega, by show s.b.u ≤ b3.u + 2; omega, by show b3.u + 2 ≤ _; omega, fun k hk hkT => (g3 k (by omega)).trans ((x3.2.2.2.2 k (by show k < 512 + b2.n; omega) hkT).trans (x2.2.2.2.2 k hk hkT))⟩
        refine ⟨_, PQ.r e0 ⟨by show i + 1 ≤ j2; omega, 512 + b3.n, _, nu5, xf.mono (Nat.le_refl _) (by show _ ≤ 16 * (j2 - i) + 0; omega) (by show _ ≤ 120 * (j2 - i) + 0; omega), gB, hN5, rfl⟩, ?_⟩
        refine Run.of rfl (Nat.le_of_ble_eq_true rfl) rfl ?_
        refine AW.aload_n dX3_digit_0 rfl rfl ?_
        refine AW.callV (Y := mX3_opens) (n := 0) (w1) (by omega) (by decide) rfl (gTk hT) q558 q560 qs10 q142 q561 dX3_digit_1 (by decide +kernel) rfl rfl (Nat.le_of_ble_eq_true rfl) rfl ?_
        refine AW.aload_n dX3_digit_4 rfl rfl ?_
        refine AW.callV (Y := mX3_one) (n := 0) (w9) (by omega) (by decide) rfl (gTk hT) q533 q535 qs7 q142 q536 dX3_digit_5 (by decide +kernel) rfl rfl (Nat.le_of_ble_eq_true rfl) rfl ?_
        refine AW.astore_n (i := 1) dX3_digit_8 rfl rfl (Nat.le_of_ble_eq_true rfl) rfl rfl ?_
        refine AW.aload_n dX3_digit_9 rfl rfl ?_
        refine AW.sipush (v := 212) dX3_digit_10 (by decide) rfl ?_
        refine AW.callV (Y := mX3_want) (n := 1) (w2) (by omega) (by decide) rfl (gTk hT) q562 q564 qs11 q142 q565 dX3_digit_13 (by decide +kernel) rfl rfl (Nat.le_of_ble_eq_true rfl) rfl ?_
        refine AW.aload_n dX3_digit_16 rfl rfl ?_
        refine AW.callV (Y := mX3_one) (n := 0) (w8) (by omega) (by decide) rfl (gTk hT) q533 q535 qs7 q142 q536 dX3_digit_17 (by decide +kernel) rfl rfl (Nat.le_of_ble_eq_true rfl) rfl ?_
        refine AW.astore_n (i := 2) dX3_digit_20 rfl rfl (Nat.le_of_ble_eq_true rfl) rfl rfl ?_
        refine AW.aload_n dX3_digit_21 rfl rfl ?_
        refine AW.dup dX3_digit_22 rfl rfl ?_
        refine AW.get ci3 6 (by decide) q310 dX3_digit_23 (gTk hT) rfl rfl ?_
        refine AW.iconst (v := 1) dX3_digit_26 (by decide) rfl ?_
        refine AW.isub dX3_digit_27 rfl ?_
        refine AW.put ci3 6 (by decide) q310 dX3_digit_28 (by omega) (gTk hT) rfl (fun _ => rfl) (fun _ => rfl) (Nat.le_of_ble_eq_true rfl) ((sTk6 hT).trans (congrArg (fun z => (hp (Tk (s.setb b3) T n t (tkL t n L0 j2) nu5 z kd))) hop)) rfl ?_
        refine AW.new ci8 dX3_digit_31 q566 q567 q158 dfX8 (tk_push (s := s.setb b3) (by show T < 512 + b3.n; omega) (by show 128 ≤ b3.n; omega)) rfl ?_
        refine AW.dup dX3_digit_34 rfl rfl ?_
        refine AW.aload_n dX3_digit_35 rfl rfl ?_
        refine AW.aload_n dX3_digit_36 rfl rfl ?_
        refine AW.callIN (Y := mX8_init) (n := 2) (w3) (by omega) (by decide) rfl q568 q569 q158 q570 dX3_digit_37 rfl (by decide +kernel) rfl rfl (Nat.le_of_ble_eq_true rfl) rfl ?_
        refine AW.hp hw3 ?_
        exact AW.aretE dX3_digit_40 rfl (Or.inl ⟨_, rfl⟩) (Or.inr ⟨_, rfl⟩) rfl rfl rfl
    · have hs : ¬ sortS (byteF t n) (tkL t n L0 j) = 212 := fun q => cf ((so_w h300 j (k := 12) (by decide) (by decide) (by decide +kernel)).mp q)
      have e0 : x = .inl (1, j) := e0.trans (if_neg cf)
      have w2 := r_X3_want_f (s := s.setb b2) (n := n) (at_ := (tkL t n L0 j).1) (tk := (tkL t n L0 j).2.1) (nu := nu3) (op := nI (o + 1)) (kd := kd) hT (by show T < 512 + b2.n; omega) (by show 128 ≤ b2.n; omega) 212 hs
      have q7 : EQ T n t L0 kd (512 + b2.n) 0 0 (s.setb b2) j 1 j _ := EQ.wr (s := s.setb b2) (L0 := L0) (nu := nu3) (op := nI (o + 1)) (Nat.le_refl _) 1
      have q8 : EQ T n t L0 kd (512 + s.b.n) 0 0 s i 1 j _ := EQ.up q7 x2 (by omega) (by omega) (by omega) (by omega)
      refine ⟨_, PQ.l e0 q8, ?_⟩
      refine Run.ofX rfl (Nat.le_of_ble_eq_true rfl) rfl ?_
      refine AW.aload_n dX3_digit_0 rfl rfl ?_
      refine AW.callV (Y := mX3_opens) (n := 0) (w1) (by omega) (by decide) rfl (gTk hT) q558 q560 qs10 q142 q561 dX3_digit_1 (by decide +kernel) rfl rfl (Nat.le_of_ble_eq_true rfl) rfl ?_
      refine AW.aload_n dX3_digit_4 rfl rfl ?_
      refine AW.callV (Y := mX3_one) (n := 0) (w9) (by omega) (by decide) rfl (gTk hT) q533 q535 qs7 q142 q536 dX3_digit_5 (by decide +kernel) rfl rfl (Nat.le_of_ble_eq_true rfl) rfl ?_
      refine AW.astore_n (i := 1) dX3_digit_8 rfl rfl (Nat.le_of_ble_eq_true rfl) rfl rfl ?_
      refine AW.aload_n dX3_digit_9 rfl rfl ?_
      refine AW.sipush (v := 212) dX3_digit_10 (by decide) rfl ?_
      exact AW.callVX (Y := mX3_want) (n := 1) (w2) (by omega) (by decide) rfl (gTk hT) q562 q564 qs11 q142 q565 dX3_digit_13 (by decide +kernel) rfl rfl (Nat.le_of_ble_eq_true rfl) q557 rfl
