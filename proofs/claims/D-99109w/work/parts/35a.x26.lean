/-! SYSTEM 26: tokens: a question (printed by tools/x26.py) -/
set_option maxRecDepth 100000
theorem q_div {T n : Nat} {t : Nat → Int32} {L0 : Lq} {kd : Int32} {f : Nat} (h3 : CM T n t L0 kd mX3_sum GS 3 2 6 18 2 f) {s : Sg} {i o lo lo1 hi1 y : Nat} {nu : Int32} {F : SumF} {c : Cd} {x : RD} (hC : TC s T n t) (ho : o ≤ 8) (hlo : 640 ≤ lo) (hTl : T < lo) (hl1 : lo ≤ lo1) (hF1 : CS c F) (hF2 : SumO lo1 hi1 s.b (6 + 3 * (8 - o) + 2) y F) (e0 : x = bd (RF n t L0 kd f 3 [] (i + 1) o) fun c2 j2 => .inr (c ++ c2 ++ [(16, 0)], j2)) (hz : nz x) : RXO (PQ T n t L0 kd (GA (6 + 3 * (8 - o) + 3)) 1 lo 0 0 s i (nI o) x) (12 + 4 * (8 - o) + 3) mX3_divides [.ref T, .ref y] (hp (Tk s T n t (tkL t n L0 i) nu (nI o) kd)) := by
  have hT := hC.1
  have hTb := hC.2.1
  have h300 := hC.2.2.2.1
  have hB := hC.2.2.2.2
  have hb := hB.1
  have z1 := FnO.at_ hF2
  obtain ⟨nu2, hN2, w1⟩ := tk_next hC L0 i (nu := nu) (op := nI o) (kd := kd)
  have x1 : ExT T (512 + s.b.n) 1 2 s.b (s.b.push (.inr (12, [.null, .null])) 2) := ExT.push (Nat.le_refl _)
  have hC1 : TC (s.setb (s.b.push (.inr (12, [.null, .null])) 2)) T n t := hC.ext x1 (by omega)
  obtain ⟨⟨o9, h9⟩, q9, w9⟩ := h3 (s.setb (s.b.push (.inr (12, [.null, .null])) 2)) (i + 1) o nu2 hC1 ho hN2 (nz_bd (by rw [← e0]; exact hz))
  cases hx : RF n t L0 kd f 3 [] (i + 1) o with
  | inl e =>
    rw [hx] at q9 e0
    have q8 : EQ T n t L0 kd lo 0 0 s i e.1 e.2 (o9, h9) := EQ.up (PQ.le q9) (x1.mono (lo2 := lo) (by omega) (Nat.le_refl _) (Nat.le_refl _)) (by show _ ≤ 512 + (s.b.n + 1); omega) (by omega) (by omega) (by omega)
    obtain ⟨-, q, b2, nu3, op3, -, -, qe⟩ := id q8
    obtain ⟨rfl, rfl⟩ := Prod.mk.inj qe
    refine ⟨_, PQ.l e0 q8, ?_⟩
    refine Run.ofX rfl (Nat.le_of_ble_eq_true rfl) rfl ?_
    refine AW.aload_n dX3_divides_0 rfl rfl ?_
    refine AW.callV (Y := mX3_next) (n := 0) (w1) (by omega) (by decide) rfl (gTk hT) q386 q388 qs1 q142 q389 dX3_divides_1 (by decide +kernel) rfl rfl (Nat.le_of_ble_eq_true rfl) rfl ?_
    refine AW.new ci12 dX3_divides_4 q744 q745 q167 dfX12 (tk_push hTb hb) rfl ?_
    refine AW.dup dX3_divides_7 rfl rfl ?_
    refine AW.aload_n dX3_divides_8 rfl rfl ?_
    refine AW.aload_n dX3_divides_9 rfl rfl ?_
    exact AW.callVX (Y := mX3_sum) (n := 0) (w9) (by omega) (by decide) rfl (gTk hT) q523 q525 qs5 q142 q526 dX3_divides_10 (by decide +kernel) rfl rfl (Nat.le_of_ble_eq_true rfl) q743 rfl
  | inr e =>
    obtain ⟨c2, j⟩ := e
    rw [hx] at q9 e0
    obtain ⟨j1, y2, b2, nu3, x2, ⟨G, hG1, hG2⟩, hN3, qe⟩ := q9
    obtain ⟨rfl, rfl⟩ := Prod.mk.inj qe
    have j1' : i + 1 + 1 ≤ j := j1
    have x2n : s.b.n + 1 ≤ b2.n := x2.1
    have x2c : b2.n ≤ s.b.n + 1 + (16 * (j - (i + 1)) + 6) := x2.2.1
    have x2u : s.b.u + 2 ≤ b2.u := x2.2.2.1
    have x2v : b2.u ≤ s.b.u + 2 + (120 * (j - (i + 1)) + 18) := x2.2.2.2.1
    have x2g := x2.2.2.2.2
    have gz : b2.g (512 + s.b.n) = some (.inr (12, [.null, .null])) := (x2g _ (by show _ < 512 + (s.b.n + 1); omega) (by omega)).trans push_g
    have w3 := r_X12_init (s := Tk (s.setb b2) T n t (tkL t n L0 j) nu3 (nI o) kd) (a := (512 + s.b.n)) (by omega) ((Tk_g (by omega)).trans gz) y y2
    have hw3 : hp ((Tk (s.setb b2) T n t (tkL t n L0 j) nu3 (nI o) kd).setb ((Tk (s.setb b2) T n t (tkL t n L0 j) nu3 (nI o) kd).b.set (512 + s.b.n) (.inr (12, [.ref y, .ref y2])))) = hp (Tk (s.setb (b2.set (512 + s.b.n) (.inr (12, [.ref y, .ref y2])))) T n t (tkL t n L0 j) nu3 (nI o) kd) := tk_cm (s := s.setb b2) (by omega)
    have z2 := FnO.at_ hG2
    have z2' : 512 + (s.b.n + 1) ≤ y2 := z2.2.1
    have g1 : ∀ k, k < 512 + s.b.n → k ≠ T → (b2.set (512 + s.b.n) (.inr (12, [.ref y, .ref y2]))).g k = s.b.g k := fun k hk hkT => (set_go (by omega)).trans ((x2g k (by show k < 512 + (s.b.n + 1); omega) hkT).trans (push_go (by omega)))
    have r1 : SumO lo1 hi1 (b2.set (512 + s.b.n) (.inr (12, [.ref y, .ref y2]))) (6 + 3 * (8 - o) + 2) y F := FnO.ext hF2 (by show s.b.n ≤ b2.n; omega) (fun k hk => g1 k (by omega) (by omega))
    have r2 : SumO (512 + (s.b.n + 1)) (512 + b2.n) (b2.set (512 + s.b.n) (.inr (12, [.ref y, .ref y2]))) (6 + 3 * (8 - o) + 2) y2 G := FnO.ext hG2 (Nat.le_refl _) (fun k hk => set_go (by have : 512 + (s.b.n + 1) = 512 + (s.setb (s.b.push (.inr (12, [.null, .null])) 2)).b.n := rfl; omega))
    have mk := mk12 (lo := lo) (b := b2.set (512 + s.b.n) (.inr (12, [.ref y, .ref y2]))) hlo (by omega) (by show (512 + s.b.n) < 512 + b2.n; omega) r1 hl1 r2 (by omega) set_g
    have gB : GA (6 + 3 * (8 - o) + 3) (c ++ c2 ++ [(16, 0)]) lo (b2.set (512 + s.b.n) (.inr (12, [.ref y, .ref y2]))) (512 + s.b.n) := ⟨fun N => divB (F N) (G N), CA.two hF1 hG1 16 divB (by decide) (by decide) (by decide) (by decide) (fun x y => if_pos rfl), mk⟩
    have xf : ExT T lo (b2.n - s.b.n) (b2.u - s.b.u) s.b (b2.set (512 + s.b.n) (.inr (12, [.ref y, .ref y2]))) := ⟨by show s.b.n ≤ b2.n; omega, by show b2.n ≤ _; omega, by show s.b.u ≤ b2.u; omega, by show b2.u ≤ _; omega, fun k hk hkT => g1 k (by omega) hkT⟩
    refine ⟨_, PQ.r e0 ⟨by show i + 1 ≤ j; omega, (512 + s.b.n), _, nu3, xf.mono (Nat.le_refl _) (by show _ ≤ 16 * (j - i) + 0; omega) (by show _ ≤ 120 * (j - i) + 0; omega), gB, hN3, rfl⟩, ?_⟩
    refine Run.of rfl (Nat.le_of_ble_eq_true rfl) rfl ?_
    refine AW.aload_n dX3_divides_0 rfl rfl ?_
    refine AW.callV (Y := mX3_next) (n := 0) (w1) (by omega) (by decide) rfl (gTk hT) q386 q388 qs1 q142 q389 dX3_divides_1 (by decide +kernel) rfl rfl (Nat.le_of_ble_eq_true rfl) rfl ?_
    refine AW.new ci12 dX3_divides_4 q744 q745 q167 dfX12 (tk_push hTb hb) rfl ?_
    refine AW.dup dX3_divides_7 rfl rfl ?_
    refine AW.aload_n dX3_divides_8 rfl rfl ?_
    refine AW.aload_n dX3_divides_9 rfl rfl ?_
    refine AW.callV (Y := mX3_sum) (n := 0) (w9) (by omega) (by decide) rfl (gTk hT) q523 q525 qs5 q142 q526 dX3_divides_10 (by decide +kernel) rfl rfl (Nat.le_of_ble_eq_true rfl) rfl ?_
    refine AW.callIN (Y := mX12_init) (n := 2) (w3) (by omega) (by decide) rfl q746 q747 q167 q748 dX3_divides_13 rfl (by decide +kernel) rfl rfl (Nat.le_of_ble_eq_true rfl) rfl ?_
    refine AW.hp hw3 ?_
    exact AW.aretE dX3_divides_16 rfl (Or.inl ⟨_, rfl⟩) (Or.inr ⟨_, rfl⟩) rfl rfl rfl
theorem q_cmp {T n : Nat} {t : Nat → Int32} {L0 : Lq} {kd : Int32} {f : Nat} (h3 : CM T n t L0 kd mX3_sum GS 3 2 6 18 2 f) {s : Sg} {i o lo lo1 hi1 y : Nat} {nu : Int32} {F : SumF} {c : Cd} {x : RD} (hC : TC s T n t) (ho : o ≤ 8) (hlo : 640 ≤ lo) (hTl : T < lo) (hl1 : lo ≤ lo1) (hF1 : CS c F) (hF2 : SumO lo1 hi1 s.b (6 + 3 * (8 - o) + 2) y F) {sg k : Int32} (k1 : ¬ k ≤ 1) (k2 : ¬ k = 2) (k10 : ¬ k < 10) (k20 : k < 20) (k16 : ¬ k = 16) (kv : ∀ a b : Int64, (-1000000000000 ≤ a.toInt ∧ a.toInt ≤ 1000000000000) → (-1000000000000 ≤ b.toInt ∧ b.toInt ≤ 1000000000000) → askB k a b = cmpX sg (a - b)) (e0 : x = bd (RF n t L0 kd f 3 [] (i + 1) o) fun c2 j2 => .inr (c ++ c2 ++ [(k, 0)], j2)) (hz : nz x) : AXO (PQ T n t L0 kd (GA (6 + 3 * (8 - o) + 3)) 1 lo 0 0 s i (nI o) x) (12 + 4 * (8 - o) + 4) mX3_ask (hp (Tk s T n t (tkL t n L0 i) nu (nI o) kd)) 108 [some (.ref T), some (.ref y), some (.int sg)] [] := by
  have hT := hC.1
  have hTb := hC.2.1
  have h300 := hC.2.2.2.1
  have hB := hC.2.2.2.2
  have hb := hB.1
  have z1 := FnO.at_ hF2
  obtain ⟨nu2, hN2, w1⟩ := tk_next hC L0 i (nu := nu) (op := nI o) (kd := kd)
  have x1 : ExT T (512 + s.b.n) 1 3 s.b (s.b.push (.inr (13, [.int 0, .null, .null])) 3) := ExT.push (Nat.le_refl _)
  have hC1 : TC (s.setb (s.b.push (.inr (13, [.int 0, .null, .null])) 3)) T n t := hC.ext x1 (by omega)
  obtain ⟨⟨o9, h9⟩, q9, w9⟩ := h3 (s.setb (s.b.push (.inr (13, [.int 0, .null, .null])) 3)) (i + 1) o nu2 hC1 ho hN2 (nz_bd (by rw [← e0]; exact hz))
  cases hx : RF n t L0 kd f 3 [] (i + 1) o with
  | inl e =>
    rw [hx] at q9 e0
    have q8 : EQ T n t L0 kd lo 0 0 s i e.1 e.2 (o9, h9) := EQ.up (PQ.le q9) (x1.mono (lo2 := lo) (by omega) (Nat.le_refl _) (Nat.le_refl _)) (by show _ ≤ 512 + (s.b.n + 1); omega) (by omega) (by omega) (by omega)
    obtain ⟨-, q, b2, nu3, op3, -, -, qe⟩ := id q8
    obtain ⟨rfl, rfl⟩ := Prod.mk.inj qe
    refine ⟨_, PQ.l e0 q8, ?_⟩
    refine AW.aload_n dX3_ask_108 rfl rfl ?_
    refine AW.callV (Y := mX3_next) (n := 0) (w1) (by omega) (by decide) rfl (gTk hT) q386 q388 qs1 q142 q389 dX3_ask_109 (by decide +kernel) rfl rfl (Nat.le_of_ble_eq_true rfl) rfl ?_
    refine AW.new ci13 dX3_ask_112 q757 q758 q168 dfX13 (tk_push hTb hb) rfl ?_
    refine AW.dup dX3_ask_115 rfl rfl ?_
    refine AW.iload_n dX3_ask_116 rfl rfl ?_
    refine AW.aload_n dX3_ask_117 rfl rfl ?_
    refine AW.aload_n dX3_ask_118 rfl rfl ?_
    exact AW.callVX (Y := mX3_sum) (n := 0) (w9) (by omega) (by decide) rfl (gTk hT) q523 q525 qs5 q142 q526 dX3_ask_119 (by decide +kernel) rfl rfl (Nat.le_of_ble_eq_true rfl) q729 rfl
  | inr e =>
    obtain ⟨c2, j⟩ := e
    rw [hx] at q9 e0
    obtain ⟨j1, y2, b2, nu3, x2, ⟨G, hG1, hG2⟩, hN3, qe⟩ := q9
    obtain ⟨rfl, rfl⟩ := Prod.mk.inj qe
    have j1' : i + 1 + 1 ≤ j := j1
    have x2n : s.b.n + 1 ≤ b2.n := x2.1
    have x2c : b2.n ≤ s.b.n + 1 + (16 * (j - (i + 1)) + 6) := x2.2.1
    have x2u : s.b.u + 3 ≤ b2.u := x2.2.2.1
    have x2v : b2.u ≤ s.b.u + 3 + (120 * (j - (i + 1)) + 18) := x2.2.2.2.1
    have x2g := x2.2.2.2.2
    have gz : b2.g (512 + s.b.n) = some (.inr (13, [.int 0, .null, .null])) := (x2g _ (by show _ < 512 + (s.b.n + 1); omega) (by omega)).trans push_g
    have w3 := r_X13_init (s := Tk (s.setb b2) T n t (tkL t n L0 j) nu3 (nI o) kd) (a := (512 + s.b.n)) (by omega) ((Tk_g (by omega)).trans gz) sg y y2
    have hw3 : hp ((Tk (s.setb b2) T n t (tkL t n L0 j) nu3 (nI o) kd).setb ((Tk (s.setb b2) T n t (tkL t n L0 j) nu3 (nI o) kd).b.set (512 + s.b.n) (.inr (13, [.int sg, .ref y, .ref y2])))) = hp (Tk (s.setb (b2.set (512 + s.b.n) (.inr (13, [.int sg, .ref y, .ref y2])))) T n t (tkL t n L0 j) nu3 (nI o) kd) := tk_cm (s := s.setb b2) (by omega)
    have z2 := FnO.at_ hG2
    have z2' : 512 + (s.b.n + 1) ≤ y2 := z2.2.1
    have g1 : ∀ k, k < 512 + s.b.n → k ≠ T → (b2.set (512 + s.b.n) (.inr (13, [.int sg, .ref y, .ref y2]))).g k = s.b.g k := fun k hk hkT => (set_go (by omega)).trans ((x2g k (by show k < 512 + (s.b.n + 1); omega) hkT).trans (push_go (by omega)))
    have r1 : SumO lo1 hi1 (b2.set (512 + s.b.n) (.inr (13, [.int sg, .ref y, .ref y2]))) (6 + 3 * (8 - o) + 2) y F := FnO.ext hF2 (by show s.b.n ≤ b2.n; omega) (fun k hk => g1 k (by omega) (by omega))
    have r2 : SumO (512 + (s.b.n + 1)) (512 + b2.n) (b2.set (512 + s.b.n) (.inr (13, [.int sg, .ref y, .ref y2]))) (6 + 3 * (8 - o) + 2) y2 G := FnO.ext hG2 (Nat.le_refl _) (fun k hk => set_go (by have : 512 + (s.b.n + 1) = 512 + (s.setb (s.b.push (.inr (13, [.int 0, .null, .null])) 3)).b.n := rfl; omega))
    have mk := mk13 (lo := lo) (b := b2.set (512 + s.b.n) (.inr (13, [.int sg, .ref y, .ref y2]))) hlo (by omega) (by show (512 + s.b.n) < 512 + b2.n; omega) r1 hl1 r2 (by omega) set_g
    rw [show (fun N => cmpX sg (F N - G N)) = (fun N => askB k (F N) (G N)) from funext fun N => (kv _ _ (hF1.1 N) (hG1.1 N)).symm] at mk
    have gB : GA (6 + 3 * (8 - o) + 3) (c ++ c2 ++ [(k, 0)]) lo (b2.set (512 + s.b.n) (.inr (13, [.int sg, .ref y, .ref y2]))) (512 + s.b.n) := ⟨fun N => askB k (F N) (G N), CA.two hF1 hG1 k (askB k) k1 k2 k10 k20 (fun x y => if_neg k16), mk⟩
    have xf : ExT T lo (b2.n - s.b.n) (b2.u - s.b.u) s.b (b2.set (512 + s.b.n) (.inr (13, [.int sg, .ref y, .ref y2]))) := ⟨by show s.b.n ≤ b2.n; omega, by show b2.n ≤ _; omega, by show s.b.u ≤ b2.u; omega, by show b2.u ≤ _; omega, fun k hk hkT => g1 k (by omega) hkT⟩
    refine ⟨_, PQ.r e0 ⟨by show i + 1 ≤ j; omega, (512 + s.b.n), _, nu3, xf.mono (Nat.le_refl _) (by show _ ≤ 16 * (j - i) + 0; omega) (by show _ ≤ 120 * (j - i) + 0; omega), gB, hN3, rfl⟩, ?_⟩
    refine AW.aload_n dX3_ask_108 rfl rfl ?_
    refine AW.callV (Y := mX3_next) (n := 0) (w1) (by omega) (by decide) rfl (gTk hT) q386 q388 qs1 q142 q389 dX3_ask_109 (by decide +kernel) rfl rfl (Nat.le_of_ble_eq_true rfl) rfl ?_
    refine AW.new ci13 dX3_ask_112 q757 q758 q168 dfX13 (tk_push hTb hb) rfl ?_
    refine AW.dup dX3_ask_115 rfl rfl ?_
    refine AW.iload_n dX3_ask_116 rfl rfl ?_
    refine AW.aload_n dX3_ask_117 rfl rfl ?_
    refine AW.aload_n dX3_ask_118 rfl rfl ?_
    refine AW.callV (Y := mX3_sum) (n := 0) (w9) (by omega) (by decide) rfl (gTk hT) q523 q525 qs5 q142 q526 dX3_ask_119 (by decide +kernel) rfl rfl (Nat.le_of_ble_eq_true rfl) rfl ?_
    refine AW.callIN (Y := mX13_init) (n := 3) (w3) (by omega) (by decide) rfl q759 q760 q168 q761 dX3_ask_122 rfl (by decide +kernel) rfl rfl (Nat.le_of_ble_eq_true rfl) rfl ?_
    refine AW.hp hw3 ?_
    exact AW.aretE dX3_ask_125 rfl (Or.inl ⟨_, rfl⟩) (Or.inr ⟨_, rfl⟩) rfl rfl rfl
theorem cm_ask {T n : Nat} {t : Nat → Int32} {L0 : Lq} {kd : Int32} {f : Nat} (h3 : CM T n t L0 kd mX3_sum GS 3 2 6 18 2 f) (h5 : CM T n t L0 kd mX3_ask GA 5 3 6 18 4 f) : CM T n t L0 kd mX3_ask GA 5 3 6 18 4 (f + 1) := by
  intro s i o nu hC ho hN hz
  have hT := hC.1
  have hTb := hC.2.1
  have h300 := hC.2.2.2.1
  have hB := hC.2.2.2.2
  have hb := hB.1
  have e0 : RF n t L0 kd (f + 1) 5 [] i o = rdAsk (byteF t n) (tkL t n L0) (rd (byteF t n) (tkL t n L0) (decide (kd = 202)) f) i (nI o) := rfl
  unfold rdAsk at e0
  rw [nI_succ' o] at e0
  by_cases cn : isWd (tkL t n L0 i) (w3F 110 111 116) = true
  · rw [if_pos cn] at e0
    have hs : sortS (byteF t n) (tkL t n L0 i) = 215 := (so_w h300 i (k := 15) (by decide) (by decide) (by decide +kernel)).mpr cn
    by_cases c8 : nI o = 8
    · rw [if_pos c8] at e0
      have w1 := r_X3_opens_f (s := s) (n := n) (at_ := (tkL t n L0 i).1) (tk := (tkL t n L0 i).2.1) (so := sortS (byteF t n) (tkL t n L0 i)) (nu := nu) (kd := kd) hT hTb hb c8
      refine ⟨_, PQ.l e0 (EQ.wr (nu := nu) (op := nI o) (Nat.le_refl _) 3), ?_⟩
      refine Run.ofX rfl (Nat.le_of_ble_eq_true rfl) rfl ?_
      refine AW.aload_n dX3_ask_0 rfl rfl ?_
      refine AW.get ci3 4 (by decide) q308 dX3_ask_1 (gTk hT) rfl rfl ?_
      refine AW.sipush (v := 215) dX3_ask_4 (by decide) rfl ?_
      refine AW.icmp_ne (tgt := 38) dX3_ask_7 (by decide) rfl (fun c_ => by first | exact absurd c_ hs | exact absurd hs c_ | exact Bool.noConfusion (c_.symm.trans hs)) (fun _ => ?_)
      refine AW.aload_n dX3_ask_10 rfl rfl ?_
      exact AW.callVX (Y := mX3_opens) (n := 0) (w1) (by omega) (by decide) rfl (gTk hT) q558 q560 qs10 q142 q561 dX3_ask_11 (by decide +kernel) rfl rfl (Nat.le_of_ble_eq_true rfl) q729 rfl
    · rw [if_neg c8] at e0
      have o8 : o < 8 := Nat.lt_of_le_of_ne ho (fun q => c8 ((nI_e8 ho).mpr q))
      have hop : nI (o + 1) - 1 = nI o := by rw [show (1 : Int32) = nI 1 from rfl, nI_subN (by omega)]; rfl
      obtain ⟨nu2, hN2, w1⟩ := r_X3_opens_t hC i (L0 := L0) (nu := nu) (op := nI o) (kd := kd) c8
      rw [nI_succ' o] at w1
      have x1 : ExT T (512 + s.b.n) 1 1 s.b (s.b.push (.inr (11, [.null])) 1) := ExT.push (Nat.le_refl _)
      have hC1 : TC (s.setb (s.b.push (.inr (11, [.null])) 1)) T n t := hC.ext x1 (by omega)
      have e0 : RF n t L0 kd (f + 1) 5 [] i o = bd (RF n t L0 kd f 5 [] (i + 1) (o + 1)) fun c j => .inr (c ++ [(20, 0)], j) := e0
      obtain ⟨⟨o9, h9⟩, q9, w9⟩ := h5 (s.setb (s.b.push (.inr (11, [.null])) 1)) (i + 1) (o + 1) nu2 hC1 (by omega) hN2 (nz_bd (by rw [← e0]; exact hz))
      cases hx : RF n t L0 kd f 5 [] (i + 1) (o + 1) with
      | inl e =>
        rw [hx] at q9 e0
        have q8 : EQ T n t L0 kd (512 + s.b.n) 6 18 s i e.1 e.2 (o9, h9) := EQ.up (PQ.le q9) x1 (by show _ ≤ 512 + (s.b.n + 1); omega) (by omega) (by omega) (by omega)
        obtain ⟨-, q, b2, nu3, op3, -, -, qe⟩ := id q8
        obtain ⟨rfl, rfl⟩ := Prod.mk.inj qe
        refine ⟨_, PQ.l e0 q8, ?_⟩
        refine Run.ofX rfl (Nat.le_of_ble_eq_true rfl) rfl ?_
        refine AW.aload_n dX3_ask_0 rfl rfl ?_
        refine AW.get ci3 4 (by decide) q308 dX3_ask_1 (gTk hT) rfl rfl ?_
        refine AW.sipush (v := 215) dX3_ask_4 (by decide) rfl ?_
        refine AW.icmp_ne (tgt := 38) dX3_ask_7 (by decide) rfl (fun c_ => by first | exact absurd c_ hs | exact absurd hs c_ | exact Bool.noConfusion (c_.symm.trans hs)) (fun _ => ?_)
        refine AW.aload_n dX3_ask_10 rfl rfl ?_
        refine AW.callV (Y := mX3_opens) (n := 0) (w1) (by omega) (by decide) rfl (gTk hT) q558 q560 qs10 q142 q561 dX3_ask_11 (by decide +kernel) rfl rfl (Nat.le_of_ble_eq_true rfl) rfl ?_
        refine AW.new ci11 dX3_ask_14 q730 q731 q166 dfX11 (tk_push hTb hb) rfl ?_
        refine AW.dup dX3_ask_17 rfl rfl ?_
        refine AW.aload_n dX3_ask_18 rfl rfl ?_
        exact AW.callVX (Y := mX3_ask) (n := 0) (w9) (by omega) (by decide) rfl (gTk hT) q726 q728 qs19 q142 q729 dX3_ask_19 (by decide +kernel) rfl rfl (Nat.le_of_ble_eq_true rfl) q729 rfl
      | inr e =>
        obtain ⟨c, j⟩ := e
        rw [hx] at q9 e0
        obtain ⟨j1, y, b2, nu3, x2, ⟨F, hF1, hF2⟩, hN3, qe⟩ := q9
        obtain ⟨rfl, rfl⟩ := Prod.mk.inj qe
        have j1' : i + 1 + 1 ≤ j := j1
        have x2n : s.b.n + 1 ≤ b2.n := x2.1
        have x2c : b2.n ≤ s.b.n + 1 + (16 * (j - (i + 1)) + 6) := x2.2.1
        have x2u : s.b.u + 1 ≤ b2.u := x2.2.2.1
        have x2v : b2.u ≤ s.b.u + 1 + (120 * (j - (i + 1)) + 18) := x2.2.2.2.1
        have x2g := x2.2.2.2.2
        have gz : b2.g (512 + s.b.n) = some (.inr (11, [.null])) := (x2g _ (by show _ < 512 + (s.b.n + 1); omega) (by omega)).trans push_g
        have w3 := r_X11_init (s := Tk (s.setb b2) T n t (tkL t n L0 j) nu3 (nI (o + 1)) kd) (a := (512 + s.b.n)) (by omega) ((Tk_g (by omega)).trans gz) y
        have hw3 : hp ((Tk (s.setb b2) T n t (tkL t n L0 j) nu3 (nI (o + 1)) kd).setb ((Tk (s.setb b2) T n t (tkL t n L0 j) nu3 (nI (o + 1)) kd).b.set (512 + s.b.n) (.inr (11, [.ref y])))) = hp (Tk (s.setb (b2.set (512 + s.b.n) (.inr (11, [.ref y])))) T n t (tkL t n L0 j) nu3 (nI (o + 1)) kd) := tk_cm (s := s.setb b2) (by omega)
        have z1 := FnO.at_ hF2
        have z1' : 512 + (s.b.n + 1) ≤ y := z1.2.1
        have gB : GA (6 + 3 * (8 - o) + 3) (c ++ [(20, 0)]) (512 + s.b.n) (b2.set (512 + s.b.n) (.inr (11, [.ref y]))) (512 + s.b.n) := by
          refine ⟨fun N => !(F N), CA.not hF1, ?_⟩
          exact FnO.widen (mk11 (lo := (512 + s.b.n)) (D := 6 + 3 * (8 - (o + 1)) + 3) (by omega) (Nat.le_refl _) (by show _ < 512 + b2.n; omega) (FnO.ext hF2 (Nat.le_refl _) (fun k hk => set_go (by have : 512 + (s.b.n + 1) = 512 + (s.setb (s.b.push (.inr (11, [.null])) 1)).b.n := rfl; omega))) (by show _ ≤ 512 + (s.b.n + 1); omega) set_g) (by omega) (Nat.le_refl _) (Nat.le_refl _) (Nat.le_refl _) (by omega)
        have xf : ExT T (512 + s.b.n) (b2.n - s.b.n) (b2.u - s.b.u) s.b (b2.set (512 + s.b.n) (.inr (11, [.ref y]))) := ⟨by show s.b.n ≤ b2.n; omega, by show b2.n ≤ _; omega, by show s.b.u ≤ b2.u; omega, by show b2.u ≤ _; omega, fun k hk hkT => (set_go (by omega)).trans ((x2g k (by show k < 512 + (s.b.n + 1); omega) hkT).trans (push_go (by omega)))⟩
        refine ⟨_, PQ.r e0 ⟨by show i + 1 ≤ j; omega, (512 + s.b.n), _, nu3, xf.mono (Nat.le_refl _) (by show _ ≤ 16 * (j - i) + 6; omega) (by show _ ≤ 120 * (j - i) + 18; omega), gB, hN3, rfl⟩, ?_⟩
        refine Run.of rfl (Nat.le_of_ble_eq_true rfl) rfl ?_
        refine AW.aload_n dX3_ask_0 rfl rfl ?_
        refine AW.get ci3 4 (by decide) q308 dX3_ask_1 (gTk hT) rfl rfl ?_
        refine AW.sipush (v := 215) dX3_ask_4 (by decide) rfl ?_
        refine AW.icmp_ne (tgt := 38) dX3_ask_7 (by decide) rfl (fun c_ => by first | exact absurd c_ hs | exact absurd hs c_ | exact Bool.noConfusion (c_.symm.trans hs)) (fun _ => ?_)
        refine AW.aload_n dX3_ask_10 rfl rfl ?_
        refine AW.callV (Y := mX3_opens) (n := 0) (w1) (by omega) (by decide) rfl (gTk hT) q558 q560 qs10 q142 q561 dX3_ask_11 (by decide +kernel) rfl rfl (Nat.le_of_ble_eq_true rfl) rfl ?_
        refine AW.new ci11 dX3_ask_14 q730 q731 q166 dfX11 (tk_push hTb hb) rfl ?_
        refine AW.dup dX3_ask_17 rfl rfl ?_
        refine AW.aload_n dX3_ask_18 rfl rfl ?_
        refine AW.callV (Y := mX3_ask) (n := 0) (w9) (by omega) (by decide) rfl (gTk hT) q726 q728 qs19 q142 q729 dX3_ask_19 (by decide +kernel) rfl rfl (Nat.le_of_ble_eq_true rfl) rfl ?_
        refine AW.callIN (Y := mX11_init) (n := 1) (w3) (by omega) (by decide) rfl q732 q733 q166 q734 dX3_ask_22 rfl (by decide +kernel) rfl rfl (Nat.le_of_ble_eq_true rfl) rfl ?_
        refine AW.hp hw3 ?_
        refine AW.astore_n (i := 1) dX3_ask_25 rfl rfl (Nat.le_of_ble_eq_true rfl) rfl rfl ?_
        refine AW.aload_n dX3_ask_26 rfl rfl ?_
        refine AW.dup dX3_ask_27 rfl rfl ?_
        refine AW.get ci3 6 (by decide) q310 dX3_ask_28 (gTk hT) rfl rfl ?_
        refine AW.iconst (v := 1) dX3_ask_31 (by decide) rfl ?_
        refine AW.isub dX3_ask_32 rfl ?_
        refine AW.put ci3 6 (by decide) q310 dX3_ask_33 (by omega) (gTk hT) rfl (fun _ => rfl) (fun _ => rfl) (Nat.le_of_ble_eq_true rfl) ((sTk6 hT).trans (congrArg (fun z => (hp (Tk (s.setb (b2.set (512 + s.b.n) (.inr (11, [.ref y])))) T n t (tkL t n L0 j) nu3 z kd))) hop)) rfl ?_
        refine AW.aload_n dX3_ask_36 rfl rfl ?_
        exact AW.aretE dX3_ask_37 rfl (Or.inl ⟨_, rfl⟩) (Or.inr ⟨_, rfl⟩) rfl rfl rfl
  rw [if_neg cn] at e0
  have hs : ¬ sortS (byteF t n) (tkL t n L0 i) = 215 := fun q => cn ((so_w h300 i (k := 15) (by decide) (by decide) (by decide +kernel)).mp q)
  have e0 : RF n t L0 kd (f + 1) 5 [] i o = bd (RF n t L0 kd f 3 [] i o) fun c j => if cpK (byteF t n) (tkL t n L0) j = -1 then .inl (1, j) else bd (RF n t L0 kd f 3 [] (j + 1) o) fun c2 j2 => .inr (c ++ c2 ++ [(cpK (byteF t n) (tkL t n L0) j, 0)], j2) := e0
  obtain ⟨⟨o9, h9⟩, q9, w9⟩ := h3 s i o nu hC ho hN (nz_bd (by rw [← e0]; exact hz))
  cases hx : RF n t L0 kd f 3 [] i o with
  | inl e =>
    rw [hx] at q9 e0
    obtain ⟨-, q, b2, nu3, op3, -, -, qe⟩ := PQ.le q9
    obtain ⟨rfl, rfl⟩ := Prod.mk.inj qe
    refine ⟨_, PQ.l e0 (PQ.le q9), ?_⟩
    refine Run.ofX rfl (Nat.le_of_ble_eq_true rfl) rfl ?_
    refine AW.aload_n dX3_ask_0 rfl rfl ?_
    refine AW.get ci3 4 (by decide) q308 dX3_ask_1 (gTk hT) rfl rfl ?_
    refine AW.sipush (v := 215) dX3_ask_4 (by decide) rfl ?_
    refine AW.icmp_ne (tgt := 38) dX3_ask_7 (by decide) rfl (fun _ => ?_) (fun c_ => by first | exact absurd c_ hs | exact absurd hs c_ | exact absurd c_ (not_not_intro hs) | exact Bool.noConfusion (c_.symm.trans hs))
    refine AW.aload_n dX3_ask_38 rfl rfl ?_
    exact AW.callVX (Y := mX3_sum) (n := 0) (w9) (by omega) (by decide) rfl (gTk hT) q523 q525 qs5 q142 q526 dX3_ask_39 (by decide +kernel) rfl rfl (Nat.le_of_ble_eq_true rfl) q729 rfl
  | inr e =>
    obtain ⟨c, j⟩ := e
    rw [hx] at q9 e0
    obtain ⟨j1, y, b2, nu3, x2, ⟨F, hF1, hF2⟩, hN3, qe⟩ := q9
    obtain ⟨rfl, rfl⟩ := Prod.mk.inj qe
    have j1' : i + 1 ≤ j := j1
    have x2n := x2.1
    have hC2 : TC (s.setb b2) T n t := hC.ext x2 (by omega)
    by_cases cdv : isDiF (byteF t n) (tkL t n L0 j) (cI (tkL t n L0 j).2.1) = true
    · have hs16 : sortS (byteF t n) (tkL t n L0 j) = 216 := (so_l h300 j (k := 16) (by decide) (by decide) (by decide +kernel) (by decide +kernel)).mpr cdv
      have k2 := of_decide_eq_true (Bool.and_eq_true_iff.mp cdv).1
      have ec : cpK (byteF t n) (tkL t n L0) j = 16 := by
        unfold cpK cmpF
        rw [if_neg (by rw [k2]; decide), if_neg (by rw [k2]; decide), if_neg (by rw [k2]; decide), if_neg (by rw [k2]; decide), if_neg (by rw [k2]; decide), if_neg (by rw [k2]; decide), if_pos cdv]
      have e0 : RF n t L0 kd (f + 1) 5 [] i o = bd (RF n t L0 kd f 3 [] (j + 1) o) fun c2 j2 => .inr (c ++ c2 ++ [(16, 0)], j2) := by
        refine e0.trans ?_
        show (if cpK (byteF t n) (tkL t n L0) j = -1 then _ else _) = _
        rw [ec]
        try rfl
      obtain ⟨⟨o8, h8⟩, q8, w8⟩ := q_div h3 (s := s.setb b2) (i := j) (lo := (512 + s.b.n)) (nu := nu3) hC2 ho (by omega) (by omega) (Nat.le_refl _) hF1 hF2 e0 hz
      refine ⟨_, PQ.up (z := 1) (z1 := 1) (sc := 6) (su := 18) (i := i) q8 x2 (Nat.le_refl _) (by omega) (by omega) (by omega) (by omega) (fun C b a h => h), ?_⟩
      cases hx2 : RF n t L0 kd (f + 1) 5 [] i o with
      | inl e =>
        rw [hx2] at q8
        obtain ⟨-, q, b3, nu4, op3, -, -, qe⟩ := PQ.le q8
        obtain ⟨rfl, rfl⟩ := Prod.mk.inj qe
        refine Run.ofX rfl (Nat.le_of_ble_eq_true rfl) rfl ?_
        refine AW.aload_n dX3_ask_0 rfl rfl ?_
        refine AW.get ci3 4 (by decide) q308 dX3_ask_1 (gTk hT) rfl rfl ?_
        refine AW.sipush (v := 215) dX3_ask_4 (by decide) rfl ?_
        refine AW.icmp_ne (tgt := 38) dX3_ask_7 (by decide) rfl (fun _ => ?_) (fun c_ => by first | exact absurd c_ hs | exact absurd hs c_ | exact absurd c_ (not_not_intro hs) | exact Bool.noConfusion (c_.symm.trans hs))
        refine AW.aload_n dX3_ask_38 rfl rfl ?_
        refine AW.callV (Y := mX3_sum) (n := 0) (w9) (by omega) (by decide) rfl (gTk hT) q523 q525 qs5 q142 q526 dX3_ask_39 (by decide +kernel) rfl rfl (Nat.le_of_ble_eq_true rfl) rfl ?_
        refine AW.astore_n (i := 1) dX3_ask_42 rfl rfl (Nat.le_of_ble_eq_true rfl) rfl rfl ?_
        refine AW.aload_n dX3_ask_43 rfl rfl ?_
        refine AW.get ci3 4 (by decide) q308 dX3_ask_44 (gTk hT) rfl rfl ?_
        refine AW.sipush (v := 216) dX3_ask_47 (by decide) rfl ?_
        refine AW.icmp_ne (tgt := 59) dX3_ask_50 (by decide) rfl (fun c_ => by first | exact absurd c_ hs16 | exact absurd hs16 c_ | exact Bool.noConfusion (c_.symm.trans hs16)) (fun _ => ?_)
        refine AW.aload_n dX3_ask_53 rfl rfl ?_
        refine AW.aload_n dX3_ask_54 rfl rfl ?_
        exact AW.callVX (Y := mX3_divides) (n := 1) (w8) (by omega) (by decide) rfl (gTk hT) q740 q742 qs20 q142 q743 dX3_ask_55 (by decide +kernel) rfl rfl (Nat.le_of_ble_eq_true rfl) q729 rfl
      | inr e =>
        rw [hx2] at q8
        obtain ⟨-, y2, b3, nu4, -, -, -, qe⟩ := q8
        obtain ⟨rfl, rfl⟩ := Prod.mk.inj qe
        refine Run.of rfl (Nat.le_of_ble_eq_true rfl) rfl ?_
        refine AW.aload_n dX3_ask_0 rfl rfl ?_
        refine AW.get ci3 4 (by decide) q308 dX3_ask_1 (gTk hT) rfl rfl ?_
        refine AW.sipush (v := 215) dX3_ask_4 (by decide) rfl ?_
        refine AW.icmp_ne (tgt := 38) dX3_ask_7 (by decide) rfl (fun _ => ?_) (fun c_ => by first | exact absurd c_ hs | exact absurd hs c_ | exact absurd c_ (not_not_intro hs) | exact Bool.noConfusion (c_.symm.trans hs))
        refine AW.aload_n dX3_ask_38 rfl rfl ?_
        refine AW.callV (Y := mX3_sum) (n := 0) (w9) (by omega) (by decide) rfl (gTk hT) q523 q525 qs5 q142 q526 dX3_ask_39 (by decide +kernel) rfl rfl (Nat.le_of_ble_eq_true rfl) rfl ?_
        refine AW.astore_n (i := 1) dX3_ask_42 rfl rfl (Nat.le_of_ble_eq_true rfl) rfl rfl ?_
        refine AW.aload_n dX3_ask_43 rfl rfl ?_
        refine AW.get ci3 4 (by decide) q308 dX3_ask_44 (gTk hT) rfl rfl ?_
        refine AW.sipush (v := 216) dX3_ask_47 (by decide) rfl ?_
        refine AW.icmp_ne (tgt := 59) dX3_ask_50 (by decide) rfl (fun c_ => by first | exact absurd c_ hs16 | exact absurd hs16 c_ | exact Bool.noConfusion (c_.symm.trans hs16)) (fun _ => ?_)
        refine AW.aload_n dX3_ask_53 rfl rfl ?_
        refine AW.aload_n dX3_ask_54 rfl rfl ?_
        refine AW.callV (Y := mX3_divides) (n := 1) (w8) (by omega) (by decide) rfl (gTk hT) q740 q742 qs20 q142 q743 dX3_ask_55 (by decide +kernel) rfl rfl (Nat.le_of_ble_eq_true rfl) rfl ?_
        exact AW.aretE dX3_ask_58 rfl (Or.inl ⟨_, rfl⟩) (Or.inr ⟨_, rfl⟩) rfl rfl rfl
    have hs16 : ¬ sortS (byteF t n) (tkL t n L0 j) = 216 := fun q => cdv ((so_l h300 j (k := 16) (by decide) (by decide) (by decide +kernel) (by decide +kernel)).mp q)
    have hsk : ∀ (sg v k : Int32), sortS (byteF t n) (tkL t n L0 j) = sg → cpK (byteF t n) (tkL t n L0) j = k → ¬ k = -1 → ¬ k ≤ 1 → ¬ k = 2 → ¬ k < 10 → k < 20 → ¬ k = 16 → (∀ a b : Int64, (-1000000000000 ≤ a.toInt ∧ a.toInt ≤ 1000000000000) → (-1000000000000 ≤ b.toInt ∧ b.toInt ≤ 1000000000000) → askB k a b = cmpX sg (a - b)) → AXO (PQ T n t L0 kd (GA (6 + 3 * (8 - o) + 3)) 1 (512 + s.b.n) 6 18 s i (nI o) (RF n t L0 kd (f + 1) 5 [] i o)) (12 + 4 * (8 - o) + 4) mX3_ask (hp (Tk (s.setb b2) T n t (tkL t n L0 j) nu3 (nI o) kd)) 108 [some (.ref T), some (.ref y), some (.int sg)] [] := fun sg v k hsg hk n1 n2 n3 n4 n5 n6 kv => by
      have e0 : RF n t L0 kd (f + 1) 5 [] i o = bd (RF n t L0 kd f 3 [] (j + 1) o) fun c2 j2 => .inr (c ++ c2 ++ [(k, 0)], j2) := by
        refine e0.trans ?_
        show (if cpK (byteF t n) (tkL t n L0) j = -1 then _ else _) = _
        rw [hk, if_neg n1]
        try rfl
      exact (q_cmp h3 (s := s.setb b2) (i := j) (lo := (512 + s.b.n)) (nu := nu3) hC2 ho (by omega) (by omega) (Nat.le_refl _) hF1 hF2 n2 n3 n4 n5 n6 kv e0 hz).mono (fun oh q8 => PQ.up (z := 1) (z1 := 1) (sc := 6) (su := 18) (i := i) q8 x2 (Nat.le_refl _) (by omega) (by omega) (by omega) (by omega) (fun C b a h => h))
    by_cases c60 : (tkL t n L0 j).2.2.1 = 60
    · have hs60 : sortS (byteF t n) (tkL t n L0 j) = 60 := (so_c j (c := 60) (v := 60) (by decide) (by decide +kernel) (by decide +kernel)).mpr c60
      have ec : cpK (byteF t n) (tkL t n L0) j = 10 := by
        unfold cpK cmpF
        rw [if_pos c60]
      obtain ⟨oh, qf, wf⟩ := hsk 60 60 10 hs60 ec (by decide) (by decide) (by decide) (by decide) (by decide) (by decide) (fun a b ha hb => (cmp_M ha hb).1)
      refine RXO.of rfl (Nat.le_of_ble_eq_true rfl) rfl ⟨oh, qf, ?_⟩
      refine AW.aload_n dX3_ask_0 rfl rfl ?_
      refine AW.get ci3 4 (by decide) q308 dX3_ask_1 (gTk hT) rfl rfl ?_
      refine AW.sipush (v := 215) dX3_ask_4 (by decide) rfl ?_
      refine AW.icmp_ne (tgt := 38) dX3_ask_7 (by decide) rfl (fun _ => ?_) (fun c_ => by first | exact absurd c_ hs | exact absurd hs c_ | exact absurd c_ (not_not_intro hs) | exact Bool.noConfusion (c_.symm.trans hs))
      refine AW.aload_n dX3_ask_38 rfl rfl ?_
      refine AW.callV (Y := mX3_sum) (n := 0) (w9) (by omega) (by decide) rfl (gTk hT) q523 q525 qs5 q142 q526 dX3_ask_39 (by decide +kernel) rfl rfl (Nat.le_of_ble_eq_true rfl) rfl ?_
      refine AW.astore_n (i := 1) dX3_ask_42 rfl rfl (Nat.le_of_ble_eq_true rfl) rfl rfl ?_
      refine AW.aload_n dX3_ask_43 rfl rfl ?_
      refine AW.get ci3 4 (by decide) q308 dX3_ask_44 (gTk hT) rfl rfl ?_
      refine AW.sipush (v := 216) dX3_ask_47 (by decide) rfl ?_
      refine AW.icmp_ne (tgt := 59) dX3_ask_50 (by decide) rfl (fun _ => ?_) (fun c_ => by first | exact absurd c_ hs16 | exact absurd hs16 c_ | exact absurd c_ (not_not_intro hs16) | exact Bool.noConfusion (c_.symm.trans hs16))
      refine AW.aload_n dX3_ask_59 rfl rfl ?_
      refine AW.get ci3 4 (by decide) q308 dX3_ask_60 (gTk hT) rfl rfl ?_
      refine AW.istore_n (i := 2) dX3_ask_63 rfl rfl (Nat.le_of_ble_eq_true rfl) rfl rfl ?_
      refine AW.iload_n dX3_ask_64 rfl rfl ?_
      refine AW.bipush (v := 60) dX3_ask_65 (by decide) rfl ?_
      refine AW.icmp_eq (tgt := 108) dX3_ask_67 (by decide) rfl (fun _ => ?_) (fun c_ => by first | exact absurd c_ hs60 | exact absurd hs60 c_ | exact absurd c_ (not_not_intro hs60) | exact Bool.noConfusion (c_.symm.trans hs60))
      exact AW.ls (by rw [hs60]; rfl) wf
    by_cases c62 : (tkL t n L0 j).2.2.1 = 62
    · have hs62 : sortS (byteF t n) (tkL t n L0 j) = 62 := (so_c j (c := 62) (v := 62) (by decide) (by decide +kernel) (by decide +kernel)).mpr c62
      have ec : cpK (byteF t n) (tkL t n L0) j = 12 := by
        unfold cpK cmpF
        rw [if_neg (by rw [c62]; decide), if_neg (by rw [c62]; decide), if_pos c62]
      obtain ⟨oh, qf, wf⟩ := hsk 62 62 12 hs62 ec (by decide) (by decide) (by decide) (by decide) (by decide) (by decide) (fun a b ha hb => (cmp_M ha hb).2.2.1)
      refine RXO.of rfl (Nat.le_of_ble_eq_true rfl) rfl ⟨oh, qf, ?_⟩
      refine AW.aload_n dX3_ask_0 rfl rfl ?_
      refine AW.get ci3 4 (by decide) q308 dX3_ask_1 (gTk hT) rfl rfl ?_
      refine AW.sipush (v := 215) dX3_ask_4 (by decide) rfl ?_
      refine AW.icmp_ne (tgt := 38) dX3_ask_7 (by decide) rfl (fun _ => ?_) (fun c_ => by first | exact absurd c_ hs | exact absurd hs c_ | exact absurd c_ (not_not_intro hs) | exact Bool.noConfusion (c_.symm.trans hs))
      refine AW.aload_n dX3_ask_38 rfl rfl ?_
      refine AW.callV (Y := mX3_sum) (n := 0) (w9) (by omega) (by decide) rfl (gTk hT) q523 q525 qs5 q142 q526 dX3_ask_39 (by decide +kernel) rfl rfl (Nat.le_of_ble_eq_true rfl) rfl ?_
      refine AW.astore_n (i := 1) dX3_ask_42 rfl rfl (Nat.le_of_ble_eq_true rfl) rfl rfl ?_
      refine AW.aload_n dX3_ask_43 rfl rfl ?_
      refine AW.get ci3 4 (by decide) q308 dX3_ask_44 (gTk hT) rfl rfl ?_
      refine AW.sipush (v := 216) dX3_ask_47 (by decide) rfl ?_
      refine AW.icmp_ne (tgt := 59) dX3_ask_50 (by decide) rfl (fun _ => ?_) (fun c_ => by first | exact absurd c_ hs16 | exact absurd hs16 c_ | exact absurd c_ (not_not_intro hs16) | exact Bool.noConfusion (c_.symm.trans hs16))
      refine AW.aload_n dX3_ask_59 rfl rfl ?_
      refine AW.get ci3 4 (by decide) q308 dX3_ask_60 (gTk hT) rfl rfl ?_
      refine AW.istore_n (i := 2) dX3_ask_63 rfl rfl (Nat.le_of_ble_eq_true rfl) rfl rfl ?_
      refine AW.iload_n dX3_ask_64 rfl rfl ?_
      refine AW.bipush (v := 60) dX3_ask_65 (by decide) rfl ?_
      refine AW.icmp_eq (tgt := 108) dX3_ask_67 (by decide) rfl (fun c_ => by first | exact absurd c_ (show ¬ sortS (byteF t n) (tkL t n L0 j) = 60 by rw [hs62]; decide) | exact absurd (show ¬ sortS (byteF t n) (tkL t n L0 j) = 60 by rw [hs62]; decide) c_ | exact Bool.noConfusion (c_.symm.trans (show ¬ sortS (byteF t n) (tkL t n L0 j) = 60 by rw [hs62]; decide))) (fun _ => ?_)
      refine AW.iload_n dX3_ask_70 rfl rfl ?_
      refine AW.bipush (v := 62) dX3_ask_71 (by decide) rfl ?_
      refine AW.icmp_eq (tgt := 108) dX3_ask_73 (by decide) rfl (fun _ => ?_) (fun c_ => by first | exact absurd c_ hs62 | exact absurd hs62 c_ | exact absurd c_ (not_not_intro hs62) | exact Bool.noConfusion (c_.symm.trans hs62))
      exact AW.ls (by rw [hs62]; rfl) wf
    by_cases c61 : (tkL t n L0 j).2.2.1 = 61
    · have hs61 : sortS (byteF t n) (tkL t n L0 j) = 61 := (so_c j (c := 61) (v := 61) (by decide) (by decide +kernel) (by decide +kernel)).mpr c61
      have ec : cpK (byteF t n) (tkL t n L0) j = 14 := by
        unfold cpK cmpF
        rw [if_neg (by rw [c61]; decide), if_neg (by rw [c61]; decide), if_neg (by rw [c61]; decide), if_neg (by rw [c61]; decide), if_pos c61]
      obtain ⟨oh, qf, wf⟩ := hsk 61 61 14 hs61 ec (by decide) (by decide) (by decide) (by decide) (by decide) (by decide) (fun a b ha hb => (cmp_M ha hb).2.2.2.2.1)
      refine RXO.of rfl (Nat.le_of_ble_eq_true rfl) rfl ⟨oh, qf, ?_⟩
      refine AW.aload_n dX3_ask_0 rfl rfl ?_
      refine AW.get ci3 4 (by decide) q308 dX3_ask_1 (gTk hT) rfl rfl ?_
      refine AW.sipush (v := 215) dX3_ask_4 (by decide) rfl ?_
      refine AW.icmp_ne (tgt := 38) dX3_ask_7 (by decide) rfl (fun _ => ?_) (fun c_ => by first | exact absurd c_ hs | exact absurd hs c_ | exact absurd c_ (not_not_intro hs) | exact Bool.noConfusion (c_.symm.trans hs))
      refine AW.aload_n dX3_ask_38 rfl rfl ?_
      refine AW.callV (Y := mX3_sum) (n := 0) (w9) (by omega) (by decide) rfl (gTk hT) q523 q525 qs5 q142 q526 dX3_ask_39 (by decide +kernel) rfl rfl (Nat.le_of_ble_eq_true rfl) rfl ?_
      refine AW.astore_n (i := 1) dX3_ask_42 rfl rfl (Nat.le_of_ble_eq_true rfl) rfl rfl ?_
      refine AW.aload_n dX3_ask_43 rfl rfl ?_
      refine AW.get ci3 4 (by decide) q308 dX3_ask_44 (gTk hT) rfl rfl ?_
      refine AW.sipush (v := 216) dX3_ask_47 (by decide) rfl ?_
      refine AW.icmp_ne (tgt := 59) dX3_ask_50 (by decide) rfl (fun _ => ?_) (fun c_ => by first | exact absurd c_ hs16 | exact absurd hs16 c_ | exact absurd c_ (not_not_intro hs16) | exact Bool.noConfusion (c_.symm.trans hs16))
      refine AW.aload_n dX3_ask_59 rfl rfl ?_
      refine AW.get ci3 4 (by decide) q308 dX3_ask_60 (gTk hT) rfl rfl ?_
      refine AW.istore_n (i := 2) dX3_ask_63 rfl rfl (Nat.le_of_ble_eq_true rfl) rfl rfl ?_
      refine AW.iload_n dX3_ask_64 rfl rfl ?_
      refine AW.bipush (v := 60) dX3_ask_65 (by decide) rfl ?_
      refine AW.icmp_eq (tgt := 108) dX3_ask_67 (by decide) rfl (fun c_ => by first | exact absurd c_ (show ¬ sortS (byteF t n) (tkL t n L0 j) = 60 by rw [hs61]; decide) | exact absurd (show ¬ sortS (byteF t n) (tkL t n L0 j) = 60 by rw [hs61]; decide) c_ | exact Bool.noConfusion (c_.symm.trans (show ¬ sortS (byteF t n) (tkL t n L0 j) = 60 by rw [hs61]; decide))) (fun _ => ?_)
      refine AW.iload_n dX3_ask_70 rfl rfl ?_
      refine AW.bipush (v := 62) dX3_ask_71 (by decide) rfl ?_
      refine AW.icmp_eq (tgt := 108) dX3_ask_73 (by decide) rfl (fun c_ => by first | exact absurd c_ (show ¬ sortS (byteF t n) (tkL t n L0 j) = 62 by rw [hs61]; decide) | exact absurd (show ¬ sortS (byteF t n) (tkL t n L0 j) = 62 by rw [hs61]; decide) c_ | exact Bool.noConfusion (c_.symm.trans (show ¬ sortS (byteF t n) (tkL t n L0 j) = 62 by rw [hs61]; decide))) (fun _ => ?_)
      refine AW.iload_n dX3_ask_76 rfl rfl ?_
      refine AW.bipush (v := 61) dX3_ask_77 (by decide) rfl ?_
      refine AW.icmp_eq (tgt := 108) dX3_ask_79 (by decide) rfl (fun _ => ?_) (fun c_ => by first | exact absurd c_ hs61 | exact absurd hs61 c_ | exact absurd c_ (not_not_intro hs61) | exact Bool.noConfusion (c_.symm.trans hs61))
      exact AW.ls (by rw [hs61]; rfl) wf
    by_cases c35 : (tkL t n L0 j).2.2.1 = 35
    · have hs35 : sortS (byteF t n) (tkL t n L0 j) = 35 := (so_c j (c := 35) (v := 35) (by decide) (by decide +kernel) (by decide +kernel)).mpr c35
      have ec : cpK (byteF t n) (tkL t n L0) j = 15 := by
        unfold cpK cmpF
        rw [if_neg (by rw [c35]; decide), if_neg (by rw [c35]; decide), if_neg (by rw [c35]; decide), if_neg (by rw [c35]; decide), if_neg (by rw [c35]; decide), if_pos c35]
      obtain ⟨oh, qf, wf⟩ := hsk 35 35 15 hs35 ec (by decide) (by decide) (by decide) (by decide) (by decide) (by decide) (fun a b ha hb => (cmp_M ha hb).2.2.2.2.2)
      refine RXO.of rfl (Nat.le_of_ble_eq_true rfl) rfl ⟨oh, qf, ?_⟩
      refine AW.aload_n dX3_ask_0 rfl rfl ?_
      refine AW.get ci3 4 (by decide) q308 dX3_ask_1 (gTk hT) rfl rfl ?_
      refine AW.sipush (v := 215) dX3_ask_4 (by decide) rfl ?_
      refine AW.icmp_ne (tgt := 38) dX3_ask_7 (by decide) rfl (fun _ => ?_) (fun c_ => by first | exact absurd c_ hs | exact absurd hs c_ | exact absurd c_ (not_not_intro hs) | exact Bool.noConfusion (c_.symm.trans hs))
      refine AW.aload_n dX3_ask_38 rfl rfl ?_
      refine AW.callV (Y := mX3_sum) (n := 0) (w9) (by omega) (by decide) rfl (gTk hT) q523 q525 qs5 q142 q526 dX3_ask_39 (by decide +kernel) rfl rfl (Nat.le_of_ble_eq_true rfl) rfl ?_
      refine AW.astore_n (i := 1) dX3_ask_42 rfl rfl (Nat.le_of_ble_eq_true rfl) rfl rfl ?_
      refine AW.aload_n dX3_ask_43 rfl rfl ?_
      refine AW.get ci3 4 (by decide) q308 dX3_ask_44 (gTk hT) rfl rfl ?_
      refine AW.sipush (v := 216) dX3_ask_47 (by decide) rfl ?_
      refine AW.icmp_ne (tgt := 59) dX3_ask_50 (by decide) rfl (fun _ => ?_) (fun c_ => by first | exact absurd c_ hs16 | exact absurd hs16 c_ | exact absurd c_ (not_not_intro hs16) | exact Bool.noConfusion (c_.symm.trans hs16))
      refine AW.aload_n dX3_ask_59 rfl rfl ?_
      refine AW.get ci3 4 (by decide) q308 dX3_ask_60 (gTk hT) rfl rfl ?_
      refine AW.istore_n (i := 2) dX3_ask_63 rfl rfl (Nat.le_of_ble_eq_true rfl) rfl rfl ?_
      refine AW.iload_n dX3_ask_64 rfl rfl ?_
      refine AW.bipush (v := 60) dX3_ask_65 (by decide) rfl ?_
      refine AW.icmp_eq (tgt := 108) dX3_ask_67 (by decide) rfl (fun c_ => by first | exact absurd c_ (show ¬ sortS (byteF t n) (tkL t n L0 j) = 60 by rw [hs35]; decide) | exact absurd (show ¬ sortS (byteF t n) (tkL t n L0 j) = 60 by rw [hs35]; decide) c_ | exact Bool.noConfusion (c_.symm.trans (show ¬ sortS (byteF t n) (tkL t n L0 j) = 60 by rw [hs35]; decide))) (fun _ => ?_)
      refine AW.iload_n dX3_ask_70 rfl rfl ?_
      refine AW.bipush (v := 62) dX3_ask_71 (by decide) rfl ?_
      refine AW.icmp_eq (tgt := 108) dX3_ask_73 (by decide) rfl (fun c_ => by first | exact absurd c_ (show ¬ sortS (byteF t n) (tkL t n L0 j) = 62 by rw [hs35]; decide) | exact absurd (show ¬ sortS (byteF t n) (tkL t n L0 j) = 62 by rw [hs35]; decide) c_ | exact Bool.noConfusion (c_.symm.trans (show ¬ sortS (byteF t n) (tkL t n L0 j) = 62 by rw [hs35]; decide))) (fun _ => ?_)
      refine AW.iload_n dX3_ask_76 rfl rfl ?_
      refine AW.bipush (v := 61) dX3_ask_77 (by decide) rfl ?_
      refine AW.icmp_eq (tgt := 108) dX3_ask_79 (by decide) rfl (fun c_ => by first | exact absurd c_ (show ¬ sortS (byteF t n) (tkL t n L0 j) = 61 by rw [hs35]; decide) | exact absurd (show ¬ sortS (byteF t n) (tkL t n L0 j) = 61 by rw [hs35]; decide) c_ | exact Bool.noConfusion (c_.symm.trans (show ¬ sortS (byteF t n) (tkL t n L0 j) = 61 by rw [hs35]; decide))) (fun _ => ?_)
      refine AW.iload_n dX3_ask_82 rfl rfl ?_
      refine AW.bipush (v := 35) dX3_ask_83 (by decide) rfl ?_
      refine AW.icmp_eq (tgt := 108) dX3_ask_85 (by decide) rfl (fun _ => ?_) (fun c_ => by first | exact absurd c_ hs35 | exact absurd hs35 c_ | exact absurd c_ (not_not_intro hs35) | exact Bool.noConfusion (c_.symm.trans hs35))
      exact AW.ls (by rw [hs35]; rfl) wf
    by_cases c303 : (tkL t n L0 j).2.2.1 = 4
    · have hs303 : sortS (byteF t n) (tkL t n L0 j) = 303 := (so_c j (c := 303) (v := 4) (by decide) (by decide +kernel) (by decide +kernel)).mpr c303
      have ec : cpK (byteF t n) (tkL t n L0) j = 11 := by
        unfold cpK cmpF
        rw [if_neg (by rw [c303]; decide), if_pos c303]
      obtain ⟨oh, qf, wf⟩ := hsk 303 4 11 hs303 ec (by decide) (by decide) (by decide) (by decide) (by decide) (by decide) (fun a b ha hb => (cmp_M ha hb).2.1)
      refine RXO.of rfl (Nat.le_of_ble_eq_true rfl) rfl ⟨oh, qf, ?_⟩
      refine AW.aload_n dX3_ask_0 rfl rfl ?_
      refine AW.get ci3 4 (by decide) q308 dX3_ask_1 (gTk hT) rfl rfl ?_
      refine AW.sipush (v := 215) dX3_ask_4 (by decide) rfl ?_
      refine AW.icmp_ne (tgt := 38) dX3_ask_7 (by decide) rfl (fun _ => ?_) (fun c_ => by first | exact absurd c_ hs | exact absurd hs c_ | exact absurd c_ (not_not_intro hs) | exact Bool.noConfusion (c_.symm.trans hs))
      refine AW.aload_n dX3_ask_38 rfl rfl ?_
      refine AW.callV (Y := mX3_sum) (n := 0) (w9) (by omega) (by decide) rfl (gTk hT) q523 q525 qs5 q142 q526 dX3_ask_39 (by decide +kernel) rfl rfl (Nat.le_of_ble_eq_true rfl) rfl ?_
      refine AW.astore_n (i := 1) dX3_ask_42 rfl rfl (Nat.le_of_ble_eq_true rfl) rfl rfl ?_
      refine AW.aload_n dX3_ask_43 rfl rfl ?_
      refine AW.get ci3 4 (by decide) q308 dX3_ask_44 (gTk hT) rfl rfl ?_
      refine AW.sipush (v := 216) dX3_ask_47 (by decide) rfl ?_
      refine AW.icmp_ne (tgt := 59) dX3_ask_50 (by decide) rfl (fun _ => ?_) (fun c_ => by first | exact absurd c_ hs16 | exact absurd hs16 c_ | exact absurd c_ (not_not_intro hs16) | exact Bool.noConfusion (c_.symm.trans hs16))
      refine AW.aload_n dX3_ask_59 rfl rfl ?_
      refine AW.get ci3 4 (by decide) q308 dX3_ask_60 (gTk hT) rfl rfl ?_
      refine AW.istore_n (i := 2) dX3_ask_63 rfl rfl (Nat.le_of_ble_eq_true rfl) rfl rfl ?_
      refine AW.iload_n dX3_ask_64 rfl rfl ?_
      refine AW.bipush (v := 60) dX3_ask_65 (by decide) rfl ?_
      refine AW.icmp_eq (tgt := 108) dX3_ask_67 (by decide) rfl (fun c_ => by first | exact absurd c_ (show ¬ sortS (byteF t n) (tkL t n L0 j) = 60 by rw [hs303]; decide) | exact absurd (show ¬ sortS (byteF t n) (tkL t n L0 j) = 60 by rw [hs303]; decide) c_ | exact Bool.noConfusion (c_.symm.trans (show ¬ sortS (byteF t n) (tkL t n L0 j) = 60 by rw [hs303]; decide))) (fun _ => ?_)
      refine AW.iload_n dX3_ask_70 rfl rfl ?_
      refine AW.bipush (v := 62) dX3_ask_71 (by decide) rfl ?_
      refine AW.icmp_eq (tgt := 108) dX3_ask_73 (by decide) rfl (fun c_ => by first | exact absurd c_ (show ¬ sortS (byteF t n) (tkL t n L0 j) = 62 by rw [hs303]; decide) | exact absurd (show ¬ sortS (byteF t n) (tkL t n L0 j) = 62 by rw [hs303]; decide) c_ | exact Bool.noConfusion (c_.symm.trans (show ¬ sortS (byteF t n) (tkL t n L0 j) = 62 by rw [hs303]; decide))) (fun _ => ?_)
      refine AW.iload_n dX3_ask_76 rfl rfl ?_
      refine AW.bipush (v := 61) dX3_ask_77 (by decide) rfl ?_
      refine AW.icmp_eq (tgt := 108) dX3_ask_79 (by decide) rfl (fun c_ => by first | exact absurd c_ (show ¬ sortS (byteF t n) (tkL t n L0 j) = 61 by rw [hs303]; decide) | exact absurd (show ¬ sortS (byteF t n) (tkL t n L0 j) = 61 by rw [hs303]; decide) c_ | exact Bool.noConfusion (c_.symm.trans (show ¬ sortS (byteF t n) (tkL t n L0 j) = 61 by rw [hs303]; decide))) (fun _ => ?_)
      refine AW.iload_n dX3_ask_82 rfl rfl ?_
      refine AW.bipush (v := 35) dX3_ask_83 (by decide) rfl ?_
      refine AW.icmp_eq (tgt := 108) dX3_ask_85 (by decide) rfl (fun c_ => by first | exact absurd c_ (show ¬ sortS (byteF t n) (tkL t n L0 j) = 35 by rw [hs303]; decide) | exact absurd (show ¬ sortS (byteF t n) (tkL t n L0 j) = 35 by rw [hs303]; decide) c_ | exact Bool.noConfusion (c_.symm.trans (show ¬ sortS (byteF t n) (tkL t n L0 j) = 35 by rw [hs303]; decide))) (fun _ => ?_)
      refine AW.iload_n dX3_ask_88 rfl rfl ?_
      refine AW.sipush (v := 303) dX3_ask_89 (by decide) rfl ?_
      refine AW.icmp_eq (tgt := 108) dX3_ask_92 (by decide) rfl (fun _ => ?_) (fun c_ => by first | exact absurd c_ hs303 | exact absurd hs303 c_ | exact absurd c_ (not_not_intro hs303) | exact Bool.noConfusion (c_.symm.trans hs303))
      exact AW.ls (by rw [hs303]; rfl) wf
    by_cases c304 : (tkL t n L0 j).2.2.1 = 5
    · have hs304 : sortS (byteF t n) (tkL t n L0 j) = 304 := (so_c j (c := 304) (v := 5) (by decide) (by decide +kernel) (by decide +kernel)).mpr c304
      have ec : cpK (byteF t n) (tkL t n L0) j = 13 := by
        unfold cpK cmpF
        rw [if_neg (by rw [c304]; decide), if_neg (by rw [c304]; decide), if_neg (by rw [c304]; decide), if_pos c304]
      obtain ⟨oh, qf, wf⟩ := hsk 304 5 13 hs304 ec (by decide) (by decide) (by decide) (by decide) (by decide) (by decide) (fun a b ha hb => (cmp_M ha hb).2.2.2.1)
      refine RXO.of rfl (Nat.le_of_ble_eq_true rfl) rfl ⟨oh, qf, ?_⟩
      refine AW.aload_n dX3_ask_0 rfl rfl ?_
      refine AW.get ci3 4 (by decide) q308 dX3_ask_1 (gTk hT) rfl rfl ?_
      refine AW.sipush (v := 215) dX3_ask_4 (by decide) rfl ?_
      refine AW.icmp_ne (tgt := 38) dX3_ask_7 (by decide) rfl (fun _ => ?_) (fun c_ => by first | exact absurd c_ hs | exact absurd hs c_ | exact absurd c_ (not_not_intro hs) | exact Bool.noConfusion (c_.symm.trans hs))
      refine AW.aload_n dX3_ask_38 rfl rfl ?_
      refine AW.callV (Y := mX3_sum) (n := 0) (w9) (by omega) (by decide) rfl (gTk hT) q523 q525 qs5 q142 q526 dX3_ask_39 (by decide +kernel) rfl rfl (Nat.le_of_ble_eq_true rfl) rfl ?_
      refine AW.astore_n (i := 1) dX3_ask_42 rfl rfl (Nat.le_of_ble_eq_true rfl) rfl rfl ?_
      refine AW.aload_n dX3_ask_43 rfl rfl ?_
      refine AW.get ci3 4 (by decide) q308 dX3_ask_44 (gTk hT) rfl rfl ?_
      refine AW.sipush (v := 216) dX3_ask_47 (by decide) rfl ?_
      refine AW.icmp_ne (tgt := 59) dX3_ask_50 (by decide) rfl (fun _ => ?_) (fun c_ => by first | exact absurd c_ hs16 | exact absurd hs16 c_ | exact absurd c_ (not_not_intro hs16) | exact Bool.noConfusion (c_.symm.trans hs16))
      refine AW.aload_n dX3_ask_59 rfl rfl ?_
      refine AW.get ci3 4 (by decide) q308 dX3_ask_60 (gTk hT) rfl rfl ?_
      refine AW.istore_n (i := 2) dX3_ask_63 rfl rfl (Nat.le_of_ble_eq_true rfl) rfl rfl ?_
      refine AW.iload_n dX3_ask_64 rfl rfl ?_
      refine AW.bipush (v := 60) dX3_ask_65 (by decide) rfl ?_
      refine AW.icmp_eq (tgt := 108) dX3_ask_67 (by decide) rfl (fun c_ => by first | exact absurd c_ (show ¬ sortS (byteF t n) (tkL t n L0 j) = 60 by rw [hs304]; decide) | exact absurd (show ¬ sortS (byteF t n) (tkL t n L0 j) = 60 by rw [hs304]; decide) c_ | exact Bool.noConfusion (c_.symm.trans (show ¬ sortS (byteF t n) (tkL t n L0 j) = 60 by rw [hs304]; decide))) (fun _ => ?_)
      refine AW.iload_n dX3_ask_70 rfl rfl ?_
      refine AW.bipush (v := 62) dX3_ask_71 (by decide) rfl ?_
      refine AW.icmp_eq (tgt := 108) dX3_ask_73 (by decide) rfl (fun c_ => by first | exact absurd c_ (show ¬ sortS (byteF t n) (tkL t n L0 j) = 62 by rw [hs304]; decide) | exact absurd (show ¬ sortS (byteF t n) (tkL t n L0 j) = 62 by rw [hs304]; decide) c_ | exact Bool.noConfusion (c_.symm.trans (show ¬ sortS (byteF t n) (tkL t n L0 j) = 62 by rw [hs304]; decide))) (fun _ => ?_)
      refine AW.iload_n dX3_ask_76 rfl rfl ?_
      refine AW.bipush (v := 61) dX3_ask_77 (by decide) rfl ?_
      refine AW.icmp_eq (tgt := 108) dX3_ask_79 (by decide) rfl (fun c_ => by first | exact absurd c_ (show ¬ sortS (byteF t n) (tkL t n L0 j) = 61 by rw [hs304]; decide) | exact absurd (show ¬ sortS (byteF t n) (tkL t n L0 j) = 61 by rw [hs304]; decide) c_ | exact Bool.noConfusion (c_.symm.trans (show ¬ sortS (byteF t n) (tkL t n L0 j) = 61 by rw [hs304]; decide))) (fun _ => ?_)
      refine AW.iload_n dX3_ask_82 rfl rfl ?_
      refine AW.bipush (v := 35) dX3_ask_83 (by decide) rfl ?_
      refine AW.icmp_eq (tgt := 108) dX3_ask_85 (by decide) rfl (fun c_ => by first | exact absurd c_ (show ¬ sortS (byteF t n) (tkL t n L0 j) = 35 by rw [hs304]; decide) | exact absurd (show ¬ sortS (byteF t n) (tkL t n L0 j) = 35 by rw [hs304]; decide) c_ | exact Bool.noConfusion (c_.symm.trans (show ¬ sortS (byteF t n) (tkL t n L0 j) = 35 by rw [hs304]; decide))) (fun _ => ?_)
      refine AW.iload_n dX3_ask_88 rfl rfl ?_
      refine AW.sipush (v := 303) dX3_ask_89 (by decide) rfl ?_
      refine AW.icmp_eq (tgt := 108) dX3_ask_92 (by decide) rfl (fun c_ => by first | exact absurd c_ (show ¬ sortS (byteF t n) (tkL t n L0 j) = 303 by rw [hs304]; decide) | exact absurd (show ¬ sortS (byteF t n) (tkL t n L0 j) = 303 by rw [hs304]; decide) c_ | exact Bool.noConfusion (c_.symm.trans (show ¬ sortS (byteF t n) (tkL t n L0 j) = 303 by rw [hs304]; decide))) (fun _ => ?_)
      refine AW.iload_n dX3_ask_95 rfl rfl ?_
      refine AW.sipush (v := 304) dX3_ask_96 (by decide) rfl ?_
      refine AW.icmp_eq (tgt := 108) dX3_ask_99 (by decide) rfl (fun _ => ?_) (fun c_ => by first | exact absurd c_ hs304 | exact absurd hs304 c_ | exact absurd c_ (not_not_intro hs304) | exact Bool.noConfusion (c_.symm.trans hs304))
      exact AW.ls (by rw [hs304]; rfl) wf
    have ec : cpK (byteF t n) (tkL t n L0) j = -1 := by
      unfold cpK cmpF
      rw [if_neg c60, if_neg c303, if_neg c62, if_neg c304, if_neg c61, if_neg c35, if_neg cdv]
    have e0 : RF n t L0 kd (f + 1) 5 [] i o = .inl (1, j) := by
      refine e0.trans ?_
      show (if cpK (byteF t n) (tkL t n L0) j = -1 then _ else _) = _
      rw [if_pos ec]
    have wr : Run 8 mX3_wrong [.ref T, .int 1] (hp (Tk (s.setb b2) T n t (tkL t n L0 j) nu3 (nI o) kd)) (.inl (some (.ref (512 + b2.n)))) (hp (Tk (s.setb (b2.push (wrC (512 + b2.n) 1 (tkL t n L0 j).2.1) 8)) T n t (tkL t n L0 j) nu3 (nI o) kd)) := r_X3_wrong (s := s.setb b2) hT (by show T < 512 + b2.n; omega) (by show 128 ≤ b2.n; omega) 1
    have q7 : EQ T n t L0 kd (512 + b2.n) 6 18 (s.setb b2) j 1 j _ := EQ.wr (s := s.setb b2) (L0 := L0) (nu := nu3) (op := nI o) (Nat.le_refl _) 1
    refine ⟨_, PQ.l e0 (⟨by show i ≤ j; omega, _, _, nu3, nI o, (x2.trans (ExT.push (T := T) (lo := (512 + s.b.n)) (b := b2) (c := wrC (512 + b2.n) 1 (tkL t n L0 j).2.1) (w := 8) (by omega)) (Nat.le_refl _)).mono (Nat.le_refl _) (by show _ ≤ 16 * (j - i) + 6 + 4; omega) (by show _ ≤ 120 * (j - i) + 18 + 20; omega), ⟨by show 512 + s.b.n ≤ 512 + b2.n; omega, by show 512 + b2.n < 512 + (b2.n + 1); omega, push_g⟩, rfl⟩ : EQ T n t L0 kd (512 + s.b.n) 6 18 s i 1 j (.inr (512 + b2.n), hp (Tk (s.setb (b2.push (wrC (512 + b2.n) 1 (tkL t n L0 j).2.1) 8)) T n t (tkL t n L0 j) nu3 (nI o) kd))), ?_⟩
    refine Run.ofX rfl (Nat.le_of_ble_eq_true rfl) rfl ?_
    refine AW.aload_n dX3_ask_0 rfl rfl ?_
    refine AW.get ci3 4 (by decide) q308 dX3_ask_1 (gTk hT) rfl rfl ?_
    refine AW.sipush (v := 215) dX3_ask_4 (by decide) rfl ?_
    refine AW.icmp_ne (tgt := 38) dX3_ask_7 (by decide) rfl (fun _ => ?_) (fun c_ => by first | exact absurd c_ hs | exact absurd hs c_ | exact absurd c_ (not_not_intro hs) | exact Bool.noConfusion (c_.symm.trans hs))
    refine AW.aload_n dX3_ask_38 rfl rfl ?_
    refine AW.callV (Y := mX3_sum) (n := 0) (w9) (by omega) (by decide) rfl (gTk hT) q523 q525 qs5 q142 q526 dX3_ask_39 (by decide +kernel) rfl rfl (Nat.le_of_ble_eq_true rfl) rfl ?_
    refine AW.astore_n (i := 1) dX3_ask_42 rfl rfl (Nat.le_of_ble_eq_true rfl) rfl rfl ?_
    refine AW.aload_n dX3_ask_43 rfl rfl ?_
    refine AW.get ci3 4 (by decide) q308 dX3_ask_44 (gTk hT) rfl rfl ?_
    refine AW.sipush (v := 216) dX3_ask_47 (by decide) rfl ?_
    refine AW.icmp_ne (tgt := 59) dX3_ask_50 (by decide) rfl (fun _ => ?_) (fun c_ => by first | exact absurd c_ hs16 | exact absurd hs16 c_ | exact absurd c_ (not_not_intro hs16) | exact Bool.noConfusion (c_.symm.trans hs16))
    refine AW.aload_n dX3_ask_59 rfl rfl ?_
    refine AW.get ci3 4 (by decide) q308 dX3_ask_60 (gTk hT) rfl rfl ?_
    refine AW.istore_n (i := 2) dX3_ask_63 rfl rfl (Nat.le_of_ble_eq_true rfl) rfl rfl ?_
    refine AW.iload_n dX3_ask_64 rfl rfl ?_
    refine AW.bipush (v := 60) dX3_ask_65 (by decide) rfl ?_
    refine AW.icmp_eq (tgt := 108) dX3_ask_67 (by decide) rfl (fun c_ => by first | exact absurd c_ (fun q : sortS (byteF t n) (tkL t n L0 j) = 60 => c60 ((so_c j (c := 60) (v := 60) (by decide) (by decide +kernel) (by decide +kernel)).mp q)) | exact absurd (fun q : sortS (byteF t n) (tkL t n L0 j) = 60 => c60 ((so_c j (c := 60) (v := 60) (by decide) (by decide +kernel) (by decide +kernel)).mp q)) c_ | exact Bool.noConfusion (c_.symm.trans (fun q : sortS (byteF t n) (tkL t n L0 j) = 60 => c60 ((so_c j (c := 60) (v := 60) (by decide) (by decide +kernel) (by decide +kernel)).mp q)))) (fun _ => ?_)
    refine AW.iload_n dX3_ask_70 rfl rfl ?_
    refine AW.bipush (v := 62) dX3_ask_71 (by decide) rfl ?_
    refine AW.icmp_eq (tgt := 108) dX3_ask_73 (by decide) rfl (fun c_ => by first | exact absurd c_ (fun q : sortS (byteF t n) (tkL t n L0 j) = 62 => c62 ((so_c j (c := 62) (v := 62) (by decide) (by decide +kernel) (by decide +kernel)).mp q)) | exact absurd (fun q : sortS (byteF t n) (tkL t n L0 j) = 62 => c62 ((so_c j (c := 62) (v := 62) (by decide) (by decide +kernel) (by decide +kernel)).mp q)) c_ | exact Bool.noConfusion (c_.symm.trans (fun q : sortS (byteF t n) (tkL t n L0 j) = 62 => c62 ((so_c j (c := 62) (v := 62) (by decide) (by decide +kernel) (by decide +kernel)).mp q)))) (fun _ => ?_)
    refine AW.iload_n dX3_ask_76 rfl rfl ?_
    refine AW.bipush (v := 61) dX3_ask_77 (by decide) rfl ?_
    refine AW.icmp_eq (tgt := 108) dX3_ask_79 (by decide) rfl (fun c_ => by first | exact absurd c_ (fun q : sortS (byteF t n) (tkL t n L0 j) = 61 => c61 ((so_c j (c := 61) (v := 61) (by decide) (by decide +kernel) (by decide +kernel)).mp q)) | exact absurd (fun q : sortS (byteF t n) (tkL t n L0 j) = 61 => c61 ((so_c j (c := 61) (v := 61) (by decide) (by decide +kernel) (by decide +kernel)).mp q)) c_ | exact Bool.noConfusion (c_.symm.trans (fun q : sortS (byteF t n) (tkL t n L0 j) = 61 => c61 ((so_c j (c := 61) (v := 61) (by decide) (by decide +kernel) (by decide +kernel)).mp q)))) (fun _ => ?_)
    refine AW.iload_n dX3_ask_82 rfl rfl ?_
    refine AW.bipush (v := 35) dX3_ask_83 (by decide) rfl ?_
    refine AW.icmp_eq (tgt := 108) dX3_ask_85 (by decide) rfl (fun c_ => by first | exact absurd c_ (fun q : sortS (byteF t n) (tkL t n L0 j) = 35 => c35 ((so_c j (c := 35) (v := 35) (by decide) (by decide +kernel) (by decide +kernel)).mp q)) | exact absurd (fun q : sortS (byteF t n) (tkL t n L0 j) = 35 => c35 ((so_c j (c := 35) (v := 35) (by decide) (by decide +kernel) (by decide +kernel)).mp q)) c_ | exact Bool.noConfusion (c_.symm.trans (fun q : sortS (byteF t n) (tkL t n L0 j) = 35 => c35 ((so_c j (c := 35) (v := 35) (by decide) (by decide +kernel) (by decide +kernel)).mp q)))) (fun _ => ?_)
    refine AW.iload_n dX3_ask_88 rfl rfl ?_
    refine AW.sipush (v := 303) dX3_ask_89 (by decide) rfl ?_
    refine AW.icmp_eq (tgt := 108) dX3_ask_92 (by decide) rfl (fun c_ => by first | exact absurd c_ (fun q : sortS (byteF t n) (tkL t n L0 j) = 303 => c303 ((so_c j (c := 303) (v := 4) (by decide) (by decide +kernel) (by decide +kernel)).mp q)) | exact absurd (fun q : sortS (byteF t n) (tkL t n L0 j) = 303 => c303 ((so_c j (c := 303) (v := 4) (by decide) (by decide +kernel) (by decide +kernel)).mp q)) c_ | exact Bool.noConfusion (c_.symm.trans (fun q : sortS (byteF t n) (tkL t n L0 j) = 303 => c303 ((so_c j (c := 303) (v := 4) (by decide) (by decide +kernel) (by decide +kernel)).mp q)))) (fun _ => ?_)
    refine AW.iload_n dX3_ask_95 rfl rfl ?_
    refine AW.sipush (v := 304) dX3_ask_96 (by decide) rfl ?_
    refine AW.icmp_eq (tgt := 108) dX3_ask_99 (by decide) rfl (fun c_ => by first | exact absurd c_ (fun q : sortS (byteF t n) (tkL t n L0 j) = 304 => c304 ((so_c j (c := 304) (v := 5) (by decide) (by decide +kernel) (by decide +kernel)).mp q)) | exact absurd (fun q : sortS (byteF t n) (tkL t n L0 j) = 304 => c304 ((so_c j (c := 304) (v := 5) (by decide) (by decide +kernel) (by decide +kernel)).mp q)) c_ | exact Bool.noConfusion (c_.symm.trans (fun q : sortS (byteF t n) (tkL t n L0 j) = 304 => c304 ((so_c j (c := 304) (v := 5) (by decide) (by decide +kernel) (by decide +kernel)).mp q)))) (fun _ => ?_)
    refine AW.aload_n dX3_ask_102 rfl rfl ?_
    refine AW.iconst (v := 1) dX3_ask_103 (by decide) rfl ?_
    refine AW.callV (Y := mX3_wrong) (n := 1) (wr) (by omega) (by decide) rfl (gTk hT) q455 q457 qs3 q142 q458 dX3_ask_104 (by decide +kernel) rfl rfl (Nat.le_of_ble_eq_true rfl) rfl ?_
    exact AW.athrow dX3_ask_107 q729 (by omega) ((tk_g (s := s.setb (b2.push (wrC (512 + b2.n) 1 (tkL t n L0 j).2.1) 8)) (nfx (by omega)) (by omega)).trans push_g) rfl
