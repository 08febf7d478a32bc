/-! SYSTEM 28: tokens: what is done (printed by tools/x28.py) -/
set_option maxRecDepth 100000
theorem fg_t {s : Sg} {T n : Nat} {t : Nat → Int32} {L0 : Lq} {kd : Int32} (hC : TC s T n t) (i i1 : Nat) (hj : i + 1 = i1) {nu op : Int32} (lo hi : Int32) (hN : NuOk (tkL t n L0 i) nu) (hf : figF (tkL t n L0 i) lo hi = 0) (hh : hi.toInt < 99999) : ∃ nu2, NuOk (tkL t n L0 i1) nu2 ∧ Run 10 mX3_number [.ref T, .int lo, .int hi] (hp (Tk s T n t (tkL t n L0 i) nu op kd)) (.inl (some (.int (tkL t n L0 i).2.2.2.1))) (hp (Tk s T n t (tkL t n L0 i1) nu2 op kd)) := by
  subst i1
  unfold figF at hf
  by_cases h1 : (tkL t n L0 i).2.2.1 = 1
  · rw [if_pos h1] at hf
    have h2 : inI (tkL t n L0 i).2.2.2.1 lo hi = true := by
      cases z : inI (tkL t n L0 i).2.2.2.1 lo hi
      · rw [z] at hf
        exact absurd hf (by decide)
      · rfl
    have m := min_in (tkL t n L0 i).2.2.2.1 lo hh
    have hnu := hN h1
    have e := m.2 h2
    obtain ⟨nu2, a, b⟩ := r_X3_number_t hC i (L0 := L0) (nu := nu) (op := op) (kd := kd) lo hi ((so_c i (c := 300) (v := 1) (by decide) (by decide +kernel) (by decide +kernel)).mpr h1) (by rw [hnu, m.1]; exact h2)
    refine ⟨nu2, a, ?_⟩
    rw [← e, ← hnu]
    exact b
  · rw [if_neg h1] at hf
    exact absurd hf (by decide)
theorem fg_f {s : Sg} {T n : Nat} {t : Nat → Int32} {L0 : Lq} {kd : Int32} (hC : TC s T n t) (i : Nat) {nu op : Int32} (lo hi : Int32) (hN : NuOk (tkL t n L0 i) nu) (hf : ¬ figF (tkL t n L0 i) lo hi = 0) (hh : hi.toInt < 99999) : Run 10 mX3_number [.ref T, .int lo, .int hi] (hp (Tk s T n t (tkL t n L0 i) nu op kd)) (.inr (512 + s.b.n)) (hp (Tk (s.setb (s.b.push (wrC (512 + s.b.n) (figF (tkL t n L0 i) lo hi) (tkL t n L0 i).2.1) 8)) T n t (tkL t n L0 i) nu op kd)) := by
  by_cases h1 : (tkL t n L0 i).2.2.1 = 1
  · have e : figF (tkL t n L0 i) lo hi = if inI (tkL t n L0 i).2.2.2.1 lo hi = true then 0 else 2 := if_pos h1
    have h2 : inI (tkL t n L0 i).2.2.2.1 lo hi = false := by
      cases z : inI (tkL t n L0 i).2.2.2.1 lo hi
      · rfl
      · exact absurd (e.trans (if_pos z)) hf
    rw [e, if_neg (by rw [h2]; decide)]
    have hnu := hN h1
    exact r_X3_number_2 hC.1 hC.2.1 hC.2.2.2.2.1 lo hi ((so_c i (c := 300) (v := 1) (by decide) (by decide +kernel) (by decide +kernel)).mpr h1) (by rw [hnu, (min_in _ lo hh).1]; exact h2)
  · have e : figF (tkL t n L0 i) lo hi = 1 := if_neg h1
    rw [e]
    exact r_X3_number_1 hC.1 hC.2.1 hC.2.2.2.2.1 lo hi (fun q => h1 ((so_c i (c := 300) (v := 1) (by decide) (by decide +kernel) (by decide +kernel)).mp q))
theorem bh_t {s : Sg} {T n : Nat} {t : Nat → Int32} {L0 : Lq} {kd : Int32} (hC : TC s T n t) (i i1 i2 : Nat) (h1 : i + 1 = i1) (h2 : i1 + 1 = i2) {nu op : Int32} (w lo hi : Int32) (hw : sortS (byteF t n) (tkL t n L0 i) = w) (hf : figF (tkL t n L0 i1) lo hi = 0) (hh : hi.toInt < 99999) : ∃ nu2, NuOk (tkL t n L0 i2) nu2 ∧ Run 11 mX3_behind [.ref T, .int w, .int lo, .int hi] (hp (Tk s T n t (tkL t n L0 i) nu op kd)) (.inl (some (.int (tkL t n L0 i1).2.2.2.1))) (hp (Tk s T n t (tkL t n L0 i2) nu2 op kd)) := by
  subst h2
  subst h1
  have hT := hC.1
  obtain ⟨nu1, n1, w1⟩ := r_X3_want_t hC i (L0 := L0) (nu := nu) (op := op) (kd := kd) w hw
  obtain ⟨nu2, n2, w2⟩ := fg_t hC (i + 1) (i + 1 + 1) rfl (L0 := L0) (nu := nu1) (op := op) (kd := kd) lo hi n1 hf hh
  refine ⟨nu2, n2, ?_⟩
  refine Run.of rfl (Nat.le_of_ble_eq_true rfl) rfl ?_
  refine AW.aload_n dX3_behind_0 rfl rfl ?_
  refine AW.iload_n dX3_behind_1 rfl rfl ?_
  refine AW.callV (Y := mX3_want) (n := 1) (w1) (by decide) (by decide) rfl (gTk hT) q562 q564 qs11 q142 q565 dX3_behind_2 (by decide +kernel) rfl rfl (Nat.le_of_ble_eq_true rfl) rfl ?_
  refine AW.aload_n dX3_behind_5 rfl rfl ?_
  refine AW.iload_n dX3_behind_6 rfl rfl ?_
  refine AW.iload_n dX3_behind_7 rfl rfl ?_
  refine AW.callV (Y := mX3_number) (n := 2) (w2) (by decide) (by decide) rfl (gTk hT) q539 q541 qs8 q142 q542 dX3_behind_8 (by decide +kernel) rfl rfl (Nat.le_of_ble_eq_true rfl) rfl ?_
  exact AW.iretE dX3_behind_11 rfl rfl rfl rfl
theorem bh_1 {s : Sg} {T n : Nat} {t : Nat → Int32} {L0 : Lq} {kd : Int32} (hC : TC s T n t) (i i1 i2 : Nat) (h1 : i + 1 = i1) (h2 : i1 + 1 = i2) {nu op : Int32} (w lo hi : Int32) (hw : ¬ sortS (byteF t n) (tkL t n L0 i) = w) : Run 11 mX3_behind [.ref T, .int w, .int lo, .int hi] (hp (Tk s T n t (tkL t n L0 i) nu op kd)) (.inr (512 + s.b.n)) (hp (Tk (s.setb (s.b.push (wrC (512 + s.b.n) 1 (tkL t n L0 i).2.1) 8)) T n t (tkL t n L0 i) nu op kd)) := by
  subst h2
  subst h1
  have hT := hC.1
  have w1 := r_X3_want_f (s := s) (n := n) (at_ := (tkL t n L0 i).1) (tk := (tkL t n L0 i).2.1) (nu := nu) (op := op) (kd := kd) hC.1 hC.2.1 hC.2.2.2.2.1 w hw
  refine Run.ofX rfl (Nat.le_of_ble_eq_true rfl) rfl ?_
  refine AW.aload_n dX3_behind_0 rfl rfl ?_
  refine AW.iload_n dX3_behind_1 rfl rfl ?_
  exact AW.callVX (Y := mX3_want) (n := 1) (w1) (by decide) (by decide) rfl (gTk hT) q562 q564 qs11 q142 q565 dX3_behind_2 (by decide +kernel) rfl rfl (Nat.le_of_ble_eq_true rfl) q811 rfl
theorem bh_2 {s : Sg} {T n : Nat} {t : Nat → Int32} {L0 : Lq} {kd : Int32} (hC : TC s T n t) (i i1 i2 : Nat) (h1 : i + 1 = i1) (h2 : i1 + 1 = i2) {nu op : Int32} (w lo hi : Int32) (hw : sortS (byteF t n) (tkL t n L0 i) = w) (hf : ¬ figF (tkL t n L0 i1) lo hi = 0) (hh : hi.toInt < 99999) : ∃ nu1, Run 11 mX3_behind [.ref T, .int w, .int lo, .int hi] (hp (Tk s T n t (tkL t n L0 i) nu op kd)) (.inr (512 + s.b.n)) (hp (Tk (s.setb (s.b.push (wrC (512 + s.b.n) (figF (tkL t n L0 i1) lo hi) (tkL t n L0 i1).2.1) 8)) T n t (tkL t n L0 i1) nu1 op kd)) := by
  subst h2
  subst h1
  have hT := hC.1
  obtain ⟨nu1, n1, w1⟩ := r_X3_want_t hC i (L0 := L0) (nu := nu) (op := op) (kd := kd) w hw
  have w2 := fg_f hC (i + 1) (L0 := L0) (nu := nu1) (op := op) (kd := kd) lo hi n1 hf hh
  refine ⟨nu1, ?_⟩
  refine Run.ofX rfl (Nat.le_of_ble_eq_true rfl) rfl ?_
  refine AW.aload_n dX3_behind_0 rfl rfl ?_
  refine AW.iload_n dX3_behind_1 rfl rfl ?_
  refine AW.callV (Y := mX3_want) (n := 1) (w1) (by decide) (by decide) rfl (gTk hT) q562 q564 qs11 q142 q565 dX3_behind_2 (by decide +kernel) rfl rfl (Nat.le_of_ble_eq_true rfl) rfl ?_
  refine AW.aload_n dX3_behind_5 rfl rfl ?_
  refine AW.iload_n dX3_behind_6 rfl rfl ?_
  refine AW.iload_n dX3_behind_7 rfl rfl ?_
  exact AW.callVX (Y := mX3_number) (n := 2) (w2) (by decide) (by decide) rfl (gTk hT) q539 q541 qs8 q142 q542 dX3_behind_8 (by decide +kernel) rfl rfl (Nat.le_of_ble_eq_true rfl) q811 rfl
def DQ (T n : Nat) (t : Nat → Int32) (L0 : Lq) (kd : Int32) (s : Sg) (i : Nat) (op num : Int32) (x : BR) (oh : OR × AH) : Prop := match x with
  | .inl e => EQ T n t L0 kd (512 + s.b.n) 0 0 s i e.1 e.2 oh
  | .inr q => i + 1 ≤ q.2 ∧ ∃ nu2, NuOk (tkL t n L0 q.2) nu2 ∧ oh = (.inl (some (.ref (512 + s.b.n))), hp (Tk (s.setb (s.b.push (.inr (15, [.int kd, .int q.1.1, .int q.1.2.1, .int q.1.2.2, .int num])) 5)) T n t (tkL t n L0 q.2) nu2 op kd))
section DQS
variable {T n : Nat} {t : Nat → Int32} {L0 : Lq} {kd : Int32} {s : Sg}
theorem DQ.l {i j : Nat} {op num r : Int32} {x : BR} {oh : OR × AH} (hx : x = .inl (r, j)) (h : EQ T n t L0 kd (512 + s.b.n) 0 0 s i r j oh) : DQ T n t L0 kd s i op num x oh := by
  subst hx
  exact h
theorem DQ.r {i j : Nat} {op num a b c : Int32} {x : BR} {oh : OR × AH} (hx : x = .inr ((a, b, c), j)) (h : i + 1 ≤ j ∧ ∃ nu2, NuOk (tkL t n L0 j) nu2 ∧ oh = (.inl (some (.ref (512 + s.b.n))), hp (Tk (s.setb (s.b.push (.inr (15, [.int kd, .int a, .int b, .int c, .int num])) 5)) T n t (tkL t n L0 j) nu2 op kd))) : DQ T n t L0 kd s i op num x oh := by
  subst hx
  exact h
theorem EQ.w2 {b : AH} {i j : Nat} {r : Int32} {nu op : Int32} (hb : b = s.b ∨ ∃ c, b = s.b.push c 5) (hij : i ≤ j) : EQ T n t L0 kd (512 + s.b.n) 0 0 s i r j (.inr (512 + b.n), hp (Tk (s.setb (b.push (wrC (512 + b.n) r (tkL t n L0 j).2.1) 8)) T n t (tkL t n L0 j) nu op kd)) := by
  have x : ExT T (512 + s.b.n) 1 5 s.b b := by
    rcases hb with e | ⟨c, e⟩
    · rw [e]
      exact (ExT.refl T _ s.b).mono (Nat.le_refl _) (Nat.zero_le _) (Nat.zero_le _)
    · rw [e]
      exact ExT.push (Nat.le_refl _)
  have xn := x.1
  exact ⟨hij, _, _, nu, op, (x.trans (ExT.push (T := T) (lo := 512 + s.b.n) (b := b) (c := wrC (512 + b.n) r (tkL t n L0 j).2.1) (w := 8) (by omega)) (Nat.le_refl _)).mono (Nat.le_refl _) (by omega) (by omega), ⟨by show 512 + s.b.n ≤ 512 + b.n; omega, by show 512 + b.n < 512 + (b.n + 1); omega, push_g⟩, rfl⟩
end DQS
theorem do_3 {s : Sg} {T n : Nat} {t : Nat → Int32} {L0 : Lq} (hC : TC s T n t) (i : Nat) {nu op : Int32} (num : Int32) (hN : NuOk (tkL t n L0 i) nu) : RXO (DQ T n t L0 203 s i op num (bodyR (byteF t n) (tkL t n L0) 3 i)) 14 mX3_doing [.ref T, .int num] (hp (Tk s T n t (tkL t n L0 i) nu op 203)) := by
  have hT := hC.1
  have hTb := hC.2.1
  have h300 := hC.2.2.2.1
  have hB := hC.2.2.2.2
  have hb := hB.1
  have e0 : bodyR (byteF t n) (tkL t n L0) 3 i = fgR (tkL t n L0) i 0 19 (wdR (tkL t n L0) (i + 1) (w5F 112 117 114 115 101) (fgR (tkL t n L0) (i + 2) 0 9999 (if isFrF (byteF t n) (tkL t n L0 (i + 3)) (cI (tkL t n L0 (i + 3)).2.1) = true then fgR (tkL t n L0) (i + 4) 0 99 (.inr (((tkL t n L0 i).2.2.2.1, (tkL t n L0 (i + 2)).2.2.2.1, (tkL t n L0 (i + 4)).2.2.2.1), i + 5)) else .inl (1, i + 3)))) := rfl
  by_cases f0 : ¬ figF (tkL t n L0 i) 0 19 = 0
  · have e0 := e0.trans (if_neg f0)
    have v0 := fg_f (L0 := L0) hC i (nu := nu) (op := op) (kd := 203) 0 19 hN f0 (by decide)
    refine ⟨_, DQ.l e0 (EQ.w2 (b := s.b) (nu := nu) (op := op) (Or.inl rfl) (by omega)), ?_⟩
    refine Run.ofX rfl (Nat.le_of_ble_eq_true rfl) rfl ?_
    refine AW.aload_n dX3_doing_0 rfl rfl ?_
    refine AW.get ci3 7 (by decide) q311 dX3_doing_1 (gTk hT) rfl rfl ?_
    refine AW.tableIn (off := 40) (tgt := 44) dX3_doing_4 (by decide) (by decide) rfl (by decide) ?_
    refine AW.aload_n dX3_doing_44 rfl rfl ?_
    refine AW.iconst (v := 0) dX3_doing_45 (by decide) rfl ?_
    refine AW.bipush (v := 19) dX3_doing_46 (by decide) rfl ?_
    exact AW.callVX (Y := mX3_number) (n := 2) (v0) (by decide) (by decide) rfl (gTk hT) q539 q541 qs8 q142 q542 dX3_doing_48 (by decide +kernel) rfl rfl (Nat.le_of_ble_eq_true rfl) q807 rfl
  have f0 := Classical.not_not.mp f0
  have e0 := e0.trans (if_pos f0)
  obtain ⟨nu0, hN0, v0⟩ := fg_t (L0 := L0) hC i (i + 1) (by omega) (nu := nu) (op := op) (kd := 203) 0 19 hN f0 (by decide)
  by_cases g1 : ¬ isWd (tkL t n L0 (i + 1)) (w5F 112 117 114 115 101) = true
  · have e0 := e0.trans (if_neg g1)
    have v1 := bh_1 (L0 := L0) hC (i + 1) (i + 2) (i + 3) (by omega) (by omega) (nu := nu0) (op := op) (kd := 203) 209 0 9999 (fun q => g1 ((so_w h300 (i + 1) (k := 9) (by decide) (by decide) (by decide +kernel)).mp q))
    refine ⟨_, DQ.l e0 (EQ.w2 (b := s.b) (nu := nu0) (op := op) (Or.inl rfl) (by omega)), ?_⟩
    refine Run.ofX rfl (Nat.le_of_ble_eq_true rfl) rfl ?_
    refine AW.aload_n dX3_doing_0 rfl rfl ?_
    refine AW.get ci3 7 (by decide) q311 dX3_doing_1 (gTk hT) rfl rfl ?_
    refine AW.tableIn (off := 40) (tgt := 44) dX3_doing_4 (by decide) (by decide) rfl (by decide) ?_
    refine AW.aload_n dX3_doing_44 rfl rfl ?_
    refine AW.iconst (v := 0) dX3_doing_45 (by decide) rfl ?_
    refine AW.bipush (v := 19) dX3_doing_46 (by decide) rfl ?_
    refine AW.callV (Y := mX3_number) (n := 2) (v0) (by decide) (by decide) rfl (gTk hT) q539 q541 qs8 q142 q542 dX3_doing_48 (by decide +kernel) rfl rfl (Nat.le_of_ble_eq_true rfl) rfl ?_
    refine AW.istore_n (i := 2) dX3_doing_51 rfl rfl (Nat.le_of_ble_eq_true rfl) rfl rfl ?_
    refine AW.aload_n dX3_doing_52 rfl rfl ?_
    refine AW.sipush (v := 209) dX3_doing_53 (by decide) rfl ?_
    refine AW.iconst (v := 0) dX3_doing_56 (by decide) rfl ?_
    refine AW.sipush (v := 9999) dX3_doing_57 (by decide) rfl ?_
    exact AW.callVX (Y := mX3_behind) (n := 3) (v1) (by decide) (by decide) rfl (gTk hT) q808 q810 qs22 q142 q811 dX3_doing_60 (by decide +kernel) rfl rfl (Nat.le_of_ble_eq_true rfl) q807 rfl
  have g1 := Classical.not_not.mp g1
  have e0 := e0.trans (if_pos g1)
  by_cases f1 : ¬ figF (tkL t n L0 (i + 2)) 0 9999 = 0
  · have e0 := e0.trans (if_neg f1)
    obtain ⟨nx, v1⟩ := bh_2 (L0 := L0) hC (i + 1) (i + 2) (i + 3) (by omega) (by omega) (nu := nu0) (op := op) (kd := 203) 209 0 9999 ((so_w h300 (i + 1) (k := 9) (by decide) (by decide) (by decide +kernel)).mpr g1) f1 (by decide)
    refine ⟨_, DQ.l e0 (EQ.w2 (b := s.b) (nu := nx) (op := op) (Or.inl rfl) (by omega)), ?_⟩
    refine Run.ofX rfl (Nat.le_of_ble_eq_true rfl) rfl ?_
    refine AW.aload_n dX3_doing_0 rfl rfl ?_
    refine AW.get ci3 7 (by decide) q311 dX3_doing_1 (gTk hT) rfl rfl ?_
    refine AW.tableIn (off := 40) (tgt := 44) dX3_doing_4 (by decide) (by decide) rfl (by decide) ?_
    refine AW.aload_n dX3_doing_44 rfl rfl ?_
    refine AW.iconst (v := 0) dX3_doing_45 (by decide) rfl ?_
    refine AW.bipush (v := 19) dX3_doing_46 (by decide) rfl ?_
    refine AW.callV (Y := mX3_number) (n := 2) (v0) (by decide) (by decide) rfl (gTk hT) q539 q541 qs8 q142 q542 dX3_doing_48 (by decide +kernel) rfl rfl (Nat.le_of_ble_eq_true rfl) rfl ?_
    refine AW.istore_n (i := 2) dX3_doing_51 rfl rfl (Nat.le_of_ble_eq_true rfl) rfl rfl ?_
    refine AW.aload_n dX3_doing_52 rfl rfl ?_
    refine AW.sipush (v := 209) dX3_doing_53 (by decide) rfl ?_
    refine AW.iconst (v := 0) dX3_doing_56 (by decide) rfl ?_
    refine AW.sipush (v := 9999) dX3_doing_57 (by decide) rfl ?_
    exact AW.callVX (Y := mX3_behind) (n := 3) (v1) (by decide) (by decide) rfl (gTk hT) q808 q810 qs22 q142 q811 dX3_doing_60 (by decide +kernel) rfl rfl (Nat.le_of_ble_eq_true rfl) q807 rfl
  have f1 := Classical.not_not.mp f1
  have e0 := e0.trans (if_pos f1)
  obtain ⟨nu1, hN1, v1⟩ := bh_t (L0 := L0) hC (i + 1) (i + 2) (i + 3) (by omega) (by omega) (nu := nu0) (op := op) (kd := 203) 209 0 9999 ((so_w h300 (i + 1) (k := 9) (by decide) (by decide) (by decide +kernel)).mpr g1) f1 (by decide)
  have hC5 : TC (s.setb (s.b.push (.inr (15, [.int 0, .int 0, .int 0, .int 0, .int 0])) 5)) T n t := hC.ext (ExT.push (lo := (512 + s.b.n)) (Nat.le_refl _)) (by omega)
  by_cases g2 : ¬ isFrF (byteF t n) (tkL t n L0 (i + 3)) (cI (tkL t n L0 (i + 3)).2.1) = true
  · have e0 := e0.trans (if_neg g2)
    have v2 := bh_1 (L0 := L0) hC5 (i + 3) (i + 4) (i + 5) (by omega) (by omega) (nu := nu1) (op := op) (kd := 203) 210 0 99 (fun q => g2 ((so_l h300 (i + 3) (k := 10) (by decide) (by decide) (by decide +kernel) (by decide +kernel)).mp q))
    refine ⟨_, DQ.l e0 (EQ.w2 (b := (s.b.push (.inr (15, [.int 0, .int 0, .int 0, .int 0, .int 0])) 5)) (nu := nu1) (op := op) (Or.inr ⟨_, rfl⟩) (by omega)), ?_⟩
    refine Run.ofX rfl (Nat.le_of_ble_eq_true rfl) rfl ?_
    refine AW.aload_n dX3_doing_0 rfl rfl ?_
    refine AW.get ci3 7 (by decide) q311 dX3_doing_1 (gTk hT) rfl rfl ?_
    refine AW.tableIn (off := 40) (tgt := 44) dX3_doing_4 (by decide) (by decide) rfl (by decide) ?_
    refine AW.aload_n dX3_doing_44 rfl rfl ?_
    refine AW.iconst (v := 0) dX3_doing_45 (by decide) rfl ?_
    refine AW.bipush (v := 19) dX3_doing_46 (by decide) rfl ?_
    refine AW.callV (Y := mX3_number) (n := 2) (v0) (by decide) (by decide) rfl (gTk hT) q539 q541 qs8 q142 q542 dX3_doing_48 (by decide +kernel) rfl rfl (Nat.le_of_ble_eq_true rfl) rfl ?_
    refine AW.istore_n (i := 2) dX3_doing_51 rfl rfl (Nat.le_of_ble_eq_true rfl) rfl rfl ?_
    refine AW.aload_n dX3_doing_52 rfl rfl ?_
    refine AW.sipush (v := 209) dX3_doing_53 (by decide) rfl ?_
    refine AW.iconst (v := 0) dX3_doing_56 (by decide) rfl ?_
    refine AW.sipush (v := 9999) dX3_doing_57 (by decide) rfl ?_
    refine AW.callV (Y := mX3_behind) (n := 3) (v1) (by decide) (by decide) rfl (gTk hT) q808 q810 qs22 q142 q811 dX3_doing_60 (by decide +kernel) rfl rfl (Nat.le_of_ble_eq_true rfl) rfl ?_
    refine AW.istore_n (i := 3) dX3_doing_63 rfl rfl (Nat.le_of_ble_eq_true rfl) rfl rfl ?_
    refine AW.new ci15 dX3_doing_64 q812 q813 q171 dfX15 (tk_push hTb hb) rfl ?_
    refine AW.dup dX3_doing_67 rfl rfl ?_
    refine AW.aload_n dX3_doing_68 rfl rfl ?_
    refine AW.get ci3 7 (by decide) q311 dX3_doing_69 (gTk hT) rfl rfl ?_
    refine AW.iload_n dX3_doing_72 rfl rfl ?_
    refine AW.iload_n dX3_doing_73 rfl rfl ?_
    refine AW.aload_n dX3_doing_74 rfl rfl ?_
    refine AW.sipush (v := 210) dX3_doing_75 (by decide) rfl ?_
    refine AW.iconst (v := 0) dX3_doing_78 (by decide) rfl ?_
    refine AW.bipush (v := 99) dX3_doing_79 (by decide) rfl ?_
    exact AW.callVX (Y := mX3_behind) (n := 3) (v2) (by decide) (by decide) rfl (gTk hT) q808 q810 qs22 q142 q811 dX3_doing_81 (by decide +kernel) rfl rfl (Nat.le_of_ble_eq_true rfl) q807 rfl
  have g2 := Classical.not_not.mp g2
  have e0 := e0.trans (if_pos g2)
  by_cases f2 : ¬ figF (tkL t n L0 (i + 4)) 0 99 = 0
  · have e0 := e0.trans (if_neg f2)
    obtain ⟨nx, v2⟩ := bh_2 (L0 := L0) hC5 (i + 3) (i + 4) (i + 5) (by omega) (by omega) (nu := nu1) (op := op) (kd := 203) 210 0 99 ((so_l h300 (i + 3) (k := 10) (by decide) (by decide) (by decide +kernel) (by decide +kernel)).mpr g2) f2 (by decide)
    refine ⟨_, DQ.l e0 (EQ.w2 (b := (s.b.push (.inr (15, [.int 0, .int 0, .int 0, .int 0, .int 0])) 5)) (nu := nx) (op := op) (Or.inr ⟨_, rfl⟩) (by omega)), ?_⟩
    refine Run.ofX rfl (Nat.le_of_ble_eq_true rfl) rfl ?_
    refine AW.aload_n dX3_doing_0 rfl rfl ?_
    refine AW.get ci3 7 (by decide) q311 dX3_doing_1 (gTk hT) rfl rfl ?_
    refine AW.tableIn (off := 40) (tgt := 44) dX3_doing_4 (by decide) (by decide) rfl (by decide) ?_
    refine AW.aload_n dX3_doing_44 rfl rfl ?_
    refine AW.iconst (v := 0) dX3_doing_45 (by decide) rfl ?_
    refine AW.bipush (v := 19) dX3_doing_46 (by decide) rfl ?_
    refine AW.callV (Y := mX3_number) (n := 2) (v0) (by decide) (by decide) rfl (gTk hT) q539 q541 qs8 q142 q542 dX3_doing_48 (by decide +kernel) rfl rfl (Nat.le_of_ble_eq_true rfl) rfl ?_
    refine AW.istore_n (i := 2) dX3_doing_51 rfl rfl (Nat.le_of_ble_eq_true rfl) rfl rfl ?_
    refine AW.aload_n dX3_doing_52 rfl rfl ?_
    refine AW.sipush (v := 209) dX3_doing_53 (by decide) rfl ?_
    refine AW.iconst (v := 0) dX3_doing_56 (by decide) rfl ?_
    refine AW.sipush (v := 9999) dX3_doing_57 (by decide) rfl ?_
    refine AW.callV (Y := mX3_behind) (n := 3) (v1) (by decide) (by decide) rfl (gTk hT) q808 q810 qs22 q142 q811 dX3_doing_60 (by decide +kernel) rfl rfl (Nat.le_of_ble_eq_true rfl) rfl ?_
    refine AW.istore_n (i := 3) dX3_doing_63 rfl rfl (Nat.le_of_ble_eq_true rfl) rfl rfl ?_
    refine AW.new ci15 dX3_doing_64 q812 q813 q171 dfX15 (tk_push hTb hb) rfl ?_
    refine AW.dup dX3_doing_67 rfl rfl ?_
    refine AW.aload_n dX3_doing_68 rfl rfl ?_
    refine AW.get ci3 7 (by decide) q311 dX3_doing_69 (gTk hT) rfl rfl ?_
    refine AW.iload_n dX3_doing_72 rfl rfl ?_
    refine AW.iload_n dX3_doing_73 rfl rfl ?_
    refine AW.aload_n dX3_doing_74 rfl rfl ?_
    refine AW.sipush (v := 210) dX3_doing_75 (by decide) rfl ?_
    refine AW.iconst (v := 0) dX3_doing_78 (by decide) rfl ?_
    refine AW.bipush (v := 99) dX3_doing_79 (by decide) rfl ?_
    exact AW.callVX (Y := mX3_behind) (n := 3) (v2) (by decide) (by decide) rfl (gTk hT) q808 q810 qs22 q142 q811 dX3_doing_81 (by decide +kernel) rfl rfl (Nat.le_of_ble_eq_true rfl) q807 rfl
  have f2 := Classical.not_not.mp f2
  have e0 := e0.trans (if_pos f2)
  obtain ⟨nu2, hN2, v2⟩ := bh_t (L0 := L0) hC5 (i + 3) (i + 4) (i + 5) (by omega) (by omega) (nu := nu1) (op := op) (kd := 203) 210 0 99 ((so_l h300 (i + 3) (k := 10) (by decide) (by decide) (by decide +kernel) (by decide +kernel)).mpr g2) f2 (by decide)
  have w3 := r_X15_init (s := (Tk (s.setb (s.b.push (.inr (15, [.int 0, .int 0, .int 0, .int 0, .int 0])) 5)) T n t (tkL t n L0 (i + 5)) nu2 op 203)) (a := (512 + s.b.n)) (by omega) ((Tk_g (by omega)).trans push_g) 203 (tkL t n L0 i).2.2.2.1 (tkL t n L0 (i + 2)).2.2.2.1 (tkL t n L0 (i + 4)).2.2.2.1 num
  have hw3 : hp ((Tk (s.setb (s.b.push (.inr (15, [.int 0, .int 0, .int 0, .int 0, .int 0])) 5)) T n t (tkL t n L0 (i + 5)) nu2 op 203).setb ((Tk (s.setb (s.b.push (.inr (15, [.int 0, .int 0, .int 0, .int 0, .int 0])) 5)) T n t (tkL t n L0 (i + 5)) nu2 op 203).b.set (512 + s.b.n) (.inr (15, [.int 203, .int (tkL t n L0 i).2.2.2.1, .int (tkL t n L0 (i + 2)).2.2.2.1, .int (tkL t n L0 (i + 4)).2.2.2.1, .int num])))) = hp (Tk (s.setb (s.b.push (.inr (15, [.int 203, .int (tkL t n L0 i).2.2.2.1, .int (tkL t n L0 (i + 2)).2.2.2.1, .int (tkL t n L0 (i + 4)).2.2.2.1, .int num])) 5)) T n t (tkL t n L0 (i + 5)) nu2 op 203) := (tk_cm (s := s.setb (s.b.push (.inr (15, [.int 0, .int 0, .int 0, .int 0, .int 0])) 5)) (by omega)).trans (congrArg (fun z => hp (Tk (s.setb z) T n t (tkL t n L0 (i + 5)) nu2 op 203)) push_set)
  refine ⟨_, DQ.r e0 ⟨by show i + 1 ≤ i + 5; omega, nu2, hN2, rfl⟩, ?_⟩
  refine Run.of rfl (Nat.le_of_ble_eq_true rfl) rfl ?_
  refine AW.aload_n dX3_doing_0 rfl rfl ?_
  refine AW.get ci3 7 (by decide) q311 dX3_doing_1 (gTk hT) rfl rfl ?_
  refine AW.tableIn (off := 40) (tgt := 44) dX3_doing_4 (by decide) (by decide) rfl (by decide) ?_
  refine AW.aload_n dX3_doing_44 rfl rfl ?_
  refine AW.iconst (v := 0) dX3_doing_45 (by decide) rfl ?_
  refine AW.bipush (v := 19) dX3_doing_46 (by decide) rfl ?_
  refine AW.callV (Y := mX3_number) (n := 2) (v0) (by decide) (by decide) rfl (gTk hT) q539 q541 qs8 q142 q542 dX3_doing_48 (by decide +kernel) rfl rfl (Nat.le_of_ble_eq_true rfl) rfl ?_
  refine AW.istore_n (i := 2) dX3_doing_51 rfl rfl (Nat.le_of_ble_eq_true rfl) rfl rfl ?_
  refine AW.aload_n dX3_doing_52 rfl rfl ?_
  refine AW.sipush (v := 209) dX3_doing_53 (by decide) rfl ?_
  refine AW.iconst (v := 0) dX3_doing_56 (by decide) rfl ?_
  refine AW.sipush (v := 9999) dX3_doing_57 (by decide) rfl ?_
  refine AW.callV (Y := mX3_behind) (n := 3) (v1) (by decide) (by decide) rfl (gTk hT) q808 q810 qs22 q142 q811 dX3_doing_60 (by decide +kernel) rfl rfl (Nat.le_of_ble_eq_true rfl) rfl ?_
  refine AW.istore_n (i := 3) dX3_doing_63 rfl rfl (Nat.le_of_ble_eq_true rfl) rfl rfl ?_
  refine AW.new ci15 dX3_doing_64 q812 q813 q171 dfX15 (tk_push hTb hb) rfl ?_
  refine AW.dup dX3_doing_67 rfl rfl ?_
  refine AW.aload_n dX3_doing_68 rfl rfl ?_
  refine AW.get ci3 7 (by decide) q311 dX3_doing_69 (gTk hT) rfl rfl ?_
  refine AW.iload_n dX3_doing_72 rfl rfl ?_
  refine AW.iload_n dX3_doing_73 rfl rfl ?_
  refine AW.aload_n dX3_doing_74 rfl rfl ?_
  refine AW.sipush (v := 210) dX3_doing_75 (by decide) rfl ?_
  refine AW.iconst (v := 0) dX3_doing_78 (by decide) rfl ?_
  refine AW.bipush (v := 99) dX3_doing_79 (by decide) rfl ?_
  refine AW.callV (Y := mX3_behind) (n := 3) (v2) (by decide) (by decide) rfl (gTk hT) q808 q810 qs22 q142 q811 dX3_doing_81 (by decide +kernel) rfl rfl (Nat.le_of_ble_eq_true rfl) rfl ?_
  refine AW.iload_n dX3_doing_84 rfl rfl ?_
  refine AW.callIN (Y := mX15_init) (n := 5) (w3) (by decide) (by decide) rfl q814 q815 q171 q816 dX3_doing_85 rfl (by decide +kernel) rfl rfl (Nat.le_of_ble_eq_true rfl) rfl ?_
  refine AW.hp hw3 ?_
  exact AW.aretE dX3_doing_88 rfl (Or.inl ⟨_, rfl⟩) (Or.inr ⟨_, rfl⟩) rfl rfl rfl
theorem do_4 {s : Sg} {T n : Nat} {t : Nat → Int32} {L0 : Lq} (hC : TC s T n t) (i : Nat) {nu op : Int32} (num : Int32) (hN : NuOk (tkL t n L0 i) nu) : RXO (DQ T n t L0 204 s i op num (bodyR (byteF t n) (tkL t n L0) 4 i)) 14 mX3_doing [.ref T, .int num] (hp (Tk s T n t (tkL t n L0 i) nu op 204)) := by
  have hT := hC.1
  have hTb := hC.2.1
  have h300 := hC.2.2.2.1
  have hB := hC.2.2.2.2
  have hb := hB.1
  have e0 : bodyR (byteF t n) (tkL t n L0) 4 i = fgR (tkL t n L0) i 0 6 (.inr (((tkL t n L0 i).2.2.2.1, -1, -1), i + 1)) := rfl
  have hC5 : TC (s.setb (s.b.push (.inr (15, [.int 0, .int 0, .int 0, .int 0, .int 0])) 5)) T n t := hC.ext (ExT.push (lo := (512 + s.b.n)) (Nat.le_refl _)) (by omega)
  by_cases f0 : ¬ figF (tkL t n L0 i) 0 6 = 0
  · have e0 := e0.trans (if_neg f0)
    have v0 := fg_f (L0 := L0) hC5 i (nu := nu) (op := op) (kd := 204) 0 6 hN f0 (by decide)
    refine ⟨_, DQ.l e0 (EQ.w2 (b := (s.b.push (.inr (15, [.int 0, .int 0, .int 0, .int 0, .int 0])) 5)) (nu := nu) (op := op) (Or.inr ⟨_, rfl⟩) (by omega)), ?_⟩
    refine Run.ofX rfl (Nat.le_of_ble_eq_true rfl) rfl ?_
    refine AW.aload_n dX3_doing_0 rfl rfl ?_
    refine AW.get ci3 7 (by decide) q311 dX3_doing_1 (gTk hT) rfl rfl ?_
    refine AW.tableIn (off := 173) (tgt := 177) dX3_doing_4 (by decide) (by decide) rfl (by decide) ?_
    refine AW.new ci15 dX3_doing_177 q812 q813 q171 dfX15 (tk_push hTb hb) rfl ?_
    refine AW.dup dX3_doing_180 rfl rfl ?_
    refine AW.aload_n dX3_doing_181 rfl rfl ?_
    refine AW.get ci3 7 (by decide) q311 dX3_doing_182 (gTk hT) rfl rfl ?_
    refine AW.aload_n dX3_doing_185 rfl rfl ?_
    refine AW.iconst (v := 0) dX3_doing_186 (by decide) rfl ?_
    refine AW.bipush (v := 6) dX3_doing_187 (by decide) rfl ?_
    exact AW.callVX (Y := mX3_number) (n := 2) (v0) (by decide) (by decide) rfl (gTk hT) q539 q541 qs8 q142 q542 dX3_doing_189 (by decide +kernel) rfl rfl (Nat.le_of_ble_eq_true rfl) q807 rfl
  have f0 := Classical.not_not.mp f0
  have e0 := e0.trans (if_pos f0)
  obtain ⟨nu0, hN0, v0⟩ := fg_t (L0 := L0) hC5 i (i + 1) (by omega) (nu := nu) (op := op) (kd := 204) 0 6 hN f0 (by decide)
  have w3 := r_X15_init (s := (Tk (s.setb (s.b.push (.inr (15, [.int 0, .int 0, .int 0, .int 0, .int 0])) 5)) T n t (tkL t n L0 (i + 1)) nu0 op 204)) (a := (512 + s.b.n)) (by omega) ((Tk_g (by omega)).trans push_g) 204 (tkL t n L0 i).2.2.2.1 (-1) (-1) num
  have hw3 : hp ((Tk (s.setb (s.b.push (.inr (15, [.int 0, .int 0, .int 0, .int 0, .int 0])) 5)) T n t (tkL t n L0 (i + 1)) nu0 op 204).setb ((Tk (s.setb (s.b.push (.inr (15, [.int 0, .int 0, .int 0, .int 0, .int 0])) 5)) T n t (tkL t n L0 (i + 1)) nu0 op 204).b.set (512 + s.b.n) (.inr (15, [.int 204, .int (tkL t n L0 i).2.2.2.1, .int (-1), .int (-1), .int num])))) = hp (Tk (s.setb (s.b.push (.inr (15, [.int 204, .int (tkL t n L0 i).2.2.2.1, .int (-1), .int (-1), .int num])) 5)) T n t (tkL t n L0 (i + 1)) nu0 op 204) := (tk_cm (s := s.setb (s.b.push (.inr (15, [.int 0, .int 0, .int 0, .int 0, .int 0])) 5)) (by omega)).trans (congrArg (fun z => hp (Tk (s.setb z) T n t (tkL t n L0 (i + 1)) nu0 op 204)) push_set)
  refine ⟨_, DQ.r e0 ⟨by show i + 1 ≤ i + 1; omega, nu0, hN0, rfl⟩, ?_⟩
  refine Run.of rfl (Nat.le_of_ble_eq_true rfl) rfl ?_
  refine AW.aload_n dX3_doing_0 rfl rfl ?_
  refine AW.get ci3 7 (by decide) q311 dX3_doing_1 (gTk hT) rfl rfl ?_
  refine AW.tableIn (off := 173) (tgt := 177) dX3_doing_4 (by decide) (by decide) rfl (by decide) ?_
  refine AW.new ci15 dX3_doing_177 q812 q813 q171 dfX15 (tk_push hTb hb) rfl ?_
  refine AW.dup dX3_doing_180 rfl rfl ?_
  refine AW.aload_n dX3_doing_181 rfl rfl ?_
  refine AW.get ci3 7 (by decide) q311 dX3_doing_182 (gTk hT) rfl rfl ?_
  refine AW.aload_n dX3_doing_185 rfl rfl ?_
  refine AW.iconst (v := 0) dX3_doing_186 (by decide) rfl ?_
  refine AW.bipush (v := 6) dX3_doing_187 (by decide) rfl ?_
  refine AW.callV (Y := mX3_number) (n := 2) (v0) (by decide) (by decide) rfl (gTk hT) q539 q541 qs8 q142 q542 dX3_doing_189 (by decide +kernel) rfl rfl (Nat.le_of_ble_eq_true rfl) rfl ?_
  refine AW.iconst (v := (-1)) dX3_doing_192 (by decide) rfl ?_
  refine AW.iconst (v := (-1)) dX3_doing_193 (by decide) rfl ?_
  refine AW.iload_n dX3_doing_194 rfl rfl ?_
  refine AW.callIN (Y := mX15_init) (n := 5) (w3) (by decide) (by decide) rfl q814 q815 q171 q816 dX3_doing_195 rfl (by decide +kernel) rfl rfl (Nat.le_of_ble_eq_true rfl) rfl ?_
  refine AW.hp hw3 ?_
  exact AW.aretE dX3_doing_198 rfl (Or.inl ⟨_, rfl⟩) (Or.inr ⟨_, rfl⟩) rfl rfl rfl
theorem do_5 {s : Sg} {T n : Nat} {t : Nat → Int32} {L0 : Lq} (hC : TC s T n t) (i : Nat) {nu op : Int32} (num : Int32) (hN : NuOk (tkL t n L0 i) nu) : RXO (DQ T n t L0 205 s i op num (bodyR (byteF t n) (tkL t n L0) 5 i)) 14 mX3_doing [.ref T, .int num] (hp (Tk s T n t (tkL t n L0 i) nu op 205)) := by
  have hT := hC.1
  have hTb := hC.2.1
  have h300 := hC.2.2.2.1
  have hB := hC.2.2.2.2
  have hb := hB.1
  have e0 : bodyR (byteF t n) (tkL t n L0) 5 i = fgR (tkL t n L0) i 0 6 (wdR (tkL t n L0) (i + 1) (w2F 116 111) (fgR (tkL t n L0) (i + 2) 0 6 (.inr (((tkL t n L0 i).2.2.2.1, (tkL t n L0 (i + 2)).2.2.2.1, -1), i + 3)))) := rfl
  by_cases f0 : ¬ figF (tkL t n L0 i) 0 6 = 0
  · have e0 := e0.trans (if_neg f0)
    have v0 := fg_f (L0 := L0) hC i (nu := nu) (op := op) (kd := 205) 0 6 hN f0 (by decide)
    refine ⟨_, DQ.l e0 (EQ.w2 (b := s.b) (nu := nu) (op := op) (Or.inl rfl) (by omega)), ?_⟩
    refine Run.ofX rfl (Nat.le_of_ble_eq_true rfl) rfl ?_
    refine AW.aload_n dX3_doing_0 rfl rfl ?_
    refine AW.get ci3 7 (by decide) q311 dX3_doing_1 (gTk hT) rfl rfl ?_
    refine AW.tableIn (off := 85) (tgt := 89) dX3_doing_4 (by decide) (by decide) rfl (by decide) ?_
    refine AW.aload_n dX3_doing_89 rfl rfl ?_
    refine AW.iconst (v := 0) dX3_doing_90 (by decide) rfl ?_
    refine AW.bipush (v := 6) dX3_doing_91 (by decide) rfl ?_
    exact AW.callVX (Y := mX3_number) (n := 2) (v0) (by decide) (by decide) rfl (gTk hT) q539 q541 qs8 q142 q542 dX3_doing_93 (by decide +kernel) rfl rfl (Nat.le_of_ble_eq_true rfl) q807 rfl
  have f0 := Classical.not_not.mp f0
  have e0 := e0.trans (if_pos f0)
  obtain ⟨nu0, hN0, v0⟩ := fg_t (L0 := L0) hC i (i + 1) (by omega) (nu := nu) (op := op) (kd := 205) 0 6 hN f0 (by decide)
  have hC5 : TC (s.setb (s.b.push (.inr (15, [.int 0, .int 0, .int 0, .int 0, .int 0])) 5)) T n t := hC.ext (ExT.push (lo := (512 + s.b.n)) (Nat.le_refl _)) (by omega)
  by_cases g1 : ¬ isWd (tkL t n L0 (i + 1)) (w2F 116 111) = true
  · have e0 := e0.trans (if_neg g1)
    have v1 := bh_1 (L0 := L0) hC5 (i + 1) (i + 2) (i + 3) (by omega) (by omega) (nu := nu0) (op := op) (kd := 205) 211 0 6 (fun q => g1 ((so_w h300 (i + 1) (k := 11) (by decide) (by decide) (by decide +kernel)).mp q))
    refine ⟨_, DQ.l e0 (EQ.w2 (b := (s.b.push (.inr (15, [.int 0, .int 0, .int 0, .int 0, .int 0])) 5)) (nu := nu0) (op := op) (Or.inr ⟨_, rfl⟩) (by omega)), ?_⟩
    refine Run.ofX rfl (Nat.le_of_ble_eq_true rfl) rfl ?_
    refine AW.aload_n dX3_doing_0 rfl rfl ?_
    refine AW.get ci3 7 (by decide) q311 dX3_doing_1 (gTk hT) rfl rfl ?_
    refine AW.tableIn (off := 85) (tgt := 89) dX3_doing_4 (by decide) (by decide) rfl (by decide) ?_
    refine AW.aload_n dX3_doing_89 rfl rfl ?_
    refine AW.iconst (v := 0) dX3_doing_90 (by decide) rfl ?_
    refine AW.bipush (v := 6) dX3_doing_91 (by decide) rfl ?_
    refine AW.callV (Y := mX3_number) (n := 2) (v0) (by decide) (by decide) rfl (gTk hT) q539 q541 qs8 q142 q542 dX3_doing_93 (by decide +kernel) rfl rfl (Nat.le_of_ble_eq_true rfl) rfl ?_
    refine AW.istore_n (i := 2) dX3_doing_96 rfl rfl (Nat.le_of_ble_eq_true rfl) rfl rfl ?_
    refine AW.new ci15 dX3_doing_97 q812 q813 q171 dfX15 (tk_push hTb hb) rfl ?_
    refine AW.dup dX3_doing_100 rfl rfl ?_
    refine AW.aload_n dX3_doing_101 rfl rfl ?_
    refine AW.get ci3 7 (by decide) q311 dX3_doing_102 (gTk hT) rfl rfl ?_
    refine AW.iload_n dX3_doing_105 rfl rfl ?_
    refine AW.aload_n dX3_doing_106 rfl rfl ?_
    refine AW.sipush (v := 211) dX3_doing_107 (by decide) rfl ?_
    refine AW.iconst (v := 0) dX3_doing_110 (by decide) rfl ?_
    refine AW.bipush (v := 6) dX3_doing_111 (by decide) rfl ?_
    exact AW.callVX (Y := mX3_behind) (n := 3) (v1) (by decide) (by decide) rfl (gTk hT) q808 q810 qs22 q142 q811 dX3_doing_113 (by decide +kernel) rfl rfl (Nat.le_of_ble_eq_true rfl) q807 rfl
  have g1 := Classical.not_not.mp g1
  have e0 := e0.trans (if_pos g1)
  by_cases f1 : ¬ figF (tkL t n L0 (i + 2)) 0 6 = 0
  · have e0 := e0.trans (if_neg f1)
    obtain ⟨nx, v1⟩ := bh_2 (L0 := L0) hC5 (i + 1) (i + 2) (i + 3) (by omega) (by omega) (nu := nu0) (op := op) (kd := 205) 211 0 6 ((so_w h300 (i + 1) (k := 11) (by decide) (by decide) (by decide +kernel)).mpr g1) f1 (by decide)
    refine ⟨_, DQ.l e0 (EQ.w2 (b := (s.b.push (.inr (15, [.int 0, .int 0, .int 0, .int 0, .int 0])) 5)) (nu := nx) (op := op) (Or.inr ⟨_, rfl⟩) (by omega)), ?_⟩
    refine Run.ofX rfl (Nat.le_of_ble_eq_true rfl) rfl ?_
    refine AW.aload_n dX3_doing_0 rfl rfl ?_
    refine AW.get ci3 7 (by decide) q311 dX3_doing_1 (gTk hT) rfl rfl ?_
    refine AW.tableIn (off := 85) (tgt := 89) dX3_doing_4 (by decide) (by decide) rfl (by decide) ?_
    refine AW.aload_n dX3_doing_89 rfl rfl ?_
    refine AW.iconst (v := 0) dX3_doing_90 (by decide) rfl ?_
    refine AW.bipush (v := 6) dX3_doing_91 (by decide) rfl ?_
    refine AW.callV (Y := mX3_number) (n := 2) (v0) (by decide) (by decide) rfl (gTk hT) q539 q541 qs8 q142 q542 dX3_doing_93 (by decide +kernel) rfl rfl (Nat.le_of_ble_eq_true rfl) rfl ?_
    refine AW.istore_n (i := 2) dX3_doing_96 rfl rfl (Nat.le_of_ble_eq_true rfl) rfl rfl ?_
    refine AW.new ci15 dX3_doing_97 q812 q813 q171 dfX15 (tk_push hTb hb) rfl ?_
    refine AW.dup dX3_doing_100 rfl rfl ?_
    refine AW.aload_n dX3_doing_101 rfl rfl ?_
    refine AW.get ci3 7 (by decide) q311 dX3_doing_102 (gTk hT) rfl rfl ?_
    refine AW.iload_n dX3_doing_105 rfl rfl ?_
    refine AW.aload_n dX3_doing_106 rfl rfl ?_
    refine AW.sipush (v := 211) dX3_doing_107 (by decide) rfl ?_
    refine AW.iconst (v := 0) dX3_doing_110 (by decide) rfl ?_
    refine AW.bipush (v := 6) dX3_doing_111 (by decide) rfl ?_
    exact AW.callVX (Y := mX3_behind) (n := 3) (v1) (by decide) (by decide) rfl (gTk hT) q808 q810 qs22 q142 q811 dX3_doing_113 (by decide +kernel) rfl rfl (Nat.le_of_ble_eq_true rfl) q807 rfl
  have f1 := Classical.not_not.mp f1
  have e0 := e0.trans (if_pos f1)
  obtain ⟨nu1, hN1, v1⟩ := bh_t (L0 := L0) hC5 (i + 1) (i + 2) (i + 3) (by omega) (by omega) (nu := nu0) (op := op) (kd := 205) 211 0 6 ((so_w h300 (i + 1) (k := 11) (by decide) (by decide) (by decide +kernel)).mpr g1) f1 (by decide)
  have w3 := r_X15_init (s := (Tk (s.setb (s.b.push (.inr (15, [.int 0, .int 0, .int 0, .int 0, .int 0])) 5)) T n t (tkL t n L0 (i + 3)) nu1 op 205)) (a := (512 + s.b.n)) (by omega) ((Tk_g (by omega)).trans push_g) 205 (tkL t n L0 i).2.2.2.1 (tkL t n L0 (i + 2)).2.2.2.1 (-1) num
  have hw3 : hp ((Tk (s.setb (s.b.push (.inr (15, [.int 0, .int 0, .int 0, .int 0, .int 0])) 5)) T n t (tkL t n L0 (i + 3)) nu1 op 205).setb ((Tk (s.setb (s.b.push (.inr (15, [.int 0, .int 0, .int 0, .int 0, .int 0])) 5)) T n t (tkL t n L0 (i + 3)) nu1 op 205).b.set (512 + s.b.n) (.inr (15, [.int 205, .int (tkL t n L0 i).2.2.2.1, .int (tkL t n L0 (i + 2)).2.2.2.1, .int (-1), .int num])))) = hp (Tk (s.setb (s.b.push (.inr (15, [.int 205, .int (tkL t n L0 i).2.2.2.1, .int (tkL t n L0 (i + 2)).2.2.2.1, .int (-1), .int num])) 5)) T n t (tkL t n L0 (i + 3)) nu1 op 205) := (tk_cm (s := s.setb (s.b.push (.inr (15, [.int 0, .int 0, .int 0, .int 0, .int 0])) 5)) (by omega)).trans (congrArg (fun z => hp (Tk (s.setb z) T n t (tkL t n L0 (i + 3)) nu1 op 205)) push_set)
  refine ⟨_, DQ.r e0 ⟨by show i + 1 ≤ i + 3; omega, nu1, hN1, rfl⟩, ?_⟩
  refine Run.of rfl (Nat.le_of_ble_eq_true rfl) rfl ?_
  refine AW.aload_n dX3_doing_0 rfl rfl ?_
  refine AW.get ci3 7 (by decide) q311 dX3_doing_1 (gTk hT) rfl rfl ?_
  refine AW.tableIn (off := 85) (tgt := 89) dX3_doing_4 (by decide) (by decide) rfl (by decide) ?_
  refine AW.aload_n dX3_doing_89 rfl rfl ?_
  refine AW.iconst (v := 0) dX3_doing_90 (by decide) rfl ?_
  refine AW.bipush (v := 6) dX3_doing_91 (by decide) rfl ?_
  refine AW.callV (Y := mX3_number) (n := 2) (v0) (by decide) (by decide) rfl (gTk hT) q539 q541 qs8 q142 q542 dX3_doing_93 (by decide +kernel) rfl rfl (Nat.le_of_ble_eq_true rfl) rfl ?_
  refine AW.istore_n (i := 2) dX3_doing_96 rfl rfl (Nat.le_of_ble_eq_true rfl) rfl rfl ?_
  refine AW.new ci15 dX3_doing_97 q812 q813 q171 dfX15 (tk_push hTb hb) rfl ?_
  refine AW.dup dX3_doing_100 rfl rfl ?_
  refine AW.aload_n dX3_doing_101 rfl rfl ?_
  refine AW.get ci3 7 (by decide) q311 dX3_doing_102 (gTk hT) rfl rfl ?_
  refine AW.iload_n dX3_doing_105 rfl rfl ?_
  refine AW.aload_n dX3_doing_106 rfl rfl ?_
  refine AW.sipush (v := 211) dX3_doing_107 (by decide) rfl ?_
  refine AW.iconst (v := 0) dX3_doing_110 (by decide) rfl ?_
  refine AW.bipush (v := 6) dX3_doing_111 (by decide) rfl ?_
  refine AW.callV (Y := mX3_behind) (n := 3) (v1) (by decide) (by decide) rfl (gTk hT) q808 q810 qs22 q142 q811 dX3_doing_113 (by decide +kernel) rfl rfl (Nat.le_of_ble_eq_true rfl) rfl ?_
  refine AW.iconst (v := (-1)) dX3_doing_116 (by decide) rfl ?_
  refine AW.iload_n dX3_doing_117 rfl rfl ?_
  refine AW.callIN (Y := mX15_init) (n := 5) (w3) (by decide) (by decide) rfl q814 q815 q171 q816 dX3_doing_118 rfl (by decide +kernel) rfl rfl (Nat.le_of_ble_eq_true rfl) rfl ?_
  refine AW.hp hw3 ?_
  exact AW.aretE dX3_doing_121 rfl (Or.inl ⟨_, rfl⟩) (Or.inr ⟨_, rfl⟩) rfl rfl rfl
theorem do_6 {s : Sg} {T n : Nat} {t : Nat → Int32} {L0 : Lq} (hC : TC s T n t) (i : Nat) {nu op : Int32} (num : Int32) (hN : NuOk (tkL t n L0 i) nu) : RXO (DQ T n t L0 206 s i op num (bodyR (byteF t n) (tkL t n L0) 6 i)) 14 mX3_doing [.ref T, .int num] (hp (Tk s T n t (tkL t n L0 i) nu op 206)) := by
  have hT := hC.1
  have hTb := hC.2.1
  have h300 := hC.2.2.2.1
  have hB := hC.2.2.2.2
  have hb := hB.1
  have e0 : bodyR (byteF t n) (tkL t n L0) 6 i = fgR (tkL t n L0) i 0 6 (.inr (((tkL t n L0 i).2.2.2.1, -1, -1), i + 1)) := rfl
  have hC5 : TC (s.setb (s.b.push (.inr (15, [.int 0, .int 0, .int 0, .int 0, .int 0])) 5)) T n t := hC.ext (ExT.push (lo := (512 + s.b.n)) (Nat.le_refl _)) (by omega)
  by_cases f0 : ¬ figF (tkL t n L0 i) 0 6 = 0
  · have e0 := e0.trans (if_neg f0)
    have v0 := fg_f (L0 := L0) hC5 i (nu := nu) (op := op) (kd := 206) 0 6 hN f0 (by decide)
    refine ⟨_, DQ.l e0 (EQ.w2 (b := (s.b.push (.inr (15, [.int 0, .int 0, .int 0, .int 0, .int 0])) 5)) (nu := nu) (op := op) (Or.inr ⟨_, rfl⟩) (by omega)), ?_⟩
    refine Run.ofX rfl (Nat.le_of_ble_eq_true rfl) rfl ?_
    refine AW.aload_n dX3_doing_0 rfl rfl ?_
    refine AW.get ci3 7 (by decide) q311 dX3_doing_1 (gTk hT) rfl rfl ?_
    refine AW.tableIn (off := 173) (tgt := 177) dX3_doing_4 (by decide) (by decide) rfl (by decide) ?_
    refine AW.new ci15 dX3_doing_177 q812 q813 q171 dfX15 (tk_push hTb hb) rfl ?_
    refine AW.dup dX3_doing_180 rfl rfl ?_
    refine AW.aload_n dX3_doing_181 rfl rfl ?_
    refine AW.get ci3 7 (by decide) q311 dX3_doing_182 (gTk hT) rfl rfl ?_
    refine AW.aload_n dX3_doing_185 rfl rfl ?_
    refine AW.iconst (v := 0) dX3_doing_186 (by decide) rfl ?_
    refine AW.bipush (v := 6) dX3_doing_187 (by decide) rfl ?_
    exact AW.callVX (Y := mX3_number) (n := 2) (v0) (by decide) (by decide) rfl (gTk hT) q539 q541 qs8 q142 q542 dX3_doing_189 (by decide +kernel) rfl rfl (Nat.le_of_ble_eq_true rfl) q807 rfl
  have f0 := Classical.not_not.mp f0
  have e0 := e0.trans (if_pos f0)
  obtain ⟨nu0, hN0, v0⟩ := fg_t (L0 := L0) hC5 i (i + 1) (by omega) (nu := nu) (op := op) (kd := 206) 0 6 hN f0 (by decide)
  have w3 := r_X15_init (s := (Tk (s.setb (s.b.push (.inr (15, [.int 0, .int 0, .int 0, .int 0, .int 0])) 5)) T n t (tkL t n L0 (i + 1)) nu0 op 206)) (a := (512 + s.b.n)) (by omega) ((Tk_g (by omega)).trans push_g) 206 (tkL t n L0 i).2.2.2.1 (-1) (-1) num
  have hw3 : hp ((Tk (s.setb (s.b.push (.inr (15, [.int 0, .int 0, .int 0, .int 0, .int 0])) 5)) T n t (tkL t n L0 (i + 1)) nu0 op 206).setb ((Tk (s.setb (s.b.push (.inr (15, [.int 0, .int 0, .int 0, .int 0, .int 0])) 5)) T n t (tkL t n L0 (i + 1)) nu0 op 206).b.set (512 + s.b.n) (.inr (15, [.int 206, .int (tkL t n L0 i).2.2.2.1, .int (-1), .int (-1), .int num])))) = hp (Tk (s.setb (s.b.push (.inr (15, [.int 206, .int (tkL t n L0 i).2.2.2.1, .int (-1), .int (-1), .int num])) 5)) T n t (tkL t n L0 (i + 1)) nu0 op 206) := (tk_cm (s := s.setb (s.b.push (.inr (15, [.int 0, .int 0, .int 0, .int 0, .int 0])) 5)) (by omega)).trans (congrArg (fun z => hp (Tk (s.setb z) T n t (tkL t n L0 (i + 1)) nu0 op 206)) push_set)
  refine ⟨_, DQ.r e0 ⟨by show i + 1 ≤ i + 1; omega, nu0, hN0, rfl⟩, ?_⟩
  refine Run.of rfl (Nat.le_of_ble_eq_true rfl) rfl ?_
  refine AW.aload_n dX3_doing_0 rfl rfl ?_
  refine AW.get ci3 7 (by decide) q311 dX3_doing_1 (gTk hT) rfl rfl ?_
  refine AW.tableIn (off := 173) (tgt := 177) dX3_doing_4 (by decide) (by decide) rfl (by decide) ?_
  refine AW.new ci15 dX3_doing_177 q812 q813 q171 dfX15 (tk_push hTb hb) rfl ?_
  refine AW.dup dX3_doing_180 rfl rfl ?_
  refine AW.aload_n dX3_doing_181 rfl rfl ?_
  refine AW.get ci3 7 (by decide) q311 dX3_doing_182 (gTk hT) rfl rfl ?_
  refine AW.aload_n dX3_doing_185 rfl rfl ?_
  refine AW.iconst (v := 0) dX3_doing_186 (by decide) rfl ?_
  refine AW.bipush (v := 6) dX3_doing_187 (by decide) rfl ?_
  refine AW.callV (Y := mX3_number) (n := 2) (v0) (by decide) (by decide) rfl (gTk hT) q539 q541 qs8 q142 q542 dX3_doing_189 (by decide +kernel) rfl rfl (Nat.le_of_ble_eq_true rfl) rfl ?_
  refine AW.iconst (v := (-1)) dX3_doing_192 (by decide) rfl ?_
  refine AW.iconst (v := (-1)) dX3_doing_193 (by decide) rfl ?_
  refine AW.iload_n dX3_doing_194 rfl rfl ?_
  refine AW.callIN (Y := mX15_init) (n := 5) (w3) (by decide) (by decide) rfl q814 q815 q171 q816 dX3_doing_195 rfl (by decide +kernel) rfl rfl (Nat.le_of_ble_eq_true rfl) rfl ?_
  refine AW.hp hw3 ?_
  exact AW.aretE dX3_doing_198 rfl (Or.inl ⟨_, rfl⟩) (Or.inr ⟨_, rfl⟩) rfl rfl rfl
theorem do_7 {s : Sg} {T n : Nat} {t : Nat → Int32} {L0 : Lq} (hC : TC s T n t) (i : Nat) {nu op : Int32} (num : Int32) (hN : NuOk (tkL t n L0 i) nu) : RXO (DQ T n t L0 207 s i op num (bodyR (byteF t n) (tkL t n L0) 7 i)) 14 mX3_doing [.ref T, .int num] (hp (Tk s T n t (tkL t n L0 i) nu op 207)) := by
  have hT := hC.1
  have hTb := hC.2.1
  have h300 := hC.2.2.2.1
  have hB := hC.2.2.2.2
  have hb := hB.1
  have e0 : bodyR (byteF t n) (tkL t n L0) 7 i = fgR (tkL t n L0) i 0 19 (wdR (tkL t n L0) (i + 1) (w2F 111 102) (fgR (tkL t n L0) (i + 2) 0 6 (.inr (((tkL t n L0 i).2.2.2.1, (tkL t n L0 (i + 2)).2.2.2.1, -1), i + 3)))) := rfl
  by_cases f0 : ¬ figF (tkL t n L0 i) 0 19 = 0
  · have e0 := e0.trans (if_neg f0)
    have v0 := fg_f (L0 := L0) hC i (nu := nu) (op := op) (kd := 207) 0 19 hN f0 (by decide)
    refine ⟨_, DQ.l e0 (EQ.w2 (b := s.b) (nu := nu) (op := op) (Or.inl rfl) (by omega)), ?_⟩
    refine Run.ofX rfl (Nat.le_of_ble_eq_true rfl) rfl ?_
    refine AW.aload_n dX3_doing_0 rfl rfl ?_
    refine AW.get ci3 7 (by decide) q311 dX3_doing_1 (gTk hT) rfl rfl ?_
    refine AW.tableIn (off := 118) (tgt := 122) dX3_doing_4 (by decide) (by decide) rfl (by decide) ?_
    refine AW.aload_n dX3_doing_122 rfl rfl ?_
    refine AW.iconst (v := 0) dX3_doing_123 (by decide) rfl ?_
    refine AW.bipush (v := 19) dX3_doing_124 (by decide) rfl ?_
    exact AW.callVX (Y := mX3_number) (n := 2) (v0) (by decide) (by decide) rfl (gTk hT) q539 q541 qs8 q142 q542 dX3_doing_126 (by decide +kernel) rfl rfl (Nat.le_of_ble_eq_true rfl) q807 rfl
  have f0 := Classical.not_not.mp f0
  have e0 := e0.trans (if_pos f0)
  obtain ⟨nu0, hN0, v0⟩ := fg_t (L0 := L0) hC i (i + 1) (by omega) (nu := nu) (op := op) (kd := 207) 0 19 hN f0 (by decide)
  have hC5 : TC (s.setb (s.b.push (.inr (15, [.int 0, .int 0, .int 0, .int 0, .int 0])) 5)) T n t := hC.ext (ExT.push (lo := (512 + s.b.n)) (Nat.le_refl _)) (by omega)
  by_cases g1 : ¬ isWd (tkL t n L0 (i + 1)) (w2F 111 102) = true
  · have e0 := e0.trans (if_neg g1)
    have v1 := bh_1 (L0 := L0) hC5 (i + 1) (i + 2) (i + 3) (by omega) (by omega) (nu := nu0) (op := op) (kd := 207) 212 0 6 (fun q => g1 ((so_w h300 (i + 1) (k := 12) (by decide) (by decide) (by decide +kernel)).mp q))
    refine ⟨_, DQ.l e0 (EQ.w2 (b := (s.b.push (.inr (15, [.int 0, .int 0, .int 0, .int 0, .int 0])) 5)) (nu := nu0) (op := op) (Or.inr ⟨_, rfl⟩) (by omega)), ?_⟩
    refine Run.ofX rfl (Nat.le_of_ble_eq_true rfl) rfl ?_
    refine AW.aload_n dX3_doing_0 rfl rfl ?_
    refine AW.get ci3 7 (by decide) q311 dX3_doing_1 (gTk hT) rfl rfl ?_
    refine AW.tableIn (off := 118) (tgt := 122) dX3_doing_4 (by decide) (by decide) rfl (by decide) ?_
    refine AW.aload_n dX3_doing_122 rfl rfl ?_
    refine AW.iconst (v := 0) dX3_doing_123 (by decide) rfl ?_
    refine AW.bipush (v := 19) dX3_doing_124 (by decide) rfl ?_
    refine AW.callV (Y := mX3_number) (n := 2) (v0) (by decide) (by decide) rfl (gTk hT) q539 q541 qs8 q142 q542 dX3_doing_126 (by decide +kernel) rfl rfl (Nat.le_of_ble_eq_true rfl) rfl ?_
    refine AW.istore_n (i := 2) dX3_doing_129 rfl rfl (Nat.le_of_ble_eq_true rfl) rfl rfl ?_
    refine AW.new ci15 dX3_doing_130 q812 q813 q171 dfX15 (tk_push hTb hb) rfl ?_
    refine AW.dup dX3_doing_133 rfl rfl ?_
    refine AW.aload_n dX3_doing_134 rfl rfl ?_
    refine AW.get ci3 7 (by decide) q311 dX3_doing_135 (gTk hT) rfl rfl ?_
    refine AW.iload_n dX3_doing_138 rfl rfl ?_
    refine AW.aload_n dX3_doing_139 rfl rfl ?_
    refine AW.sipush (v := 212) dX3_doing_140 (by decide) rfl ?_
    refine AW.iconst (v := 0) dX3_doing_143 (by decide) rfl ?_
    refine AW.bipush (v := 6) dX3_doing_144 (by decide) rfl ?_
    exact AW.callVX (Y := mX3_behind) (n := 3) (v1) (by decide) (by decide) rfl (gTk hT) q808 q810 qs22 q142 q811 dX3_doing_146 (by decide +kernel) rfl rfl (Nat.le_of_ble_eq_true rfl) q807 rfl
  have g1 := Classical.not_not.mp g1
  have e0 := e0.trans (if_pos g1)
  by_cases f1 : ¬ figF (tkL t n L0 (i + 2)) 0 6 = 0
  · have e0 := e0.trans (if_neg f1)
    obtain ⟨nx, v1⟩ := bh_2 (L0 := L0) hC5 (i + 1) (i + 2) (i + 3) (by omega) (by omega) (nu := nu0) (op := op) (kd := 207) 212 0 6 ((so_w h300 (i + 1) (k := 12) (by decide) (by decide) (by decide +kernel)).mpr g1) f1 (by decide)
    refine ⟨_, DQ.l e0 (EQ.w2 (b := (s.b.push (.inr (15, [.int 0, .int 0, .int 0, .int 0, .int 0])) 5)) (nu := nx) (op := op) (Or.inr ⟨_, rfl⟩) (by omega)), ?_⟩
    refine Run.ofX rfl (Nat.le_of_ble_eq_true rfl) rfl ?_
    refine AW.aload_n dX3_doing_0 rfl rfl ?_
    refine AW.get ci3 7 (by decide) q311 dX3_doing_1 (gTk hT) rfl rfl ?_
    refine AW.tableIn (off := 118) (tgt := 122) dX3_doing_4 (by decide) (by decide) rfl (by decide) ?_
    refine AW.aload_n dX3_doing_122 rfl rfl ?_
    refine AW.iconst (v := 0) dX3_doing_123 (by decide) rfl ?_
    refine AW.bipush (v := 19) dX3_doing_124 (by decide) rfl ?_
    refine AW.callV (Y := mX3_number) (n := 2) (v0) (by decide) (by decide) rfl (gTk hT) q539 q541 qs8 q142 q542 dX3_doing_126 (by decide +kernel) rfl rfl (Nat.le_of_ble_eq_true rfl) rfl ?_
    refine AW.istore_n (i := 2) dX3_doing_129 rfl rfl (Nat.le_of_ble_eq_true rfl) rfl rfl ?_
    refine AW.new ci15 dX3_doing_130 q812 q813 q171 dfX15 (tk_push hTb hb) rfl ?_
    refine AW.dup dX3_doing_133 rfl rfl ?_
    refine AW.aload_n dX3_doing_134 rfl rfl ?_
    refine AW.get ci3 7 (by decide) q311 dX3_doing_135 (gTk hT) rfl rfl ?_
    refine AW.iload_n dX3_doing_138 rfl rfl ?_
    refine AW.aload_n dX3_doing_139 rfl rfl ?_
    refine AW.sipush (v := 212) dX3_doing_140 (by decide) rfl ?_
    refine AW.iconst (v := 0) dX3_doing_143 (by decide) rfl ?_
    refine AW.bipush (v := 6) dX3_doing_144 (by decide) rfl ?_
    exact AW.callVX (Y := mX3_behind) (n := 3) (v1) (by decide) (by decide) rfl (gTk hT) q808 q810 qs22 q142 q811 dX3_doing_146 (by decide +kernel) rfl rfl (Nat.le_of_ble_eq_true rfl) q807 rfl
  have f1 := Classical.not_not.mp f1
  have e0 := e0.trans (if_pos f1)
  obtain ⟨nu1, hN1, v1⟩ := bh_t (L0 := L0) hC5 (i + 1) (i + 2) (i + 3) (by omega) (by omega) (nu := nu0) (op := op) (kd := 207) 212 0 6 ((so_w h300 (i + 1) (k := 12) (by decide) (by decide) (by decide +kernel)).mpr g1) f1 (by decide)
  have w3 := r_X15_init (s := (Tk (s.setb (s.b.push (.inr (15, [.int 0, .int 0, .int 0, .int 0, .int 0])) 5)) T n t (tkL t n L0 (i + 3)) nu1 op 207)) (a := (512 + s.b.n)) (by omega) ((Tk_g (by omega)).trans push_g) 207 (tkL t n L0 i).2.2.2.1 (tkL t n L0 (i + 2)).2.2.2.1 (-1) num
  have hw3 : hp ((Tk (s.setb (s.b.push (.inr (15, [.int 0, .int 0, .int 0, .int 0, .int 0])) 5)) T n t (tkL t n L0 (i + 3)) nu1 op 207).setb ((Tk (s.setb (s.b.push (.inr (15, [.int 0, .int 0, .int 0, .int 0, .int 0])) 5)) T n t (tkL t n L0 (i + 3)) nu1 op 207).b.set (512 + s.b.n) (.inr (15, [.int 207, .int (tkL t n L0 i).2.2.2.1, .int (tkL t n L0 (i + 2)).2.2.2.1, .int (-1), .int num])))) = hp (Tk (s.setb (s.b.push (.inr (15, [.int 207, .int (tkL t n L0 i).2.2.2.1, .int (tkL t n L0 (i + 2)).2.2.2.1, .int (-1), .int num])) 5)) T n t (tkL t n L0 (i + 3)) nu1 op 207) := (tk_cm (s := s.setb (s.b.push (.inr (15, [.int 0, .int 0, .int 0, .int 0, .int 0])) 5)) (by omega)).trans (congrArg (fun z => hp (Tk (s.setb z) T n t (tkL t n L0 (i + 3)) nu1 op 207)) push_set)
  refine ⟨_, DQ.r e0 ⟨by show i + 1 ≤ i + 3; omega, nu1, hN1, rfl⟩, ?_⟩
  refine Run.of rfl (Nat.le_of_ble_eq_true rfl) rfl ?_
  refine AW.aload_n dX3_doing_0 rfl rfl ?_
  refine AW.get ci3 7 (by decide) q311 dX3_doing_1 (gTk hT) rfl rfl ?_
  refine AW.tableIn (off := 118) (tgt := 122) dX3_doing_4 (by decide) (by decide) rfl (by decide) ?_
  refine AW.aload_n dX3_doing_122 rfl rfl ?_
  refine AW.iconst (v := 0) dX3_doing_123 (by decide) rfl ?_
  refine AW.bipush (v := 19) dX3_doing_124 (by decide) rfl ?_
  refine AW.callV (Y := mX3_number) (n := 2) (v0) (by decide) (by decide) rfl (gTk hT) q539 q541 qs8 q142 q542 dX3_doing_126 (by decide +kernel) rfl rfl (Nat.le_of_ble_eq_true rfl) rfl ?_
  refine AW.istore_n (i := 2) dX3_doing_129 rfl rfl (Nat.le_of_ble_eq_true rfl) rfl rfl ?_
  refine AW.new ci15 dX3_doing_130 q812 q813 q171 dfX15 (tk_push hTb hb) rfl ?_
  refine AW.dup dX3_doing_133 rfl rfl ?_
  refine AW.aload_n dX3_doing_134 rfl rfl ?_
  refine AW.get ci3 7 (by decide) q311 dX3_doing_135 (gTk hT) rfl rfl ?_
  refine AW.iload_n dX3_doing_138 rfl rfl ?_
  refine AW.aload_n dX3_doing_139 rfl rfl ?_
  refine AW.sipush (v := 212) dX3_doing_140 (by decide) rfl ?_
  refine AW.iconst (v := 0) dX3_doing_143 (by decide) rfl ?_
  refine AW.bipush (v := 6) dX3_doing_144 (by decide) rfl ?_
  refine AW.callV (Y := mX3_behind) (n := 3) (v1) (by decide) (by decide) rfl (gTk hT) q808 q810 qs22 q142 q811 dX3_doing_146 (by decide +kernel) rfl rfl (Nat.le_of_ble_eq_true rfl) rfl ?_
  refine AW.iconst (v := (-1)) dX3_doing_149 (by decide) rfl ?_
  refine AW.iload_n dX3_doing_150 rfl rfl ?_
  refine AW.callIN (Y := mX15_init) (n := 5) (w3) (by decide) (by decide) rfl q814 q815 q171 q816 dX3_doing_151 rfl (by decide +kernel) rfl rfl (Nat.le_of_ble_eq_true rfl) rfl ?_
  refine AW.hp hw3 ?_
  exact AW.aretE dX3_doing_154 rfl (Or.inl ⟨_, rfl⟩) (Or.inr ⟨_, rfl⟩) rfl rfl rfl
theorem do_8 {s : Sg} {T n : Nat} {t : Nat → Int32} {L0 : Lq} (hC : TC s T n t) (i : Nat) {nu op : Int32} (num : Int32) (hN : NuOk (tkL t n L0 i) nu) : RXO (DQ T n t L0 208 s i op num (bodyR (byteF t n) (tkL t n L0) 8 i)) 14 mX3_doing [.ref T, .int num] (hp (Tk s T n t (tkL t n L0 i) nu op 208)) := by
  have hT := hC.1
  have hTb := hC.2.1
  have h300 := hC.2.2.2.1
  have hB := hC.2.2.2.2
  have hb := hB.1
  have e0 : bodyR (byteF t n) (tkL t n L0) 8 i = fgR (tkL t n L0) i 1 60 (.inr (((tkL t n L0 i).2.2.2.1, -1, -1), i + 1)) := rfl
  have hC5 : TC (s.setb (s.b.push (.inr (15, [.int 0, .int 0, .int 0, .int 0, .int 0])) 5)) T n t := hC.ext (ExT.push (lo := (512 + s.b.n)) (Nat.le_refl _)) (by omega)
  by_cases f0 : ¬ figF (tkL t n L0 i) 1 60 = 0
  · have e0 := e0.trans (if_neg f0)
    have v0 := fg_f (L0 := L0) hC5 i (nu := nu) (op := op) (kd := 208) 1 60 hN f0 (by decide)
    refine ⟨_, DQ.l e0 (EQ.w2 (b := (s.b.push (.inr (15, [.int 0, .int 0, .int 0, .int 0, .int 0])) 5)) (nu := nu) (op := op) (Or.inr ⟨_, rfl⟩) (by omega)), ?_⟩
    refine Run.ofX rfl (Nat.le_of_ble_eq_true rfl) rfl ?_
    refine AW.aload_n dX3_doing_0 rfl rfl ?_
    refine AW.get ci3 7 (by decide) q311 dX3_doing_1 (gTk hT) rfl rfl ?_
    refine AW.tableIn (off := 151) (tgt := 155) dX3_doing_4 (by decide) (by decide) rfl (by decide) ?_
    refine AW.new ci15 dX3_doing_155 q812 q813 q171 dfX15 (tk_push hTb hb) rfl ?_
    refine AW.dup dX3_doing_158 rfl rfl ?_
    refine AW.aload_n dX3_doing_159 rfl rfl ?_
    refine AW.get ci3 7 (by decide) q311 dX3_doing_160 (gTk hT) rfl rfl ?_
    refine AW.aload_n dX3_doing_163 rfl rfl ?_
    refine AW.iconst (v := 1) dX3_doing_164 (by decide) rfl ?_
    refine AW.bipush (v := 60) dX3_doing_165 (by decide) rfl ?_
    exact AW.callVX (Y := mX3_number) (n := 2) (v0) (by decide) (by decide) rfl (gTk hT) q539 q541 qs8 q142 q542 dX3_doing_167 (by decide +kernel) rfl rfl (Nat.le_of_ble_eq_true rfl) q807 rfl
  have f0 := Classical.not_not.mp f0
  have e0 := e0.trans (if_pos f0)
  obtain ⟨nu0, hN0, v0⟩ := fg_t (L0 := L0) hC5 i (i + 1) (by omega) (nu := nu) (op := op) (kd := 208) 1 60 hN f0 (by decide)
  have w3 := r_X15_init (s := (Tk (s.setb (s.b.push (.inr (15, [.int 0, .int 0, .int 0, .int 0, .int 0])) 5)) T n t (tkL t n L0 (i + 1)) nu0 op 208)) (a := (512 + s.b.n)) (by omega) ((Tk_g (by omega)).trans push_g) 208 (tkL t n L0 i).2.2.2.1 (-1) (-1) num
  have hw3 : hp ((Tk (s.setb (s.b.push (.inr (15, [.int 0, .int 0, .int 0, .int 0, .int 0])) 5)) T n t (tkL t n L0 (i + 1)) nu0 op 208).setb ((Tk (s.setb (s.b.push (.inr (15, [.int 0, .int 0, .int 0, .int 0, .int 0])) 5)) T n t (tkL t n L0 (i + 1)) nu0 op 208).b.set (512 + s.b.n) (.inr (15, [.int 208, .int (tkL t n L0 i).2.2.2.1, .int (-1), .int (-1), .int num])))) = hp (Tk (s.setb (s.b.push (.inr (15, [.int 208, .int (tkL t n L0 i).2.2.2.1, .int (-1), .int (-1), .int num])) 5)) T n t (tkL t n L0 (i + 1)) nu0 op 208) := (tk_cm (s := s.setb (s.b.push (.inr (15, [.int 0, .int 0, .int 0, .int 0, .int 0])) 5)) (by omega)).trans (congrArg (fun z => hp (Tk (s.setb z) T n t (tkL t n L0 (i + 1)) nu0 op 208)) push_set)
  refine ⟨_, DQ.r e0 ⟨by show i + 1 ≤ i + 1; omega, nu0, hN0, rfl⟩, ?_⟩
  refine Run.of rfl (Nat.le_of_ble_eq_true rfl) rfl ?_
  refine AW.aload_n dX3_doing_0 rfl rfl ?_
  refine AW.get ci3 7 (by decide) q311 dX3_doing_1 (gTk hT) rfl rfl ?_
  refine AW.tableIn (off := 151) (tgt := 155) dX3_doing_4 (by decide) (by decide) rfl (by decide) ?_
  refine AW.new ci15 dX3_doing_155 q812 q813 q171 dfX15 (tk_push hTb hb) rfl ?_
  refine AW.dup dX3_doing_158 rfl rfl ?_
  refine AW.aload_n dX3_doing_159 rfl rfl ?_
  refine AW.get ci3 7 (by decide) q311 dX3_doing_160 (gTk hT) rfl rfl ?_
  refine AW.aload_n dX3_doing_163 rfl rfl ?_
  refine AW.iconst (v := 1) dX3_doing_164 (by decide) rfl ?_
  refine AW.bipush (v := 60) dX3_doing_165 (by decide) rfl ?_
  refine AW.callV (Y := mX3_number) (n := 2) (v0) (by decide) (by decide) rfl (gTk hT) q539 q541 qs8 q142 q542 dX3_doing_167 (by decide +kernel) rfl rfl (Nat.le_of_ble_eq_true rfl) rfl ?_
  refine AW.iconst (v := (-1)) dX3_doing_170 (by decide) rfl ?_
  refine AW.iconst (v := (-1)) dX3_doing_171 (by decide) rfl ?_
  refine AW.iload_n dX3_doing_172 rfl rfl ?_
  refine AW.callIN (Y := mX15_init) (n := 5) (w3) (by decide) (by decide) rfl q814 q815 q171 q816 dX3_doing_173 rfl (by decide +kernel) rfl rfl (Nat.le_of_ble_eq_true rfl) rfl ?_
  refine AW.hp hw3 ?_
  exact AW.aretE dX3_doing_176 rfl (Or.inl ⟨_, rfl⟩) (Or.inr ⟨_, rfl⟩) rfl rfl rfl
