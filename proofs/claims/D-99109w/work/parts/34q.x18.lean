/-! SYSTEM 18: tokens: one after the other (printed by tools/x18.py) -/
set_option maxRecDepth 100000
/-- a byte with its sign -/
def sxI (c : Int32) : Int32 := if c < 128 then c else c - 256
/-- the system's tape holds what the model's tape holds -/
def TpR (s : Sg) (t : Nat → Int32) (n : Nat) : Prop := ∀ k, k < n → 0 ≤ (t k).toInt ∧ (t k).toInt < 256 ∧ s.A 619 k = sxI (t k)
theorem c128 : (128 : Int32).toInt = 128 := rfl
theorem c256 : (256 : Int32).toInt = 256 := rfl
theorem sx_lo {c : Int32} (h : c < 128) : sxI c = c := if_pos h
theorem sx_hi {c : Int32} (h : ¬ c < 128) (h2 : c.toInt < 256) : (sxI c).toInt = c.toInt - 256 := by
  rw [show sxI c = c - 256 from if_neg h]
  rw [Int32.lt_iff_toInt_lt, c128] at h
  rw [subI] <;> rw [c256] <;> omega
theorem sx_eq {c l : Int32} (h0 : 0 ≤ c.toInt) (h2 : c.toInt < 256) (hl : 0 ≤ l.toInt) (hl2 : l.toInt < 128) : sxI c = l ↔ c = l := by
  by_cases h : c < 128
  · rw [sx_lo h]
  · have e := sx_hi h h2
    rw [Int32.lt_iff_toInt_lt, c128] at h
    constructor
    · intro q
      rw [q] at e
      omega
    · intro q
      rw [q] at h
      omega
theorem sx_range {c lo hi : Int32} (h0 : 0 ≤ c.toInt) (h2 : c.toInt < 256) (hl : 0 ≤ lo.toInt) (hl2 : hi.toInt < 128) : (decide (lo ≤ sxI c) && decide (sxI c ≤ hi)) = (decide (lo ≤ c) && decide (c ≤ hi)) := by
  by_cases h : c < 128
  · rw [sx_lo h]
  · have e := sx_hi h h2
    rw [Int32.lt_iff_toInt_lt, c128] at h
    have a : ¬ lo ≤ sxI c := by rw [Int32.le_iff_toInt_le]; omega
    have b : ¬ c ≤ hi := by rw [Int32.le_iff_toInt_le]; omega
    rw [decide_eq_false a, decide_eq_false b, Bool.false_and, Bool.and_false]
theorem sx_fig {c : Int32} (h0 : 0 ≤ c.toInt) (h2 : c.toInt < 256) : isFig (sxI c) = isFig c := sx_range h0 h2 (by decide) (by decide)
theorem sx_let {c : Int32} (h0 : 0 ≤ c.toInt) (h2 : c.toInt < 256) : isLet (sxI c) = isLet c := by
  unfold isLet
  rw [sx_range h0 h2 (by decide) (by decide), sx_range h0 h2 (by decide) (by decide)]
theorem let_lo {c : Int32} (h : isLet c = true) : c < 128 := by
  have := let_b h
  rw [Int32.lt_iff_toInt_lt, c128, this.2.2, nI_t (by omega)]
  omega
theorem fig_lo {c : Int32} (h : isFig c = true) : c < 128 := by
  unfold isFig at h
  simp only [Bool.and_eq_true, decide_eq_true_eq] at h
  have h1 := Int32.le_iff_toInt_le.mp h.2
  have h2 : (57 : Int32).toInt = 57 := rfl
  rw [Int32.lt_iff_toInt_lt, c128]
  omega
section TPR
variable {s : Sg} {t : Nat → Int32} {n k : Nat} (hR : TpR s t n) (hk : k < n)
theorem TpR.B : byteF t n k = t k ∨ ¬ k < n := by
  by_cases h : k < n
  · exact Or.inl (if_pos h)
  · exact Or.inr h
theorem TpR.eq (hR : TpR s t n) (hk : k < n) {l : Int32} (hl : 0 ≤ l.toInt) (hl2 : l.toInt < 128) : s.A 619 k = l ↔ byteF t n k = l := by
  obtain ⟨h1, h2, h3⟩ := hR k hk
  rw [h3, byteF_k hk]
  exact sx_eq h1 h2 hl hl2
theorem TpR.fig (hR : TpR s t n) (hk : k < n) : isFig (s.A 619 k) = isFig (byteF t n k) := by
  obtain ⟨h1, h2, h3⟩ := hR k hk
  rw [h3, byteF_k hk]
  exact sx_fig h1 h2
theorem TpR.let_ (hR : TpR s t n) (hk : k < n) : isLet (s.A 619 k) = isLet (byteF t n k) := by
  obtain ⟨h1, h2, h3⟩ := hR k hk
  rw [h3, byteF_k hk]
  exact sx_let h1 h2
theorem TpR.lo (hR : TpR s t n) (hk : k < n) (h : byteF t n k < 128) : s.A 619 k = byteF t n k := by
  obtain ⟨h1, h2, h3⟩ := hR k hk
  rw [h3, byteF_k hk]
  rw [byteF_k hk] at h
  exact sx_lo h
theorem TpR.ws (hR : TpR s t n) (hk : k < n) : (s.A 619 k = 32 ∨ s.A 619 k = 10) ↔ isWs (byteF t n k) = true := by
  rw [hR.eq hk (by decide) (by decide), hR.eq hk (by decide) (by decide)]
  simp [isWs]
end TPR
/-- the reader's object -/
def tkF (n : Nat) (at_ tk so nu op kd : Int32) : List Value := [.ref 619, .int (nI n), .int at_, .int tk, .int so, .int nu, .int op, .int kd]
def tkS (s : Sg) (T n : Nat) (at_ tk so nu op kd : Int32) : Sg := s.setb (s.b.set T (.inr (3, tkF n at_ tk so nu op kd)))
section TKF
variable {s : Sg} {T n : Nat} {at_ tk so nu op kd x : Int32}
theorem gTk (hT : 640 ≤ T) : (hp (tkS s T n at_ tk so nu op kd)).g T = some (.inr (3, tkF n at_ tk so nu op kd)) := (hp_gb (nfx hT)).trans set_g
theorem sTk (hT : 640 ≤ T) {fs : List Value} : (hp (tkS s T n at_ tk so nu op kd)).set T (.inr (3, fs)) = hp (s.setb (s.b.set T (.inr (3, fs)))) := (hp_set6 hT).trans (congrArg (fun z => hp (s.setb z)) set_set)
theorem sTk2 (hT : 640 ≤ T) : (hp (tkS s T n at_ tk so nu op kd)).set T (.inr (3, (tkF n at_ tk so nu op kd).set 2 (.int x))) = hp (tkS s T n x tk so nu op kd) := sTk hT
theorem sTk3 (hT : 640 ≤ T) : (hp (tkS s T n at_ tk so nu op kd)).set T (.inr (3, (tkF n at_ tk so nu op kd).set 3 (.int x))) = hp (tkS s T n at_ x so nu op kd) := sTk hT
theorem sTk4 (hT : 640 ≤ T) : (hp (tkS s T n at_ tk so nu op kd)).set T (.inr (3, (tkF n at_ tk so nu op kd).set 4 (.int x))) = hp (tkS s T n at_ tk x nu op kd) := sTk hT
theorem sTk5 (hT : 640 ≤ T) : (hp (tkS s T n at_ tk so nu op kd)).set T (.inr (3, (tkF n at_ tk so nu op kd).set 5 (.int x))) = hp (tkS s T n at_ tk so x op kd) := sTk hT
theorem sTk6 (hT : 640 ≤ T) : (hp (tkS s T n at_ tk so nu op kd)).set T (.inr (3, (tkF n at_ tk so nu op kd).set 6 (.int x))) = hp (tkS s T n at_ tk so nu x kd) := sTk hT
theorem sTk7 (hT : 640 ≤ T) : (hp (tkS s T n at_ tk so nu op kd)).set T (.inr (3, (tkF n at_ tk so nu op kd).set 7 (.int x))) = hp (tkS s T n at_ tk so nu op x) := sTk hT
end TKF
theorem r_X3_isLetter {h : AH} (c : Int32) : Run 1 mX3_isLetter [.int c] h (.inl (some (.int (b2i (isLet c))))) h := by
  refine Run.of rfl (Nat.le_of_ble_eq_true rfl) rfl ?_
  refine AW.iload_n dX3_isLetter_0 rfl rfl ?_
  refine AW.bipush (v := 97) dX3_isLetter_1 (by decide) rfl ?_
  refine AW.icmp_lt (tgt := 12) dX3_isLetter_3 (by decide) rfl (fun c1 => ?_) (fun c1 => ?_)
  · refine AW.iload_n dX3_isLetter_12 rfl rfl ?_
    refine AW.bipush (v := 65) dX3_isLetter_13 (by decide) rfl ?_
    refine AW.icmp_lt (tgt := 28) dX3_isLetter_15 (by decide) rfl (fun c2 => ?_) (fun c2 => ?_)
    · refine AW.iconst (v := 0) dX3_isLetter_28 (by decide) rfl ?_
      exact AW.bretE dX3_isLetter_29 rfl rfl (by simp_all [isLet, b2i, Int32.lt_iff_toInt_lt, Int32.le_iff_toInt_le]; try (intros; omega)) rfl
    · refine AW.iload_n dX3_isLetter_18 rfl rfl ?_
      refine AW.bipush (v := 90) dX3_isLetter_19 (by decide) rfl ?_
      refine AW.icmp_gt (tgt := 28) dX3_isLetter_21 (by decide) rfl (fun c3 => ?_) (fun c3 => ?_)
      · refine AW.iconst (v := 0) dX3_isLetter_28 (by decide) rfl ?_
        exact AW.bretE dX3_isLetter_29 rfl rfl (by simp_all [isLet, b2i, Int32.lt_iff_toInt_lt, Int32.le_iff_toInt_le]; try (intros; omega)) rfl
      · refine AW.iconst (v := 1) dX3_isLetter_24 (by decide) rfl ?_
        refine AW.goto (tgt := 29) dX3_isLetter_25 (by decide) ?_
        exact AW.bretE dX3_isLetter_29 rfl rfl (by simp_all [isLet, b2i, Int32.lt_iff_toInt_lt, Int32.le_iff_toInt_le]; try (intros; omega)) rfl
  · refine AW.iload_n dX3_isLetter_6 rfl rfl ?_
    refine AW.bipush (v := 122) dX3_isLetter_7 (by decide) rfl ?_
    refine AW.icmp_le (tgt := 24) dX3_isLetter_9 (by decide) rfl (fun c4 => ?_) (fun c4 => ?_)
    · refine AW.iconst (v := 1) dX3_isLetter_24 (by decide) rfl ?_
      refine AW.goto (tgt := 29) dX3_isLetter_25 (by decide) ?_
      exact AW.bretE dX3_isLetter_29 rfl rfl (by simp_all [isLet, b2i, Int32.lt_iff_toInt_lt, Int32.le_iff_toInt_le]; try (intros; omega)) rfl
    · refine AW.iload_n dX3_isLetter_12 rfl rfl ?_
      refine AW.bipush (v := 65) dX3_isLetter_13 (by decide) rfl ?_
      refine AW.icmp_lt (tgt := 28) dX3_isLetter_15 (by decide) rfl (fun c5 => ?_) (fun c5 => ?_)
      · refine AW.iconst (v := 0) dX3_isLetter_28 (by decide) rfl ?_
        exact AW.bretE dX3_isLetter_29 rfl rfl (by simp_all [isLet, b2i, Int32.lt_iff_toInt_lt, Int32.le_iff_toInt_le]; try (intros; omega)) rfl
      · refine AW.iload_n dX3_isLetter_18 rfl rfl ?_
        refine AW.bipush (v := 90) dX3_isLetter_19 (by decide) rfl ?_
        refine AW.icmp_gt (tgt := 28) dX3_isLetter_21 (by decide) rfl (fun c6 => ?_) (fun c6 => ?_)
        · refine AW.iconst (v := 0) dX3_isLetter_28 (by decide) rfl ?_
          exact AW.bretE dX3_isLetter_29 rfl rfl (by simp_all [isLet, b2i, Int32.lt_iff_toInt_lt, Int32.le_iff_toInt_le]; try (intros; omega)) rfl
        · refine AW.iconst (v := 1) dX3_isLetter_24 (by decide) rfl ?_
          refine AW.goto (tgt := 29) dX3_isLetter_25 (by decide) ?_
          exact AW.bretE dX3_isLetter_29 rfl rfl (by simp_all [isLet, b2i, Int32.lt_iff_toInt_lt, Int32.le_iff_toInt_le]; try (intros; omega)) rfl
theorem r_X3_isDigit {h : AH} (c : Int32) : Run 1 mX3_isDigit [.int c] h (.inl (some (.int (b2i (isFig c))))) h := by
  refine Run.of rfl (Nat.le_of_ble_eq_true rfl) rfl ?_
  refine AW.iload_n dX3_isDigit_0 rfl rfl ?_
  refine AW.bipush (v := 48) dX3_isDigit_1 (by decide) rfl ?_
  refine AW.icmp_lt (tgt := 16) dX3_isDigit_3 (by decide) rfl (fun c1 => ?_) (fun c1 => ?_)
  · refine AW.iconst (v := 0) dX3_isDigit_16 (by decide) rfl ?_
    exact AW.bretE dX3_isDigit_17 rfl rfl (by simp_all [isFig, b2i, Int32.lt_iff_toInt_lt, Int32.le_iff_toInt_le]; try (intros; omega)) rfl
  · refine AW.iload_n dX3_isDigit_6 rfl rfl ?_
    refine AW.bipush (v := 57) dX3_isDigit_7 (by decide) rfl ?_
    refine AW.icmp_gt (tgt := 16) dX3_isDigit_9 (by decide) rfl (fun c2 => ?_) (fun c2 => ?_)
    · refine AW.iconst (v := 0) dX3_isDigit_16 (by decide) rfl ?_
      exact AW.bretE dX3_isDigit_17 rfl rfl (by simp_all [isFig, b2i, Int32.lt_iff_toInt_lt, Int32.le_iff_toInt_le]; try (intros; omega)) rfl
    · refine AW.iconst (v := 1) dX3_isDigit_12 (by decide) rfl ?_
      refine AW.goto (tgt := 17) dX3_isDigit_13 (by decide) ?_
      exact AW.bretE dX3_isDigit_17 rfl rfl (by simp_all [isFig, b2i, Int32.lt_iff_toInt_lt, Int32.le_iff_toInt_le]; try (intros; omega)) rfl
/-- whether the word w stands from p to q -/
def matchW (t : Nat → Int32) (p q : Nat) (w : List Nat) : Bool := decide (q - p = w.length) && allUp (fun k => decide (t (p + k) = nI (w.getD k 0))) w.length
theorem allUp_f {p : Nat → Bool} {k : Nat} (h : p k = false) : ∀ n, k < n → allUp p n = false
  | 0, hk => absurd hk (Nat.not_lt_zero k)
  | n + 1, hk => by
    show (allUp p n && p n) = false
    by_cases e : k = n
    · subst e; rw [h, Bool.and_false]
    · rw [allUp_f h n (by omega), Bool.false_and]
theorem wd_ok : ∀ i, i < 23 → (wdL i).length < 20 ∧ ∀ k, k < 20 → (wdL i).getD k 0 < 128 := by decide +kernel
theorem nI_sub2 {p q : Nat} (h : p ≤ q) : nI q - nI p = nI (q - p) := nI_subN h
/-- a word of the tape: its sort; none -/
def sortW (t : Nat → Int32) (p q : Nat) : Nat → Int32
  | 0 => 302
  | k + 1 => if matchW t p q (wdL k) = true then nI (200 + k) else sortW t p q k
def sortS (t : Nat → Int32) (L : Lq) : Int32 := if L.2.2.1 = 0 then 301 else if L.2.2.1 = 1 then 300 else if L.2.2.1 = 2 then sortW t (cI L.2.1) (cI L.1) 22 else if L.2.2.1 = 4 then 303 else if L.2.2.1 = 5 then 304 else if L.2.2.1 = 3 ∨ L.2.2.1 = 58 then 302 else L.2.2.1
theorem if_neg_fx {i : Nat} (h : i < 23) : isFx (130 + i) = false := by
  unfold isFx
  rw [decide_eq_false (by omega : ¬ 512 ≤ 130 + i), Bool.false_and]
theorem r_X3_isWord {s : Sg} {T n : Nat} (hT : 640 ≤ T) (h300 : n ≤ 300) {so nu op kd : Int32} {p q : Nat} (hpq : p ≤ q) (hq : q ≤ n) {i : Nat} (hi : i < 23) (gb : ∀ i, i < 23 → s.b.g (130 + i) = some (.inl (10 + i, (wdL i).length, fun j => .int (nI ((wdL i).getD j 0))))) : Run 5 mX3_isWord [.ref T, .ref (100 + i)] (hp (tkS s T n (nI q) (nI p) (so) (nu) (op) (kd))) (.inl (some (.int (b2i (matchW (s.A 619) p q (wdL i)))))) (hp (tkS s T n (nI q) (nI p) (so) (nu) (op) (kd))) := by
  obtain ⟨wl, wc⟩ := wd_ok i hi
  have gB : (hp (tkS s T n (nI q) (nI p) (so) (nu) (op) (kd))).g (130 + i) = some (.inl (10 + i, (wdL i).length, fun j => .int (nI ((wdL i).getD j 0)))) := ((hp_gb (if_neg_fx hi)).trans ((set_go (by omega)).trans (gb i hi)))
  refine Run.of rfl (Nat.le_of_ble_eq_true rfl) rfl ?_
  refine AW.aload_n dX3_isWord_0 rfl rfl ?_
  refine AW.get ci3 2 (by decide) q306 dX3_isWord_1 (gTk hT) rfl rfl ?_
  refine AW.aload_n dX3_isWord_4 rfl rfl ?_
  refine AW.get ci3 3 (by decide) q307 dX3_isWord_5 (gTk hT) rfl rfl ?_
  refine AW.isub dX3_isWord_8 rfl ?_
  refine AW.st (st' := [.int (nI (q - p))]) (by rw [nI_sub2 hpq]) ?_
  refine AW.aload_n dX3_isWord_9 rfl rfl ?_
  refine AW.callT (Y := mJ3_length) (n := 0) hi rfl (r_J3_length hi gB (by omega)) (by decide) (by decide) rfl q399 q400 q401 q147 q402 dX3_isWord_10 (by decide +kernel) rfl rfl (Nat.le_of_ble_eq_true rfl) rfl ?_
  refine AW.icmp_eq (tgt := 18) dX3_isWord_13 (by decide) rfl (fun c13 => ?_) (fun c13 => ?_)
  · refine AW.iconst (v := 0) dX3_isWord_18 (by decide) rfl ?_
    refine AW.istore_n (i := 2) dX3_isWord_19 rfl rfl (Nat.le_of_ble_eq_true rfl) rfl rfl ?_
    have c13b : q - p = (wdL i).length := Classical.byContradiction fun z => nI_ne (by omega) (by omega) z c13
    unfold matchW
    rw [dec_t c13b, Bool.true_and]
    refine loopUp (P := fun k => allUp (fun k => decide (s.A 619 (p + k) = nI ((wdL i).getD k 0))) k = true → AW 5 mX3_isWord (hp (tkS s T n (nI q) (nI p) (so) (nu) (op) (kd))) 20 [some (.ref T), some (.ref (100 + i)), some (.int (nI k))] [] (.inl (some (.int (b2i (allUp (fun k => decide (s.A 619 (p + k) = nI ((wdL i).getD k 0))) (wdL i).length))))) (hp (tkS s T n (nI q) (nI p) (so) (nu) (op) (kd)))) (wdL i).length ?_ ?_ 0 (by first | exact Nat.zero_le _ | omega) rfl
    · intro ha
      refine AW.iload_n dX3_isWord_20 rfl rfl ?_
      refine AW.aload_n dX3_isWord_21 rfl rfl ?_
      refine AW.callT (Y := mJ3_length) (n := 0) hi rfl (r_J3_length hi gB (by omega)) (by decide) (by decide) rfl q399 q400 q401 q147 q402 dX3_isWord_22 (by decide +kernel) rfl rfl (Nat.le_of_ble_eq_true rfl) rfl ?_
      refine AW.icmp_ge (tgt := 55) dX3_isWord_25 (by decide) rfl (fun _ => ?_) (fun c_ => by first | exact absurd c_ (Int32.le_refl _) | exact absurd (Int32.le_refl _) c_ | exact absurd c_ (not_not_intro (Int32.le_refl _)) | exact Bool.noConfusion (c_.symm.trans (Int32.le_refl _)))
      refine AW.iconst (v := 1) dX3_isWord_55 (by decide) rfl ?_
      exact AW.bretE dX3_isWord_56 rfl rfl (by rw [ha]; rfl) rfl
    · intro k hk ihk
      intro ha
      refine AW.iload_n dX3_isWord_20 rfl rfl ?_
      refine AW.aload_n dX3_isWord_21 rfl rfl ?_
      refine AW.callT (Y := mJ3_length) (n := 0) hi rfl (r_J3_length hi gB (by omega)) (by decide) (by decide) rfl q399 q400 q401 q147 q402 dX3_isWord_22 (by decide +kernel) rfl rfl (Nat.le_of_ble_eq_true rfl) rfl ?_
      refine AW.icmp_ge (tgt := 55) dX3_isWord_25 (by decide) rfl (fun c_ => by first | exact absurd c_ (by rw [Int32.le_iff_toInt_le, nI_t (by omega), nI_t (by omega)]; omega) | exact absurd (by rw [Int32.le_iff_toInt_le, nI_t (by omega), nI_t (by omega)]; omega) c_ | exact Bool.noConfusion (c_.symm.trans (by rw [Int32.le_iff_toInt_le, nI_t (by omega), nI_t (by omega)]; omega))) (fun _ => ?_)
      refine AW.aload_n dX3_isWord_28 rfl rfl ?_
      refine AW.get ci3 0 (by decide) q304 dX3_isWord_29 (gTk hT) rfl rfl ?_
      refine AW.aload_n dX3_isWord_32 rfl rfl ?_
      refine AW.get ci3 3 (by decide) q307 dX3_isWord_33 (gTk hT) rfl rfl ?_
      refine AW.iload_n dX3_isWord_36 rfl rfl ?_
      refine AW.iadd dX3_isWord_37 rfl ?_
      refine AW.bald dX3_isWord_38 g619 (in1 p k (by omega) (by omega)) (j := p + k) (at1 p k (by omega)) rfl ?_
      refine AW.aload_n dX3_isWord_39 rfl rfl ?_
      refine AW.iload_n dX3_isWord_40 rfl rfl ?_
      refine AW.callT (Y := mJ3_charAt) (n := 1) hi rfl (r_J3_charAt hi (f := fun j => nI ((wdL i).getD j 0)) gB (by omega) k hk rfl (wc k (by omega))) (by decide) (by decide) rfl q409 q410 q411 q147 q412 dX3_isWord_41 (by decide +kernel) rfl rfl (Nat.le_of_ble_eq_true rfl) rfl ?_
      refine AW.icmp_eq (tgt := 49) dX3_isWord_44 (by decide) rfl (fun c44 => ?_) (fun c44 => ?_)
      · refine AW.iinc (v := 1) dX3_isWord_49 rfl (by decide) rfl rfl rfl ?_
        refine AW.goto (tgt := 20) dX3_isWord_52 (by decide) ?_
        refine AW.ls (by rw [nI_succ]; rfl) (ihk ?_)
        show (allUp _ k && decide (s.A 619 (p + k) = nI ((wdL i).getD k 0))) = true
        rw [ha, dec_t (show s.A 619 (p + k) = nI ((wdL i).getD k 0) from c44)]
        rfl
      · refine AW.iconst (v := 0) dX3_isWord_47 (by decide) rfl ?_
        exact AW.bretE dX3_isWord_48 rfl rfl (by rw [allUp_f (k := k) (dec_f (show ¬ s.A 619 (p + k) = nI ((wdL i).getD k 0) from c44)) _ hk]; rfl) rfl
  · refine AW.iconst (v := 0) dX3_isWord_16 (by decide) rfl ?_
    exact AW.bretE dX3_isWord_17 rfl rfl (by unfold matchW; rw [dec_f (fun z => c13 (by rw [z])), Bool.false_and]; rfl) rfl
theorem nI_lt3 {k n : Nat} (h : k < n) (hn : n < 2147483648) : ¬ nI n ≤ nI k := by
  rw [Int32.le_iff_toInt_le, nI_t hn, nI_t (by omega)]
  omega
section NEXT
theorem nx_a {s : Sg} {T n : Nat} {t : Nat → Int32} (hT : 640 ≤ T) (hR : TpR s t n) (h300 : n ≤ 300) {tk so nu op kd : Int32} {o : OR} {h2 : AH} : ∀ (m k : Nat), n - k = m → k ≤ n → AW 9 mX3_next (hp (tkS s T n (nI (spn isWs (byteF t n) n k)) (tk) (so) (nu) (op) (kd))) 52 [some (.ref T), none, none] [] o h2 → AW 9 mX3_next (hp (tkS s T n (nI k) (tk) (so) (nu) (op) (kd))) 0 [some (.ref T), none, none] [] o h2
  | 0, k, hm, hk, K => by
    have e : k = n := by omega
    subst e
    rw [spn_e] at K
    refine AW.aload_n dX3_next_0 rfl rfl ?_
    refine AW.get ci3 2 (by decide) q306 dX3_next_1 (gTk hT) rfl rfl ?_
    refine AW.aload_n dX3_next_4 rfl rfl ?_
    refine AW.get ci3 1 (by decide) q305 dX3_next_5 (gTk hT) rfl rfl ?_
    refine AW.icmp_ge (tgt := 52) dX3_next_8 (by decide) rfl (fun _ => ?_) (fun c_ => by first | exact absurd c_ (Int32.le_refl _) | exact absurd (Int32.le_refl _) c_ | exact absurd c_ (not_not_intro (Int32.le_refl _)) | exact Bool.noConfusion (c_.symm.trans (Int32.le_refl _)))
    exact K
  | m + 1, k, hm, hk, K => by
    have hkn : k < n := by omega
    have hw := hR.ws hkn
    refine AW.aload_n dX3_next_0 rfl rfl ?_
    refine AW.get ci3 2 (by decide) q306 dX3_next_1 (gTk hT) rfl rfl ?_
    refine AW.aload_n dX3_next_4 rfl rfl ?_
    refine AW.get ci3 1 (by decide) q305 dX3_next_5 (gTk hT) rfl rfl ?_
    refine AW.icmp_ge (tgt := 52) dX3_next_8 (by decide) rfl (fun c_ => by first | exact absurd c_ (nI_lt3 hkn (by omega)) | exact absurd (nI_lt3 hkn (by omega)) c_ | exact Bool.noConfusion (c_.symm.trans (nI_lt3 hkn (by omega)))) (fun _ => ?_)
    refine AW.aload_n dX3_next_11 rfl rfl ?_
    refine AW.get ci3 0 (by decide) q304 dX3_next_12 (gTk hT) rfl rfl ?_
    refine AW.aload_n dX3_next_15 rfl rfl ?_
    refine AW.get ci3 2 (by decide) q306 dX3_next_16 (gTk hT) rfl rfl ?_
    refine AW.bald dX3_next_19 g619 (vp_in_nI (by omega) (by omega)) (j := k) (cI_nI (by omega)) rfl ?_
    refine AW.bipush (v := 32) dX3_next_20 (by decide) rfl ?_
    refine AW.icmp_eq (tgt := 39) dX3_next_22 (by decide) rfl (fun c22 => ?_) (fun c22 => ?_)
    · refine AW.aload_n dX3_next_39 rfl rfl ?_
      refine AW.dup dX3_next_40 rfl rfl ?_
      refine AW.get ci3 2 (by decide) q306 dX3_next_41 (gTk hT) rfl rfl ?_
      refine AW.iconst (v := 1) dX3_next_44 (by decide) rfl ?_
      refine AW.iadd dX3_next_45 rfl ?_
      refine AW.put ci3 2 (by decide) q306 dX3_next_46 (by omega) (gTk hT) rfl (fun _ => rfl) (fun _ => rfl) (Nat.le_of_ble_eq_true rfl) (sTk2 hT) rfl ?_
      refine AW.goto (tgt := 0) dX3_next_49 (by decide) ?_
      rw [spn_t hkn (hw.mp (Or.inl c22))] at K
      refine AW.hp (h2 := (hp (tkS s T n (nI (k + 1)) (tk) (so) (nu) (op) (kd)))) (by rw [nI_succ]) ?_
      exact nx_a hT hR h300 m (k + 1) (by omega) (by omega) K
    · refine AW.aload_n dX3_next_25 rfl rfl ?_
      refine AW.get ci3 0 (by decide) q304 dX3_next_26 (gTk hT) rfl rfl ?_
      refine AW.aload_n dX3_next_29 rfl rfl ?_
      refine AW.get ci3 2 (by decide) q306 dX3_next_30 (gTk hT) rfl rfl ?_
      refine AW.bald dX3_next_33 g619 (vp_in_nI (by omega) (by omega)) (j := k) (cI_nI (by omega)) rfl ?_
      refine AW.bipush (v := 10) dX3_next_34 (by decide) rfl ?_
      refine AW.icmp_ne (tgt := 52) dX3_next_36 (by decide) rfl (fun c36 => ?_) (fun c36 => ?_)
      · rw [spn_f hkn (by cases hq : isWs (byteF t n k); rfl; exact absurd (hw.mpr hq) (by rintro (z | z); exact absurd z c22; exact absurd z c36))] at K
        exact K
      · refine AW.aload_n dX3_next_39 rfl rfl ?_
        refine AW.dup dX3_next_40 rfl rfl ?_
        refine AW.get ci3 2 (by decide) q306 dX3_next_41 (gTk hT) rfl rfl ?_
        refine AW.iconst (v := 1) dX3_next_44 (by decide) rfl ?_
        refine AW.iadd dX3_next_45 rfl ?_
        refine AW.put ci3 2 (by decide) q306 dX3_next_46 (by omega) (gTk hT) rfl (fun _ => rfl) (fun _ => rfl) (Nat.le_of_ble_eq_true rfl) (sTk2 hT) rfl ?_
        refine AW.goto (tgt := 0) dX3_next_49 (by decide) ?_
        rw [spn_t hkn (hw.mp (Or.inr c36))] at K
        refine AW.hp (h2 := (hp (tkS s T n (nI (k + 1)) (tk) (so) (nu) (op) (kd)))) (by rw [nI_succ]) ?_
        exact nx_a hT hR h300 m (k + 1) (by omega) (by omega) K
theorem nx_c {s : Sg} {T n : Nat} {t : Nat → Int32} (hT : 640 ≤ T) (hR : TpR s t n) (h300 : n ≤ 300) {tk so nu op kd : Int32} {o : OR} {h2 : AH} : ∀ (m k : Nat), n - k = m → k ≤ n → AW 9 mX3_next (hp (tkS s T n (nI (spn isLet (byteF t n) n k)) (tk) (so) (nu) (op) (kd))) 135 [some (.ref T), none, none] [] o h2 → AW 9 mX3_next (hp (tkS s T n (nI k) (tk) (so) (nu) (op) (kd))) 96 [some (.ref T), none, none] [] o h2
  | 0, k, hm, hk, K => by
    have e : k = n := by omega
    subst e
    rw [spn_e] at K
    refine AW.aload_n dX3_next_96 rfl rfl ?_
    refine AW.get ci3 2 (by decide) q306 dX3_next_97 (gTk hT) rfl rfl ?_
    refine AW.aload_n dX3_next_100 rfl rfl ?_
    refine AW.get ci3 1 (by decide) q305 dX3_next_101 (gTk hT) rfl rfl ?_
    refine AW.icmp_ge (tgt := 135) dX3_next_104 (by decide) rfl (fun _ => ?_) (fun c_ => by first | exact absurd c_ (Int32.le_refl _) | exact absurd (Int32.le_refl _) c_ | exact absurd c_ (not_not_intro (Int32.le_refl _)) | exact Bool.noConfusion (c_.symm.trans (Int32.le_refl _)))
    exact K
  | m + 1, k, hm, hk, K => by
    have hkn : k < n := by omega
    have hw := hR.let_ hkn
    refine AW.aload_n dX3_next_96 rfl rfl ?_
    refine AW.get ci3 2 (by decide) q306 dX3_next_97 (gTk hT) rfl rfl ?_
    refine AW.aload_n dX3_next_100 rfl rfl ?_
    refine AW.get ci3 1 (by decide) q305 dX3_next_101 (gTk hT) rfl rfl ?_
    refine AW.icmp_ge (tgt := 135) dX3_next_104 (by decide) rfl (fun c_ => by first | exact absurd c_ (nI_lt3 hkn (by omega)) | exact absurd (nI_lt3 hkn (by omega)) c_ | exact Bool.noConfusion (c_.symm.trans (nI_lt3 hkn (by omega)))) (fun _ => ?_)
    refine AW.aload_n dX3_next_107 rfl rfl ?_
    refine AW.get ci3 0 (by decide) q304 dX3_next_108 (gTk hT) rfl rfl ?_
    refine AW.aload_n dX3_next_111 rfl rfl ?_
    refine AW.get ci3 2 (by decide) q306 dX3_next_112 (gTk hT) rfl rfl ?_
    refine AW.bald dX3_next_115 g619 (vp_in_nI (by omega) (by omega)) (j := k) (cI_nI (by omega)) rfl ?_
    refine AW.callS (Y := mX3_isLetter) (n := 1) (r_X3_isLetter _) (by decide) (by decide) q390 q391 q142 q392 dX3_next_116 (by decide +kernel) rfl rfl (Nat.le_of_ble_eq_true rfl) rfl ?_
    refine AW.if_eqB (tgt := 135) dX3_next_119 (by decide) rfl (fun c119 => ?_) (fun c119 => ?_)
    · rw [spn_f hkn (hw.symm.trans c119)] at K
      exact K
    · refine AW.aload_n dX3_next_122 rfl rfl ?_
      refine AW.dup dX3_next_123 rfl rfl ?_
      refine AW.get ci3 2 (by decide) q306 dX3_next_124 (gTk hT) rfl rfl ?_
      refine AW.iconst (v := 1) dX3_next_127 (by decide) rfl ?_
      refine AW.iadd dX3_next_128 rfl ?_
      refine AW.put ci3 2 (by decide) q306 dX3_next_129 (by omega) (gTk hT) rfl (fun _ => rfl) (fun _ => rfl) (Nat.le_of_ble_eq_true rfl) (sTk2 hT) rfl ?_
      refine AW.goto (tgt := 96) dX3_next_132 (by decide) ?_
      rw [spn_t hkn (hw.symm.trans c119)] at K
      refine AW.hp (h2 := (hp (tkS s T n (nI (k + 1)) (tk) (so) (nu) (op) (kd)))) (by rw [nI_succ]) ?_
      exact nx_c hT hR h300 m (k + 1) (by omega) (by omega) K
/-- a number of the tape, cut off -/
def numS (a c : Int32) : Int32 := minI 99999 (10 * a + c - 48)
theorem nx_d {s : Sg} {T n : Nat} {t : Nat → Int32} (hT : 640 ≤ T) (hR : TpR s t n) (h300 : n ≤ 300) {tk so op kd : Int32} {o : OR} {h2 : AH} : ∀ (m k : Nat) (nu : Int32), n - k = m → k ≤ n → AW 9 mX3_next (hp (tkS s T n (nI (spn isFig (byteF t n) n k)) (tk) (so) (acc isFig (byteF t n) numS n k nu) (op) (kd))) 402 [some (.ref T), none, none] [] o h2 → AW 9 mX3_next (hp (tkS s T n (nI k) (tk) (so) (nu) (op) (kd))) 209 [some (.ref T), none, none] [] o h2
  | 0, k, nu, hm, hk, K => by
    have e : k = n := by omega
    subst e
    rw [spn_e, acc_e] at K
    refine AW.aload_n dX3_next_209 rfl rfl ?_
    refine AW.get ci3 2 (by decide) q306 dX3_next_210 (gTk hT) rfl rfl ?_
    refine AW.aload_n dX3_next_213 rfl rfl ?_
    refine AW.get ci3 1 (by decide) q305 dX3_next_214 (gTk hT) rfl rfl ?_
    refine AW.icmp_ge (tgt := 402) dX3_next_217 (by decide) rfl (fun _ => ?_) (fun c_ => by first | exact absurd c_ (Int32.le_refl _) | exact absurd (Int32.le_refl _) c_ | exact absurd c_ (not_not_intro (Int32.le_refl _)) | exact Bool.noConfusion (c_.symm.trans (Int32.le_refl _)))
    exact K
  | m + 1, k, nu, hm, hk, K => by
    have hkn : k < n := by omega
    have hw := hR.fig hkn
    refine AW.aload_n dX3_next_209 rfl rfl ?_
    refine AW.get ci3 2 (by decide) q306 dX3_next_210 (gTk hT) rfl rfl ?_
    refine AW.aload_n dX3_next_213 rfl rfl ?_
    refine AW.get ci3 1 (by decide) q305 dX3_next_214 (gTk hT) rfl rfl ?_
    refine AW.icmp_ge (tgt := 402) dX3_next_217 (by decide) rfl (fun c_ => by first | exact absurd c_ (nI_lt3 hkn (by omega)) | exact absurd (nI_lt3 hkn (by omega)) c_ | exact Bool.noConfusion (c_.symm.trans (nI_lt3 hkn (by omega)))) (fun _ => ?_)
    refine AW.aload_n dX3_next_220 rfl rfl ?_
    refine AW.get ci3 0 (by decide) q304 dX3_next_221 (gTk hT) rfl rfl ?_
    refine AW.aload_n dX3_next_224 rfl rfl ?_
    refine AW.get ci3 2 (by decide) q306 dX3_next_225 (gTk hT) rfl rfl ?_
    refine AW.bald dX3_next_228 g619 (vp_in_nI (by omega) (by omega)) (j := k) (cI_nI (by omega)) rfl ?_
    refine AW.callS (Y := mX3_isDigit) (n := 1) (r_X3_isDigit _) (by decide) (by decide) q447 q448 q142 q449 dX3_next_229 (by decide +kernel) rfl rfl (Nat.le_of_ble_eq_true rfl) rfl ?_
    refine AW.if_eqB (tgt := 402) dX3_next_232 (by decide) rfl (fun c232 => ?_) (fun c232 => ?_)
    · rw [spn_f hkn (hw.symm.trans c232), acc_f hkn (hw.symm.trans c232)] at K
      exact K
    · refine AW.aload_n dX3_next_235 rfl rfl ?_
      refine AW.ldc dX3_next_236 q450 rfl ?_
      refine AW.bipush (v := 10) dX3_next_238 (by decide) rfl ?_
      refine AW.aload_n dX3_next_240 rfl rfl ?_
      refine AW.get ci3 5 (by decide) q309 dX3_next_241 (gTk hT) rfl rfl ?_
      refine AW.imul dX3_next_244 rfl ?_
      refine AW.aload_n dX3_next_245 rfl rfl ?_
      refine AW.get ci3 0 (by decide) q304 dX3_next_246 (gTk hT) rfl rfl ?_
      refine AW.aload_n dX3_next_249 rfl rfl ?_
      refine AW.get ci3 2 (by decide) q306 dX3_next_250 (gTk hT) rfl rfl ?_
      refine AW.bald dX3_next_253 g619 (vp_in_nI (by omega) (by omega)) (j := k) (cI_nI (by omega)) rfl ?_
      refine AW.iadd dX3_next_254 rfl ?_
      refine AW.bipush (v := 48) dX3_next_255 (by decide) rfl ?_
      refine AW.isub dX3_next_257 rfl ?_
      refine AW.mmin dX3_next_258 q451 q452 q151 q453 (by decide) (Nat.le_of_ble_eq_true rfl) rfl ?_
      refine AW.put ci3 5 (by decide) q309 dX3_next_261 (by omega) (gTk hT) rfl (fun _ => rfl) (fun _ => rfl) (Nat.le_of_ble_eq_true rfl) (sTk5 hT) rfl ?_
      refine AW.aload_n dX3_next_264 rfl rfl ?_
      refine AW.dup dX3_next_265 rfl rfl ?_
      refine AW.get ci3 2 (by decide) q306 dX3_next_266 (gTk hT) rfl rfl ?_
      refine AW.iconst (v := 1) dX3_next_269 (by decide) rfl ?_
      refine AW.iadd dX3_next_270 rfl ?_
      refine AW.put ci3 2 (by decide) q306 dX3_next_271 (by omega) (gTk hT) rfl (fun _ => rfl) (fun _ => rfl) (Nat.le_of_ble_eq_true rfl) (sTk2 hT) rfl ?_
      refine AW.goto (tgt := 209) dX3_next_274 (by decide) ?_
      have hb := hw.symm.trans c232
      rw [spn_t hkn hb, acc_t hkn hb, ← hR.lo hkn (fig_lo hb)] at K
      refine AW.hp (h2 := (hp (tkS s T n (nI (k + 1)) (tk) (so) (numS nu (s.A 619 k)) (op) (kd)))) (by rw [nI_succ]; rfl) ?_
      exact nx_d hT hR h300 m (k + 1) _ (by omega) (by omega) K
theorem nx_w {s : Sg} {T n : Nat} (hT : 640 ≤ T) (h300 : n ≤ 300) {so nu op kd : Int32} {o : OR} {h2 : AH} (hB : BH s.b) {p q : Nat} (hpq : p ≤ q) (hq : q ≤ n) : AW 9 mX3_next (hp (tkS s T n (nI q) (nI p) (sortW (s.A 619) p q 22) (nu) (op) (kd))) 402 [some (.ref T), none, none] [] o h2 → AW 9 mX3_next (hp (tkS s T n (nI q) (nI p) (so) (nu) (op) (kd))) 135 [some (.ref T), none, none] [] o h2 := by
  intro K
  have gW : ∀ {so : Int32}, (hp (tkS s T n (nI q) (nI p) so nu op kd)).g 1 = some (.inl (8, 22, fun j => .ref (100 + j))) := (hp_gb rfl).trans ((set_go (by omega)).trans hB.2.2.2.2.1)
  refine AW.aload_n dX3_next_135 rfl rfl ?_
  refine AW.sipush (v := 302) dX3_next_136 (by decide) rfl ?_
  refine AW.put ci3 4 (by decide) q308 dX3_next_139 (by omega) (gTk hT) rfl (fun _ => rfl) (fun _ => rfl) (Nat.le_of_ble_eq_true rfl) (sTk4 hT) rfl ?_
  refine AW.iconst (v := 0) dX3_next_142 (by decide) rfl ?_
  refine AW.istore_n (i := 1) dX3_next_143 rfl rfl (Nat.le_of_ble_eq_true rfl) rfl rfl ?_
  refine loopUp (P := fun k => AW 9 mX3_next (hp (tkS s T n (nI q) (nI p) (sortW (s.A 619) p q k) (nu) (op) (kd))) 144 [some (.ref T), some (.int (nI k)), none] [] o h2) 22 ?_ ?_ 0 (by first | exact Nat.zero_le _ | omega)
  · refine AW.iload_n dX3_next_144 rfl rfl ?_
    refine AW.gets (q := zL.get ⟨1, by decide⟩) (List.get_mem _ _) dX3_next_145 q393 rfl ?_
    refine AW.alen dX3_next_148 (gW) rfl rfl ?_
    refine AW.icmp_ge (tgt := 179) dX3_next_149 (by decide) rfl (fun _ => ?_) (fun c_ => by first | exact absurd c_ (by decide) | exact absurd (by decide) c_ | exact absurd c_ (not_not_intro (by decide)) | exact Bool.noConfusion (c_.symm.trans (by decide)))
    refine AW.goto (tgt := 402) dX3_next_179 (by decide) ?_
    exact AW.fg 1 rfl K
  · intro k hk ihk
    refine AW.iload_n dX3_next_144 rfl rfl ?_
    refine AW.gets (q := zL.get ⟨1, by decide⟩) (List.get_mem _ _) dX3_next_145 q393 rfl ?_
    refine AW.alen dX3_next_148 (gW) rfl rfl ?_
    refine AW.icmp_ge (tgt := 179) dX3_next_149 (by decide) rfl (fun c_ => by first | exact absurd c_ (nle_lit 22 rfl hk (by decide)) | exact absurd (nle_lit 22 rfl hk (by decide)) c_ | exact Bool.noConfusion (c_.symm.trans (nle_lit 22 rfl hk (by decide)))) (fun _ => ?_)
    refine AW.aload_n dX3_next_152 rfl rfl ?_
    refine AW.gets (q := zL.get ⟨1, by decide⟩) (List.get_mem _ _) dX3_next_153 q393 rfl ?_
    refine AW.iload_n dX3_next_156 rfl rfl ?_
    refine AW.aald dX3_next_157 gW rfl rfl (vp_in_nI (by omega) (by omega)) (j := k) (cI_nI (by omega)) rfl ?_
    have hr_ := r_X3_isWord (so := sortW (s.A 619) p q k) (nu := nu) (op := op) (kd := kd) hT h300 hpq hq (i := k) (by omega) hB.2.2.2.2.2
    refine AW.callV (Y := mX3_isWord) (n := 1) (hr_) (by decide) (by decide) rfl (gTk hT) q395 q397 qs2 q142 q398 dX3_next_158 (by decide +kernel) rfl rfl (Nat.le_of_ble_eq_true rfl) rfl ?_
    refine AW.if_eqB (tgt := 173) dX3_next_161 (by decide) rfl (fun c161 => ?_) (fun c161 => ?_)
    · refine AW.iinc (v := 1) dX3_next_173 rfl (by decide) rfl rfl rfl ?_
      refine AW.goto (tgt := 144) dX3_next_176 (by decide) ?_
      refine AW.hp (h2 := (hp (tkS s T n (nI q) (nI p) (sortW (s.A 619) p q (k + 1)) (nu) (op) (kd)))) (by rw [show sortW (s.A 619) p q (k + 1) = if matchW (s.A 619) p q (wdL k) = true then nI (200 + k) else sortW (s.A 619) p q k from rfl]; rw [if_neg (by rw [show matchW (s.A 619) p q (wdL k) = false from c161]; decide)]) (AW.ls (by rw [nI_succ]; rfl) ihk)
    · refine AW.aload_n dX3_next_164 rfl rfl ?_
      refine AW.sipush (v := 200) dX3_next_165 (by decide) rfl ?_
      refine AW.iload_n dX3_next_168 rfl rfl ?_
      refine AW.iadd dX3_next_169 rfl ?_
      refine AW.put ci3 4 (by decide) q308 dX3_next_170 (by omega) (gTk hT) rfl (fun _ => rfl) (fun _ => rfl) (Nat.le_of_ble_eq_true rfl) (sTk4 hT) rfl ?_
      refine AW.iinc (v := 1) dX3_next_173 rfl (by decide) rfl rfl rfl ?_
      refine AW.goto (tgt := 144) dX3_next_176 (by decide) ?_
      refine AW.hp (h2 := (hp (tkS s T n (nI q) (nI p) (sortW (s.A 619) p q (k + 1)) (nu) (op) (kd)))) (by rw [show sortW (s.A 619) p q (k + 1) = if matchW (s.A 619) p q (wdL k) = true then nI (200 + k) else sortW (s.A 619) p q k from rfl]; rw [if_pos (show matchW (s.A 619) p q (wdL k) = true from c161), ← nI_add]; rfl) (AW.ls (by rw [nI_succ]; rfl) ihk)
def sgW (c : Int32) : Nat → Int32
  | 0 => 302
  | k + 1 => if nI ((wdL 22).getD k 0) = c then c else sgW c k
theorem sg_ok : ∀ b, b < 256 → isLet (nI b) = false → isFig (nI b) = false → sgW (sxI (nI b)) 11 = if isSig (nI b) = true then (if nI b = 58 then 302 else nI b) else 302 := by decide +kernel
theorem nx_s {s : Sg} {T n : Nat} (hT : 640 ≤ T) (h300 : n ≤ 300) {nu op kd : Int32} {o : OR} {h2 : AH} (hB : BH s.b) {q p : Nat} {c : Int32} (hpq : p ≤ q) (hq : q ≤ n) : AW 9 mX3_next (hp (tkS s T n (nI q) (nI p) (sgW c 11) (nu) (op) (kd))) 336 [some (.ref T), some (.int c), none] [] o h2 → AW 9 mX3_next (hp (tkS s T n (nI q) (nI p) (302) (nu) (op) (kd))) 304 [some (.ref T), some (.int c), none] [] o h2 := by
  intro K
  obtain ⟨wl, wc⟩ := wd_ok 22 (by decide)
  have gb : ∀ {so : Int32}, (hp (tkS s T n (nI q) (nI p) so nu op kd)).g (130 + 22) = some (.inl (10 + 22, (wdL 22).length, fun j => .int (nI ((wdL 22).getD j 0)))) := (hp_gb rfl).trans ((set_go (by omega)).trans (hB.2.2.2.2.2 22 (by decide)))
  refine AW.iconst (v := 0) dX3_next_304 (by decide) rfl ?_
  refine AW.istore_n (i := 2) dX3_next_305 rfl rfl (Nat.le_of_ble_eq_true rfl) rfl rfl ?_
  refine loopUp (P := fun k => AW 9 mX3_next (hp (tkS s T n (nI q) (nI p) (sgW c k) (nu) (op) (kd))) 306 [some (.ref T), some (.int (c)), some (.int (nI k))] [] o h2) 11 ?_ ?_ 0 (by first | exact Nat.zero_le _ | omega)
  · refine AW.iload_n dX3_next_306 rfl rfl ?_
    refine AW.ldcS rfl dX3_next_307 rfl ?_
    refine AW.callT (Y := mJ3_length) (n := 0) (ii := 22) (by decide) rfl (r_J3_length (i := 22) (by decide) gb (by omega)) (by decide) (by decide) rfl q399 q400 q401 q147 q402 dX3_next_309 (by decide +kernel) rfl rfl (Nat.le_of_ble_eq_true rfl) rfl ?_
    refine AW.icmp_ge (tgt := 336) dX3_next_312 (by decide) rfl (fun _ => ?_) (fun c_ => by first | exact absurd c_ (by decide) | exact absurd (by decide) c_ | exact absurd c_ (not_not_intro (by decide)) | exact Bool.noConfusion (c_.symm.trans (by decide)))
    exact AW.fg 2 rfl K
  · intro k hk ihk
    refine AW.iload_n dX3_next_306 rfl rfl ?_
    refine AW.ldcS rfl dX3_next_307 rfl ?_
    refine AW.callT (Y := mJ3_length) (n := 0) (ii := 22) (by decide) rfl (r_J3_length (i := 22) (by decide) gb (by omega)) (by decide) (by decide) rfl q399 q400 q401 q147 q402 dX3_next_309 (by decide +kernel) rfl rfl (Nat.le_of_ble_eq_true rfl) rfl ?_
    refine AW.icmp_ge (tgt := 336) dX3_next_312 (by decide) rfl (fun c_ => by first | exact absurd c_ (nle_lit 11 rfl hk (by decide)) | exact absurd (nle_lit 11 rfl hk (by decide)) c_ | exact Bool.noConfusion (c_.symm.trans (nle_lit 11 rfl hk (by decide)))) (fun _ => ?_)
    refine AW.ldcS rfl dX3_next_315 rfl ?_
    refine AW.iload_n dX3_next_317 rfl rfl ?_
    refine AW.callT (Y := mJ3_charAt) (n := 1) (ii := 22) (by decide) rfl (r_J3_charAt (i := 22) (by decide) (f := fun j => nI ((wdL 22).getD j 0)) gb (by omega) k (by rw [show (wdL 22).length = 11 from rfl]; exact hk) rfl (wc k (by omega))) (by decide) (by decide) rfl q409 q410 q411 q147 q412 dX3_next_318 (by decide +kernel) rfl rfl (Nat.le_of_ble_eq_true rfl) rfl ?_
    refine AW.iload_n dX3_next_321 rfl rfl ?_
    refine AW.icmp_ne (tgt := 330) dX3_next_322 (by decide) rfl (fun c322 => ?_) (fun c322 => ?_)
    · refine AW.iinc (v := 1) dX3_next_330 rfl (by decide) rfl rfl rfl ?_
      refine AW.goto (tgt := 306) dX3_next_333 (by decide) ?_
      refine AW.hp (h2 := (hp (tkS s T n (nI q) (nI p) (sgW c (k + 1)) (nu) (op) (kd)))) (by rw [show sgW c (k + 1) = if nI ((wdL 22).getD k 0) = c then c else sgW c k from rfl]; rw [if_neg (show ¬ nI ((wdL 22).getD k 0) = c from c322)]) (AW.ls (by rw [nI_succ]; rfl) ihk)
    · refine AW.aload_n dX3_next_325 rfl rfl ?_
      refine AW.iload_n dX3_next_326 rfl rfl ?_
      refine AW.put ci3 4 (by decide) q308 dX3_next_327 (by omega) (gTk hT) rfl (fun _ => rfl) (fun _ => rfl) (Nat.le_of_ble_eq_true rfl) (sTk4 hT) rfl ?_
      refine AW.iinc (v := 1) dX3_next_330 rfl (by decide) rfl rfl rfl ?_
      refine AW.goto (tgt := 306) dX3_next_333 (by decide) ?_
      refine AW.hp (h2 := (hp (tkS s T n (nI q) (nI p) (sgW c (k + 1)) (nu) (op) (kd)))) (by rw [show sgW c (k + 1) = if nI ((wdL 22).getD k 0) = c then c else sgW c k from rfl]; rw [if_pos (show nI ((wdL 22).getD k 0) = c from c322)]) (AW.ls (by rw [nI_succ]; rfl) ihk)
end NEXT
