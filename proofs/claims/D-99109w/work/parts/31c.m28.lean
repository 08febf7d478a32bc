/-! MODEL 28: tokens (printed by tools/m28.py) -/
set_option maxRecDepth 100000
theorem r_X2_byteAt {s : Sg} {L : Lq} {G : Gq} (n : Nat) (hn : s.S 4 = nI n) (h300 : n ≤ 300) (k : Nat) (hk : k < 2147483648) : Run 1 mX2_byteAt [.ref 625, .int (nI k)] (hp (ps s L G)) (.inl (some (.int ((byteF (s.A 629) n) k)))) (hp (ps s L G)) := by
  refine Run.of rfl (Nat.le_of_ble_eq_true rfl) rfl ?_
  refine AW.iload_n dX2_byteAt_0 rfl rfl ?_
  refine AW.aload_n dX2_byteAt_1 rfl rfl ?_
  refine AW.get ci2 4 (by decide) q1355 dX2_byteAt_2 gM rfl rfl ?_
  refine AW.icmp_ge (tgt := 17) dX2_byteAt_5 (by decide) rfl (fun c5 => ?_) (fun c5 => ?_)
  · have hge : ¬ k < n := by
      have c6 : s.S 4 ≤ nI k := c5
      rw [hn, Int32.le_iff_toInt_le, nI_t (by omega), nI_t (by omega)] at c6
      omega
    refine AW.iconst (v := (-1)) dX2_byteAt_17 (by decide) rfl ?_
    exact AW.iretE dX2_byteAt_18 rfl rfl (by unfold byteF; first | (rw [if_pos hlt, ps_A (by decide) (by decide)]; done) | (rw [if_pos hlt]; done) | (rw [if_neg hge]; done)) rfl
  · have hlt : k < n := by
      have c6 : ¬ s.S 4 ≤ nI k := c5
      rw [hn, Int32.le_iff_toInt_le, nI_t (by omega), nI_t (by omega)] at c6
      omega
    refine AW.aload_n dX2_byteAt_8 rfl rfl ?_
    refine AW.get ci2 3 (by decide) q1354 dX2_byteAt_9 gM rfl rfl ?_
    refine AW.iload_n dX2_byteAt_12 rfl rfl ?_
    refine AW.iald dX2_byteAt_13 ps_g629 (in0 k (by omega) (by decide)) (j := k) (cI_nI (by omega)) rfl ?_
    refine AW.goto (tgt := 18) dX2_byteAt_14 (by decide) ?_
    exact AW.iretE dX2_byteAt_18 rfl rfl (by unfold byteF; first | (rw [if_pos hlt, ps_A (by decide) (by decide)]; done) | (rw [if_pos hlt]; done) | (rw [if_neg hge]; done)) rfl
theorem r_X2_isFigure {h : AH} (c : Int32) : Run 1 mX2_isFigure [.int c] h (.inl (some (.int (b2i (isFig c))))) h := by
  refine Run.of rfl (Nat.le_of_ble_eq_true rfl) rfl ?_
  refine AW.iload_n dX2_isFigure_0 rfl rfl ?_
  refine AW.bipush (v := 48) dX2_isFigure_1 (by decide) rfl ?_
  refine AW.icmp_lt (tgt := 16) dX2_isFigure_3 (by decide) rfl (fun c1 => ?_) (fun c1 => ?_)
  · refine AW.iconst (v := 0) dX2_isFigure_16 (by decide) rfl ?_
    exact AW.bretE dX2_isFigure_17 rfl rfl (by simp_all [isFig, isLet, b2i, Int32.not_le, Int32.not_lt, Int32.lt_iff_toInt_lt, Int32.le_iff_toInt_le]; try (intros; omega)) rfl
  · refine AW.iload_n dX2_isFigure_6 rfl rfl ?_
    refine AW.bipush (v := 57) dX2_isFigure_7 (by decide) rfl ?_
    refine AW.icmp_gt (tgt := 16) dX2_isFigure_9 (by decide) rfl (fun c2 => ?_) (fun c2 => ?_)
    · refine AW.iconst (v := 0) dX2_isFigure_16 (by decide) rfl ?_
      exact AW.bretE dX2_isFigure_17 rfl rfl (by simp_all [isFig, isLet, b2i, Int32.not_le, Int32.not_lt, Int32.lt_iff_toInt_lt, Int32.le_iff_toInt_le]; try (intros; omega)) rfl
    · refine AW.iconst (v := 1) dX2_isFigure_12 (by decide) rfl ?_
      refine AW.goto (tgt := 17) dX2_isFigure_13 (by decide) ?_
      exact AW.bretE dX2_isFigure_17 rfl rfl (by simp_all [isFig, isLet, b2i, Int32.not_le, Int32.not_lt, Int32.lt_iff_toInt_lt, Int32.le_iff_toInt_le]; try (intros; omega)) rfl
theorem r_X2_isLetterByte {h : AH} (c : Int32) : Run 1 mX2_isLetterByte [.int c] h (.inl (some (.int (b2i (isLet c))))) h := by
  refine Run.of rfl (Nat.le_of_ble_eq_true rfl) rfl ?_
  refine AW.iload_n dX2_isLetterByte_0 rfl rfl ?_
  refine AW.bipush (v := 97) dX2_isLetterByte_1 (by decide) rfl ?_
  refine AW.icmp_lt (tgt := 12) dX2_isLetterByte_3 (by decide) rfl (fun c1 => ?_) (fun c1 => ?_)
  · refine AW.iload_n dX2_isLetterByte_12 rfl rfl ?_
    refine AW.bipush (v := 65) dX2_isLetterByte_13 (by decide) rfl ?_
    refine AW.icmp_lt (tgt := 28) dX2_isLetterByte_15 (by decide) rfl (fun c2 => ?_) (fun c2 => ?_)
    · refine AW.iconst (v := 0) dX2_isLetterByte_28 (by decide) rfl ?_
      exact AW.bretE dX2_isLetterByte_29 rfl rfl (by simp_all [isFig, isLet, b2i, Int32.not_le, Int32.not_lt, Int32.lt_iff_toInt_lt, Int32.le_iff_toInt_le]; try (intros; omega)) rfl
    · refine AW.iload_n dX2_isLetterByte_18 rfl rfl ?_
      refine AW.bipush (v := 90) dX2_isLetterByte_19 (by decide) rfl ?_
      refine AW.icmp_gt (tgt := 28) dX2_isLetterByte_21 (by decide) rfl (fun c3 => ?_) (fun c3 => ?_)
      · refine AW.iconst (v := 0) dX2_isLetterByte_28 (by decide) rfl ?_
        exact AW.bretE dX2_isLetterByte_29 rfl rfl (by simp_all [isFig, isLet, b2i, Int32.not_le, Int32.not_lt, Int32.lt_iff_toInt_lt, Int32.le_iff_toInt_le]; try (intros; omega)) rfl
      · refine AW.iconst (v := 1) dX2_isLetterByte_24 (by decide) rfl ?_
        refine AW.goto (tgt := 29) dX2_isLetterByte_25 (by decide) ?_
        exact AW.bretE dX2_isLetterByte_29 rfl rfl (by simp_all [isFig, isLet, b2i, Int32.not_le, Int32.not_lt, Int32.lt_iff_toInt_lt, Int32.le_iff_toInt_le]; try (intros; omega)) rfl
  · refine AW.iload_n dX2_isLetterByte_6 rfl rfl ?_
    refine AW.bipush (v := 122) dX2_isLetterByte_7 (by decide) rfl ?_
    refine AW.icmp_le (tgt := 24) dX2_isLetterByte_9 (by decide) rfl (fun c4 => ?_) (fun c4 => ?_)
    · refine AW.iconst (v := 1) dX2_isLetterByte_24 (by decide) rfl ?_
      refine AW.goto (tgt := 29) dX2_isLetterByte_25 (by decide) ?_
      exact AW.bretE dX2_isLetterByte_29 rfl rfl (by simp_all [isFig, isLet, b2i, Int32.not_le, Int32.not_lt, Int32.lt_iff_toInt_lt, Int32.le_iff_toInt_le]; try (intros; omega)) rfl
    · refine AW.iload_n dX2_isLetterByte_12 rfl rfl ?_
      refine AW.bipush (v := 65) dX2_isLetterByte_13 (by decide) rfl ?_
      refine AW.icmp_lt (tgt := 28) dX2_isLetterByte_15 (by decide) rfl (fun c5 => ?_) (fun c5 => ?_)
      · refine AW.iconst (v := 0) dX2_isLetterByte_28 (by decide) rfl ?_
        exact AW.bretE dX2_isLetterByte_29 rfl rfl (by simp_all [isFig, isLet, b2i, Int32.not_le, Int32.not_lt, Int32.lt_iff_toInt_lt, Int32.le_iff_toInt_le]; try (intros; omega)) rfl
      · refine AW.iload_n dX2_isLetterByte_18 rfl rfl ?_
        refine AW.bipush (v := 90) dX2_isLetterByte_19 (by decide) rfl ?_
        refine AW.icmp_gt (tgt := 28) dX2_isLetterByte_21 (by decide) rfl (fun c6 => ?_) (fun c6 => ?_)
        · refine AW.iconst (v := 0) dX2_isLetterByte_28 (by decide) rfl ?_
          exact AW.bretE dX2_isLetterByte_29 rfl rfl (by simp_all [isFig, isLet, b2i, Int32.not_le, Int32.not_lt, Int32.lt_iff_toInt_lt, Int32.le_iff_toInt_le]; try (intros; omega)) rfl
        · refine AW.iconst (v := 1) dX2_isLetterByte_24 (by decide) rfl ?_
          refine AW.goto (tgt := 29) dX2_isLetterByte_25 (by decide) ?_
          exact AW.bretE dX2_isLetterByte_29 rfl rfl (by simp_all [isFig, isLet, b2i, Int32.not_le, Int32.not_lt, Int32.lt_iff_toInt_lt, Int32.le_iff_toInt_le]; try (intros; omega)) rfl
theorem r_X2_isSign {h : AH} (c : Int32) : Run 1 mX2_isSign [.int c] h (.inl (some (.int (b2i (isSig c))))) h := by
  refine Run.of rfl (Nat.le_of_ble_eq_true rfl) rfl ?_
  refine AW.iload_n dX2_isSign_0 rfl rfl ?_
  by_cases s1_0 : c = 35
  · refine AW.tableIn (off := 127) (tgt := 128) dX2_isSign_1 (by rw [s1_0]; decide) (by rw [s1_0]; decide) (by rw [s1_0]; rfl) (by decide) ?_
    refine AW.iconst (v := 1) dX2_isSign_128 (by decide) rfl ?_
    first | (subst_vars; exact AW.bretE dX2_isSign_129 rfl rfl rfl rfl) | exact AW.bretE dX2_isSign_129 rfl rfl (by unfold isSig; simp [*]; rfl) rfl
  by_cases s1_1 : c = 36
  · refine AW.tableIn (off := 129) (tgt := 130) dX2_isSign_1 (by rw [s1_1]; decide) (by rw [s1_1]; decide) (by rw [s1_1]; rfl) (by decide) ?_
    refine AW.iconst (v := 0) dX2_isSign_130 (by decide) rfl ?_
    first | (subst_vars; exact AW.bretE dX2_isSign_131 rfl rfl rfl rfl) | exact AW.bretE dX2_isSign_131 rfl rfl (by unfold isSig; simp [*]; rfl) rfl
  by_cases s1_2 : c = 37
  · refine AW.tableIn (off := 129) (tgt := 130) dX2_isSign_1 (by rw [s1_2]; decide) (by rw [s1_2]; decide) (by rw [s1_2]; rfl) (by decide) ?_
    refine AW.iconst (v := 0) dX2_isSign_130 (by decide) rfl ?_
    first | (subst_vars; exact AW.bretE dX2_isSign_131 rfl rfl rfl rfl) | exact AW.bretE dX2_isSign_131 rfl rfl (by unfold isSig; simp [*]; rfl) rfl
  by_cases s1_3 : c = 38
  · refine AW.tableIn (off := 129) (tgt := 130) dX2_isSign_1 (by rw [s1_3]; decide) (by rw [s1_3]; decide) (by rw [s1_3]; rfl) (by decide) ?_
    refine AW.iconst (v := 0) dX2_isSign_130 (by decide) rfl ?_
    first | (subst_vars; exact AW.bretE dX2_isSign_131 rfl rfl rfl rfl) | exact AW.bretE dX2_isSign_131 rfl rfl (by unfold isSig; simp [*]; rfl) rfl
  by_cases s1_4 : c = 39
  · refine AW.tableIn (off := 129) (tgt := 130) dX2_isSign_1 (by rw [s1_4]; decide) (by rw [s1_4]; decide) (by rw [s1_4]; rfl) (by decide) ?_
    refine AW.iconst (v := 0) dX2_isSign_130 (by decide) rfl ?_
    first | (subst_vars; exact AW.bretE dX2_isSign_131 rfl rfl rfl rfl) | exact AW.bretE dX2_isSign_131 rfl rfl (by unfold isSig; simp [*]; rfl) rfl
  by_cases s1_5 : c = 40
  · refine AW.tableIn (off := 127) (tgt := 128) dX2_isSign_1 (by rw [s1_5]; decide) (by rw [s1_5]; decide) (by rw [s1_5]; rfl) (by decide) ?_
    refine AW.iconst (v := 1) dX2_isSign_128 (by decide) rfl ?_
    first | (subst_vars; exact AW.bretE dX2_isSign_129 rfl rfl rfl rfl) | exact AW.bretE dX2_isSign_129 rfl rfl (by unfold isSig; simp [*]; rfl) rfl
  by_cases s1_6 : c = 41
  · refine AW.tableIn (off := 127) (tgt := 128) dX2_isSign_1 (by rw [s1_6]; decide) (by rw [s1_6]; decide) (by rw [s1_6]; rfl) (by decide) ?_
    refine AW.iconst (v := 1) dX2_isSign_128 (by decide) rfl ?_
    first | (subst_vars; exact AW.bretE dX2_isSign_129 rfl rfl rfl rfl) | exact AW.bretE dX2_isSign_129 rfl rfl (by unfold isSig; simp [*]; rfl) rfl
  by_cases s1_7 : c = 42
  · refine AW.tableIn (off := 127) (tgt := 128) dX2_isSign_1 (by rw [s1_7]; decide) (by rw [s1_7]; decide) (by rw [s1_7]; rfl) (by decide) ?_
    refine AW.iconst (v := 1) dX2_isSign_128 (by decide) rfl ?_
    first | (subst_vars; exact AW.bretE dX2_isSign_129 rfl rfl rfl rfl) | exact AW.bretE dX2_isSign_129 rfl rfl (by unfold isSig; simp [*]; rfl) rfl
  by_cases s1_8 : c = 43
  · refine AW.tableIn (off := 127) (tgt := 128) dX2_isSign_1 (by rw [s1_8]; decide) (by rw [s1_8]; decide) (by rw [s1_8]; rfl) (by decide) ?_
    refine AW.iconst (v := 1) dX2_isSign_128 (by decide) rfl ?_
    first | (subst_vars; exact AW.bretE dX2_isSign_129 rfl rfl rfl rfl) | exact AW.bretE dX2_isSign_129 rfl rfl (by unfold isSig; simp [*]; rfl) rfl
  by_cases s1_9 : c = 44
  · refine AW.tableIn (off := 129) (tgt := 130) dX2_isSign_1 (by rw [s1_9]; decide) (by rw [s1_9]; decide) (by rw [s1_9]; rfl) (by decide) ?_
    refine AW.iconst (v := 0) dX2_isSign_130 (by decide) rfl ?_
    first | (subst_vars; exact AW.bretE dX2_isSign_131 rfl rfl rfl rfl) | exact AW.bretE dX2_isSign_131 rfl rfl (by unfold isSig; simp [*]; rfl) rfl
  by_cases s1_10 : c = 45
  · refine AW.tableIn (off := 127) (tgt := 128) dX2_isSign_1 (by rw [s1_10]; decide) (by rw [s1_10]; decide) (by rw [s1_10]; rfl) (by decide) ?_
    refine AW.iconst (v := 1) dX2_isSign_128 (by decide) rfl ?_
    first | (subst_vars; exact AW.bretE dX2_isSign_129 rfl rfl rfl rfl) | exact AW.bretE dX2_isSign_129 rfl rfl (by unfold isSig; simp [*]; rfl) rfl
  by_cases s1_11 : c = 46
  · refine AW.tableIn (off := 129) (tgt := 130) dX2_isSign_1 (by rw [s1_11]; decide) (by rw [s1_11]; decide) (by rw [s1_11]; rfl) (by decide) ?_
    refine AW.iconst (v := 0) dX2_isSign_130 (by decide) rfl ?_
    first | (subst_vars; exact AW.bretE dX2_isSign_131 rfl rfl rfl rfl) | exact AW.bretE dX2_isSign_131 rfl rfl (by unfold isSig; simp [*]; rfl) rfl
  by_cases s1_12 : c = 47
  · refine AW.tableIn (off := 127) (tgt := 128) dX2_isSign_1 (by rw [s1_12]; decide) (by rw [s1_12]; decide) (by rw [s1_12]; rfl) (by decide) ?_
    refine AW.iconst (v := 1) dX2_isSign_128 (by decide) rfl ?_
    first | (subst_vars; exact AW.bretE dX2_isSign_129 rfl rfl rfl rfl) | exact AW.bretE dX2_isSign_129 rfl rfl (by unfold isSig; simp [*]; rfl) rfl
  by_cases s1_13 : c = 48
  · refine AW.tableIn (off := 129) (tgt := 130) dX2_isSign_1 (by rw [s1_13]; decide) (by rw [s1_13]; decide) (by rw [s1_13]; rfl) (by decide) ?_
    refine AW.iconst (v := 0) dX2_isSign_130 (by decide) rfl ?_
    first | (subst_vars; exact AW.bretE dX2_isSign_131 rfl rfl rfl rfl) | exact AW.bretE dX2_isSign_131 rfl rfl (by unfold isSig; simp [*]; rfl) rfl
  by_cases s1_14 : c = 49
  · refine AW.tableIn (off := 129) (tgt := 130) dX2_isSign_1 (by rw [s1_14]; decide) (by rw [s1_14]; decide) (by rw [s1_14]; rfl) (by decide) ?_
    refine AW.iconst (v := 0) dX2_isSign_130 (by decide) rfl ?_
    first | (subst_vars; exact AW.bretE dX2_isSign_131 rfl rfl rfl rfl) | exact AW.bretE dX2_isSign_131 rfl rfl (by unfold isSig; simp [*]; rfl) rfl
  by_cases s1_15 : c = 50
  · refine AW.tableIn (off := 129) (tgt := 130) dX2_isSign_1 (by rw [s1_15]; decide) (by rw [s1_15]; decide) (by rw [s1_15]; rfl) (by decide) ?_
    refine AW.iconst (v := 0) dX2_isSign_130 (by decide) rfl ?_
    first | (subst_vars; exact AW.bretE dX2_isSign_131 rfl rfl rfl rfl) | exact AW.bretE dX2_isSign_131 rfl rfl (by unfold isSig; simp [*]; rfl) rfl
  by_cases s1_16 : c = 51
  · refine AW.tableIn (off := 129) (tgt := 130) dX2_isSign_1 (by rw [s1_16]; decide) (by rw [s1_16]; decide) (by rw [s1_16]; rfl) (by decide) ?_
    refine AW.iconst (v := 0) dX2_isSign_130 (by decide) rfl ?_
    first | (subst_vars; exact AW.bretE dX2_isSign_131 rfl rfl rfl rfl) | exact AW.bretE dX2_isSign_131 rfl rfl (by unfold isSig; simp [*]; rfl) rfl
  by_cases s1_17 : c = 52
  · refine AW.tableIn (off := 129) (tgt := 130) dX2_isSign_1 (by rw [s1_17]; decide) (by rw [s1_17]; decide) (by rw [s1_17]; rfl) (by decide) ?_
    refine AW.iconst (v := 0) dX2_isSign_130 (by decide) rfl ?_
    first | (subst_vars; exact AW.bretE dX2_isSign_131 rfl rfl rfl rfl) | exact AW.bretE dX2_isSign_131 rfl rfl (by unfold isSig; simp [*]; rfl) rfl
  by_cases s1_18 : c = 53
  · refine AW.tableIn (off := 129) (tgt := 130) dX2_isSign_1 (by rw [s1_18]; decide) (by rw [s1_18]; decide) (by rw [s1_18]; rfl) (by decide) ?_
    refine AW.iconst (v := 0) dX2_isSign_130 (by decide) rfl ?_
    first | (subst_vars; exact AW.bretE dX2_isSign_131 rfl rfl rfl rfl) | exact AW.bretE dX2_isSign_131 rfl rfl (by unfold isSig; simp [*]; rfl) rfl
  by_cases s1_19 : c = 54
  · refine AW.tableIn (off := 129) (tgt := 130) dX2_isSign_1 (by rw [s1_19]; decide) (by rw [s1_19]; decide) (by rw [s1_19]; rfl) (by decide) ?_
    refine AW.iconst (v := 0) dX2_isSign_130 (by decide) rfl ?_
    first | (subst_vars; exact AW.bretE dX2_isSign_131 rfl rfl rfl rfl) | exact AW.bretE dX2_isSign_131 rfl rfl (by unfold isSig; simp [*]; rfl) rfl
  by_cases s1_20 : c = 55
  · refine AW.tableIn (off := 129) (tgt := 130) dX2_isSign_1 (by rw [s1_20]; decide) (by rw [s1_20]; decide) (by rw [s1_20]; rfl) (by decide) ?_
    refine AW.iconst (v := 0) dX2_isSign_130 (by decide) rfl ?_
    first | (subst_vars; exact AW.bretE dX2_isSign_131 rfl rfl rfl rfl) | exact AW.bretE dX2_isSign_131 rfl rfl (by unfold isSig; simp [*]; rfl) rfl
  by_cases s1_21 : c = 56
  · refine AW.tableIn (off := 129) (tgt := 130) dX2_isSign_1 (by rw [s1_21]; decide) (by rw [s1_21]; decide) (by rw [s1_21]; rfl) (by decide) ?_
    refine AW.iconst (v := 0) dX2_isSign_130 (by decide) rfl ?_
    first | (subst_vars; exact AW.bretE dX2_isSign_131 rfl rfl rfl rfl) | exact AW.bretE dX2_isSign_131 rfl rfl (by unfold isSig; simp [*]; rfl) rfl
  by_cases s1_22 : c = 57
  · refine AW.tableIn (off := 129) (tgt := 130) dX2_isSign_1 (by rw [s1_22]; decide) (by rw [s1_22]; decide) (by rw [s1_22]; rfl) (by decide) ?_
    refine AW.iconst (v := 0) dX2_isSign_130 (by decide) rfl ?_
    first | (subst_vars; exact AW.bretE dX2_isSign_131 rfl rfl rfl rfl) | exact AW.bretE dX2_isSign_131 rfl rfl (by unfold isSig; simp [*]; rfl) rfl
  by_cases s1_23 : c = 58
  · refine AW.tableIn (off := 127) (tgt := 128) dX2_isSign_1 (by rw [s1_23]; decide) (by rw [s1_23]; decide) (by rw [s1_23]; rfl) (by decide) ?_
    refine AW.iconst (v := 1) dX2_isSign_128 (by decide) rfl ?_
    first | (subst_vars; exact AW.bretE dX2_isSign_129 rfl rfl rfl rfl) | exact AW.bretE dX2_isSign_129 rfl rfl (by unfold isSig; simp [*]; rfl) rfl
  by_cases s1_24 : c = 59
  · refine AW.tableIn (off := 127) (tgt := 128) dX2_isSign_1 (by rw [s1_24]; decide) (by rw [s1_24]; decide) (by rw [s1_24]; rfl) (by decide) ?_
    refine AW.iconst (v := 1) dX2_isSign_128 (by decide) rfl ?_
    first | (subst_vars; exact AW.bretE dX2_isSign_129 rfl rfl rfl rfl) | exact AW.bretE dX2_isSign_129 rfl rfl (by unfold isSig; simp [*]; rfl) rfl
  by_cases s1_25 : c = 60
  · refine AW.tableIn (off := 127) (tgt := 128) dX2_isSign_1 (by rw [s1_25]; decide) (by rw [s1_25]; decide) (by rw [s1_25]; rfl) (by decide) ?_
    refine AW.iconst (v := 1) dX2_isSign_128 (by decide) rfl ?_
    first | (subst_vars; exact AW.bretE dX2_isSign_129 rfl rfl rfl rfl) | exact AW.bretE dX2_isSign_129 rfl rfl (by unfold isSig; simp [*]; rfl) rfl
  by_cases s1_26 : c = 61
  · refine AW.tableIn (off := 127) (tgt := 128) dX2_isSign_1 (by rw [s1_26]; decide) (by rw [s1_26]; decide) (by rw [s1_26]; rfl) (by decide) ?_
    refine AW.iconst (v := 1) dX2_isSign_128 (by decide) rfl ?_
    first | (subst_vars; exact AW.bretE dX2_isSign_129 rfl rfl rfl rfl) | exact AW.bretE dX2_isSign_129 rfl rfl (by unfold isSig; simp [*]; rfl) rfl
  by_cases s1_27 : c = 62
  · refine AW.tableIn (off := 127) (tgt := 128) dX2_isSign_1 (by rw [s1_27]; decide) (by rw [s1_27]; decide) (by rw [s1_27]; rfl) (by decide) ?_
    refine AW.iconst (v := 1) dX2_isSign_128 (by decide) rfl ?_
    first | (subst_vars; exact AW.bretE dX2_isSign_129 rfl rfl rfl rfl) | exact AW.bretE dX2_isSign_129 rfl rfl (by unfold isSig; simp [*]; rfl) rfl
  refine AW.tableOut (tgt := 130) dX2_isSign_1 (by have q0 : ¬ (c).toInt = 35 := fun q => s1_0 (Int32.toInt_inj.mp q); have q1 : ¬ (c).toInt = 36 := fun q => s1_1 (Int32.toInt_inj.mp q); have q2 : ¬ (c).toInt = 37 := fun q => s1_2 (Int32.toInt_inj.mp q); have q3 : ¬ (c).toInt = 38 := fun q => s1_3 (Int32.toInt_inj.mp q); have q4 : ¬ (c).toInt = 39 := fun q => s1_4 (Int32.toInt_inj.mp q); have q5 : ¬ (c).toInt = 40 := fun q => s1_5 (Int32.toInt_inj.mp q); have q6 : ¬ (c).toInt = 41 := fun q => s1_6 (Int32.toInt_inj.mp q); have q7 : ¬ (c).toInt = 42 := fun q => s1_7 (Int32.toInt_inj.mp q); have q8 : ¬ (c).toInt = 43 := fun q => s1_8 (Int32.toInt_inj.mp q); have q9 : ¬ (c).toInt = 44 := fun q => s1_9 (Int32.toInt_inj.mp q); have q10 : ¬ (c).toInt = 45 := fun q => s1_10 (Int32.toInt_inj.mp q); have q11 : ¬ (c).toInt = 46 := fun q => s1_11 (Int32.toInt_inj.mp q); have q12 : ¬ (c).toInt = 47 := fun q => s1_12 (Int32.toInt_inj.mp q); have q13 : ¬ (c).toInt = 48 := fun q => s1_13 (Int32.toInt_inj.mp q); have q14 : ¬ (c).toInt = 49 := fun q => s1_14 (Int32.toInt_inj.mp q); have q15 : ¬ (c).toInt = 50 := fun q => s1_15 (Int32.toInt_inj.mp q); have q16 : ¬ (c).toInt = 51 := fun q => s1_16 (Int32.toInt_inj.mp q); have q17 : ¬ (c).toInt = 52 := fun q => s1_17 (Int32.toInt_inj.mp q); have q18 : ¬ (c).toInt = 53 := fun q => s1_18 (Int32.toInt_inj.mp q); have q19 : ¬ (c).toInt = 54 := fun q => s1_19 (Int32.toInt_inj.mp q); have q20 : ¬ (c).toInt = 55 := fun q => s1_20 (Int32.toInt_inj.mp q); have q21 : ¬ (c).toInt = 56 := fun q => s1_21 (Int32.toInt_inj.mp q); have q22 : ¬ (c).toInt = 57 := fun q => s1_22 (Int32.toInt_inj.mp q); have q23 : ¬ (c).toInt = 58 := fun q => s1_23 (Int32.toInt_inj.mp q); have q24 : ¬ (c).toInt = 59 := fun q => s1_24 (Int32.toInt_inj.mp q); have q25 : ¬ (c).toInt = 60 := fun q => s1_25 (Int32.toInt_inj.mp q); have q26 : ¬ (c).toInt = 61 := fun q => s1_26 (Int32.toInt_inj.mp q); have q27 : ¬ (c).toInt = 62 := fun q => s1_27 (Int32.toInt_inj.mp q); omega) (by decide) ?_
  refine AW.iconst (v := 0) dX2_isSign_130 (by decide) rfl ?_
  first | (subst_vars; exact AW.bretE dX2_isSign_131 rfl rfl rfl rfl) | exact AW.bretE dX2_isSign_131 rfl rfl (by unfold isSig; simp [*]; rfl) rfl
theorem nt_39 {s : Sg} {L : Lq} {G : Gq} (n : Nat) (hn : s.S 4 = nI n) (h300 : n ≤ 300) (hb : ∀ k, k < n → 0 ≤ s.A 629 k) (p : Nat) (hpl : p ≤ n) : AW 3 mX2_nextToken (hp (ps s (nI p, L.2) G)) 39 [some (.ref 625), none] [] (.inl none) (hp (ps s (lexT (byteF (s.A 629) n) n p L) G)) := by
  refine AW.aload_n dX2_nextToken_39 rfl rfl ?_
  refine AW.aload_n dX2_nextToken_40 rfl rfl ?_
  refine AW.get ci2 7 (by decide) q1358 dX2_nextToken_41 gM rfl rfl ?_
  refine AW.put ci2 8 (by decide) q1359 dX2_nextToken_44 (by decide) gM rfl (fun _ => rfl) (fun _ => rfl) (Nat.le_of_ble_eq_true rfl) ps_s8 rfl ?_
  refine AW.aload_n dX2_nextToken_47 rfl rfl ?_
  refine AW.aload_n dX2_nextToken_48 rfl rfl ?_
  refine AW.get ci2 7 (by decide) q1358 dX2_nextToken_49 gM rfl rfl ?_
  refine AW.callV (Y := mX2_byteAt) (n := 1) (r_X2_byteAt n hn h300 (p) (by omega)) (by decide) (by decide) rfl gM q1505 q1507 qs67 q141 q1508 dX2_nextToken_52 (by decide +kernel) rfl rfl (Nat.le_of_ble_eq_true rfl) rfl ?_
  refine AW.istore_n (i := 1) dX2_nextToken_55 rfl rfl (Nat.le_of_ble_eq_true rfl) rfl rfl ?_
  refine AW.iload_n dX2_nextToken_56 rfl rfl ?_
  refine AW.if_ge (tgt := 68) dX2_nextToken_57 (by decide) rfl (fun c57 => ?_) (fun c57 => ?_)
  · have hpn : ¬ p = n := by
      intro z
      rw [z, byteF_n] at c57
      exact absurd c57 (by decide)
    refine AW.iload_n dX2_nextToken_68 rfl rfl ?_
    refine AW.callS (Y := mX2_isFigure) (n := 1) (r_X2_isFigure _) (by decide) (by decide) q1509 q1510 q141 q1511 dX2_nextToken_69 (by decide +kernel) rfl rfl (Nat.le_of_ble_eq_true rfl) rfl ?_
    refine AW.if_eqB (tgt := 151) dX2_nextToken_72 (by decide) rfl (fun c72 => ?_) (fun c72 => ?_)
    · refine AW.iload_n dX2_nextToken_151 rfl rfl ?_
      refine AW.callS (Y := mX2_isLetterByte) (n := 1) (r_X2_isLetterByte _) (by decide) (by decide) q1513 q1514 q141 q1515 dX2_nextToken_152 (by decide +kernel) rfl rfl (Nat.le_of_ble_eq_true rfl) rfl ?_
      refine AW.if_eqB (tgt := 234) dX2_nextToken_155 (by decide) rfl (fun c155 => ?_) (fun c155 => ?_)
      · refine AW.aload_n dX2_nextToken_234 rfl rfl ?_
        refine AW.iload_n dX2_nextToken_235 rfl rfl ?_
        refine AW.callS (Y := mX2_isSign) (n := 1) (r_X2_isSign _) (by decide) (by decide) q1517 q1518 q141 q1519 dX2_nextToken_236 (by decide +kernel) rfl rfl (Nat.le_of_ble_eq_true rfl) rfl ?_
        refine AW.if_eqB (tgt := 246) dX2_nextToken_239 (by decide) rfl (fun c239 => ?_) (fun c239 => ?_)
        · refine AW.iconst (v := 3) dX2_nextToken_246 (by decide) rfl ?_
          refine AW.put ci2 9 (by decide) q1360 dX2_nextToken_247 (by decide) gM rfl (fun _ => rfl) (fun _ => rfl) (Nat.le_of_ble_eq_true rfl) ps_s9 rfl ?_
          refine AW.aload_n dX2_nextToken_250 rfl rfl ?_
          refine AW.dup dX2_nextToken_251 rfl rfl ?_
          refine AW.get ci2 7 (by decide) q1358 dX2_nextToken_252 gM rfl rfl ?_
          refine AW.iconst (v := 1) dX2_nextToken_255 (by decide) rfl ?_
          refine AW.iadd dX2_nextToken_256 rfl ?_
          refine AW.put ci2 7 (by decide) q1358 dX2_nextToken_257 (by decide) gM rfl (fun _ => rfl) (fun _ => rfl) (Nat.le_of_ble_eq_true rfl) ps_s7 rfl ?_
          refine AW.hp (h2 := (hp (ps s (nI (p + 1), nI p, if isSig ((byteF (s.A 629) n) p) = true then (byteF (s.A 629) n) p else 3, L.2.2.2.1, L.2.2.2.2) G))) (by rw [nI_succ p]; first | (rw [if_pos c239]; rfl) | (rw [if_neg (by rw [c239]; decide)]; rfl)) ?_
          refine AW.iload_n dX2_nextToken_260 rfl rfl ?_
          refine AW.bipush (v := 60) dX2_nextToken_261 (by decide) rfl ?_
          refine AW.icmp_eq (tgt := 272) dX2_nextToken_263 (by decide) rfl (fun c263 => ?_) (fun c263 => ?_)
          · refine AW.aload_n dX2_nextToken_272 rfl rfl ?_
            refine AW.aload_n dX2_nextToken_273 rfl rfl ?_
            refine AW.get ci2 7 (by decide) q1358 dX2_nextToken_274 gM rfl rfl ?_
            refine AW.callV (Y := mX2_byteAt) (n := 1) (r_X2_byteAt n hn h300 (p + 1) (by omega)) (by decide) (by decide) rfl gM q1505 q1507 qs67 q141 q1508 dX2_nextToken_277 (by decide +kernel) rfl rfl (Nat.le_of_ble_eq_true rfl) rfl ?_
            refine AW.bipush (v := 61) dX2_nextToken_280 (by decide) rfl ?_
            refine AW.icmp_ne (tgt := 310) dX2_nextToken_282 (by decide) rfl (fun c282 => ?_) (fun c282 => ?_)
            · have e9 : lexT (byteF (s.A 629) n) n p L = (nI (p + 1), nI p, if isSig ((byteF (s.A 629) n) p) = true then (byteF (s.A 629) n) p else 3, L.2.2.2.1, L.2.2.2.2) := by unfold lexT; rw [if_neg hpn, if_neg (by rw [c72]; decide), if_neg (by rw [c155]; decide), if_neg (fun z => c282 z.2)]
              rw [e9]
              exact AW.vretE dX2_nextToken_310 rfl rfl rfl
            · have e2 : nI (p + 1) + 1 = nI (p + 2) := (nI_succ (p + 1)).symm
              refine AW.aload_n dX2_nextToken_285 rfl rfl ?_
              refine AW.iload_n dX2_nextToken_286 rfl rfl ?_
              refine AW.bipush (v := 60) dX2_nextToken_287 (by decide) rfl ?_
              refine AW.icmp_ne (tgt := 296) dX2_nextToken_289 (by decide) rfl (fun c289 => ?_) (fun c289 => ?_)
              · refine AW.iconst (v := 5) dX2_nextToken_296 (by decide) rfl ?_
                refine AW.put ci2 9 (by decide) q1360 dX2_nextToken_297 (by decide) gM rfl (fun _ => rfl) (fun _ => rfl) (Nat.le_of_ble_eq_true rfl) ps_s9 rfl ?_
                refine AW.aload_n dX2_nextToken_300 rfl rfl ?_
                refine AW.dup dX2_nextToken_301 rfl rfl ?_
                refine AW.get ci2 7 (by decide) q1358 dX2_nextToken_302 gM rfl rfl ?_
                refine AW.iconst (v := 1) dX2_nextToken_305 (by decide) rfl ?_
                refine AW.iadd dX2_nextToken_306 rfl ?_
                refine AW.put ci2 7 (by decide) q1358 dX2_nextToken_307 (by decide) gM rfl (fun _ => rfl) (fun _ => rfl) (Nat.le_of_ble_eq_true rfl) ps_s7 rfl ?_
                have e9 : lexT (byteF (s.A 629) n) n p L = (nI (p + 2), nI p, if (byteF (s.A 629) n) p = 60 then 4 else 5, L.2.2.2.1, L.2.2.2.2) := by unfold lexT; rw [if_neg hpn, if_neg (by rw [c72]; decide), if_neg (by rw [c155]; decide), if_pos ⟨by first | exact Or.inl c263 | exact Or.inr c269, c282⟩]
                rw [e9]
                exact AW.vretE dX2_nextToken_310 rfl rfl (by rw [if_neg c289, ← e2]; first | done | rfl)
              · refine AW.iconst (v := 4) dX2_nextToken_292 (by decide) rfl ?_
                refine AW.goto (tgt := 297) dX2_nextToken_293 (by decide) ?_
                refine AW.put ci2 9 (by decide) q1360 dX2_nextToken_297 (by decide) gM rfl (fun _ => rfl) (fun _ => rfl) (Nat.le_of_ble_eq_true rfl) ps_s9 rfl ?_
                refine AW.aload_n dX2_nextToken_300 rfl rfl ?_
                refine AW.dup dX2_nextToken_301 rfl rfl ?_
                refine AW.get ci2 7 (by decide) q1358 dX2_nextToken_302 gM rfl rfl ?_
                refine AW.iconst (v := 1) dX2_nextToken_305 (by decide) rfl ?_
                refine AW.iadd dX2_nextToken_306 rfl ?_
                refine AW.put ci2 7 (by decide) q1358 dX2_nextToken_307 (by decide) gM rfl (fun _ => rfl) (fun _ => rfl) (Nat.le_of_ble_eq_true rfl) ps_s7 rfl ?_
                have e9 : lexT (byteF (s.A 629) n) n p L = (nI (p + 2), nI p, if (byteF (s.A 629) n) p = 60 then 4 else 5, L.2.2.2.1, L.2.2.2.2) := by unfold lexT; rw [if_neg hpn, if_neg (by rw [c72]; decide), if_neg (by rw [c155]; decide), if_pos ⟨by first | exact Or.inl c263 | exact Or.inr c269, c282⟩]
                rw [e9]
                exact AW.vretE dX2_nextToken_310 rfl rfl (by rw [if_pos c289, ← e2]; first | done | rfl)
          · refine AW.iload_n dX2_nextToken_266 rfl rfl ?_
            refine AW.bipush (v := 62) dX2_nextToken_267 (by decide) rfl ?_
            refine AW.icmp_ne (tgt := 310) dX2_nextToken_269 (by decide) rfl (fun c269 => ?_) (fun c269 => ?_)
            · have e9 : lexT (byteF (s.A 629) n) n p L = (nI (p + 1), nI p, if isSig ((byteF (s.A 629) n) p) = true then (byteF (s.A 629) n) p else 3, L.2.2.2.1, L.2.2.2.2) := by unfold lexT; rw [if_neg hpn, if_neg (by rw [c72]; decide), if_neg (by rw [c155]; decide), if_neg (fun z => by rcases z.1 with z | z; exact c263 z; exact c269 z)]
              rw [e9]
              exact AW.vretE dX2_nextToken_310 rfl rfl rfl
            · refine AW.aload_n dX2_nextToken_272 rfl rfl ?_
              refine AW.aload_n dX2_nextToken_273 rfl rfl ?_
              refine AW.get ci2 7 (by decide) q1358 dX2_nextToken_274 gM rfl rfl ?_
              refine AW.callV (Y := mX2_byteAt) (n := 1) (r_X2_byteAt n hn h300 (p + 1) (by omega)) (by decide) (by decide) rfl gM q1505 q1507 qs67 q141 q1508 dX2_nextToken_277 (by decide +kernel) rfl rfl (Nat.le_of_ble_eq_true rfl) rfl ?_
              refine AW.bipush (v := 61) dX2_nextToken_280 (by decide) rfl ?_
              refine AW.icmp_ne (tgt := 310) dX2_nextToken_282 (by decide) rfl (fun c282 => ?_) (fun c282 => ?_)
              · have e9 : lexT (byteF (s.A 629) n) n p L = (nI (p + 1), nI p, if isSig ((byteF (s.A 629) n) p) = true then (byteF (s.A 629) n) p else 3, L.2.2.2.1, L.2.2.2.2) := by unfold lexT; rw [if_neg hpn, if_neg (by rw [c72]; decide), if_neg (by rw [c155]; decide), if_neg (fun z => c282 z.2)]
                rw [e9]
                exact AW.vretE dX2_nextToken_310 rfl rfl rfl
              · have e2 : nI (p + 1) + 1 = nI (p + 2) := (nI_succ (p + 1)).symm
                refine AW.aload_n dX2_nextToken_285 rfl rfl ?_
                refine AW.iload_n dX2_nextToken_286 rfl rfl ?_
                refine AW.bipush (v := 60) dX2_nextToken_287 (by decide) rfl ?_
                refine AW.icmp_ne (tgt := 296) dX2_nextToken_289 (by decide) rfl (fun c289 => ?_) (fun c289 => ?_)
                · refine AW.iconst (v := 5) dX2_nextToken_296 (by decide) rfl ?_
                  refine AW.put ci2 9 (by decide) q1360 dX2_nextToken_297 (by decide) gM rfl (fun _ => rfl) (fun _ => rfl) (Nat.le_of_ble_eq_true rfl) ps_s9 rfl ?_
                  refine AW.aload_n dX2_nextToken_300 rfl rfl ?_
                  refine AW.dup dX2_nextToken_301 rfl rfl ?_
                  refine AW.get ci2 7 (by decide) q1358 dX2_nextToken_302 gM rfl rfl ?_
                  refine AW.iconst (v := 1) dX2_nextToken_305 (by decide) rfl ?_
                  refine AW.iadd dX2_nextToken_306 rfl ?_
                  refine AW.put ci2 7 (by decide) q1358 dX2_nextToken_307 (by decide) gM rfl (fun _ => rfl) (fun _ => rfl) (Nat.le_of_ble_eq_true rfl) ps_s7 rfl ?_
                  have e9 : lexT (byteF (s.A 629) n) n p L = (nI (p + 2), nI p, if (byteF (s.A 629) n) p = 60 then 4 else 5, L.2.2.2.1, L.2.2.2.2) := by unfold lexT; rw [if_neg hpn, if_neg (by rw [c72]; decide), if_neg (by rw [c155]; decide), if_pos ⟨by first | exact Or.inl c263 | exact Or.inr c269, c282⟩]
                  rw [e9]
                  exact AW.vretE dX2_nextToken_310 rfl rfl (by rw [if_neg c289, ← e2]; first | done | rfl)
                · refine AW.iconst (v := 4) dX2_nextToken_292 (by decide) rfl ?_
                  refine AW.goto (tgt := 297) dX2_nextToken_293 (by decide) ?_
                  refine AW.put ci2 9 (by decide) q1360 dX2_nextToken_297 (by decide) gM rfl (fun _ => rfl) (fun _ => rfl) (Nat.le_of_ble_eq_true rfl) ps_s9 rfl ?_
                  refine AW.aload_n dX2_nextToken_300 rfl rfl ?_
                  refine AW.dup dX2_nextToken_301 rfl rfl ?_
                  refine AW.get ci2 7 (by decide) q1358 dX2_nextToken_302 gM rfl rfl ?_
                  refine AW.iconst (v := 1) dX2_nextToken_305 (by decide) rfl ?_
                  refine AW.iadd dX2_nextToken_306 rfl ?_
                  refine AW.put ci2 7 (by decide) q1358 dX2_nextToken_307 (by decide) gM rfl (fun _ => rfl) (fun _ => rfl) (Nat.le_of_ble_eq_true rfl) ps_s7 rfl ?_
                  have e9 : lexT (byteF (s.A 629) n) n p L = (nI (p + 2), nI p, if (byteF (s.A 629) n) p = 60 then 4 else 5, L.2.2.2.1, L.2.2.2.2) := by unfold lexT; rw [if_neg hpn, if_neg (by rw [c72]; decide), if_neg (by rw [c155]; decide), if_pos ⟨by first | exact Or.inl c263 | exact Or.inr c269, c282⟩]
                  rw [e9]
                  exact AW.vretE dX2_nextToken_310 rfl rfl (by rw [if_pos c289, ← e2]; first | done | rfl)
        · refine AW.iload_n dX2_nextToken_242 rfl rfl ?_
          refine AW.goto (tgt := 247) dX2_nextToken_243 (by decide) ?_
          refine AW.put ci2 9 (by decide) q1360 dX2_nextToken_247 (by decide) gM rfl (fun _ => rfl) (fun _ => rfl) (Nat.le_of_ble_eq_true rfl) ps_s9 rfl ?_
          refine AW.aload_n dX2_nextToken_250 rfl rfl ?_
          refine AW.dup dX2_nextToken_251 rfl rfl ?_
          refine AW.get ci2 7 (by decide) q1358 dX2_nextToken_252 gM rfl rfl ?_
          refine AW.iconst (v := 1) dX2_nextToken_255 (by decide) rfl ?_
          refine AW.iadd dX2_nextToken_256 rfl ?_
          refine AW.put ci2 7 (by decide) q1358 dX2_nextToken_257 (by decide) gM rfl (fun _ => rfl) (fun _ => rfl) (Nat.le_of_ble_eq_true rfl) ps_s7 rfl ?_
          refine AW.hp (h2 := (hp (ps s (nI (p + 1), nI p, if isSig ((byteF (s.A 629) n) p) = true then (byteF (s.A 629) n) p else 3, L.2.2.2.1, L.2.2.2.2) G))) (by rw [nI_succ p]; first | (rw [if_pos c239]; rfl) | (rw [if_neg (by rw [c239]; decide)]; rfl)) ?_
          refine AW.iload_n dX2_nextToken_260 rfl rfl ?_
          refine AW.bipush (v := 60) dX2_nextToken_261 (by decide) rfl ?_
          refine AW.icmp_eq (tgt := 272) dX2_nextToken_263 (by decide) rfl (fun c263 => ?_) (fun c263 => ?_)
          · refine AW.aload_n dX2_nextToken_272 rfl rfl ?_
            refine AW.aload_n dX2_nextToken_273 rfl rfl ?_
            refine AW.get ci2 7 (by decide) q1358 dX2_nextToken_274 gM rfl rfl ?_
            refine AW.callV (Y := mX2_byteAt) (n := 1) (r_X2_byteAt n hn h300 (p + 1) (by omega)) (by decide) (by decide) rfl gM q1505 q1507 qs67 q141 q1508 dX2_nextToken_277 (by decide +kernel) rfl rfl (Nat.le_of_ble_eq_true rfl) rfl ?_
            refine AW.bipush (v := 61) dX2_nextToken_280 (by decide) rfl ?_
            refine AW.icmp_ne (tgt := 310) dX2_nextToken_282 (by decide) rfl (fun c282 => ?_) (fun c282 => ?_)
            · have e9 : lexT (byteF (s.A 629) n) n p L = (nI (p + 1), nI p, if isSig ((byteF (s.A 629) n) p) = true then (byteF (s.A 629) n) p else 3, L.2.2.2.1, L.2.2.2.2) := by unfold lexT; rw [if_neg hpn, if_neg (by rw [c72]; decide), if_neg (by rw [c155]; decide), if_neg (fun z => c282 z.2)]
              rw [e9]
              exact AW.vretE dX2_nextToken_310 rfl rfl rfl
            · have e2 : nI (p + 1) + 1 = nI (p + 2) := (nI_succ (p + 1)).symm
              refine AW.aload_n dX2_nextToken_285 rfl rfl ?_
              refine AW.iload_n dX2_nextToken_286 rfl rfl ?_
              refine AW.bipush (v := 60) dX2_nextToken_287 (by decide) rfl ?_
              refine AW.icmp_ne (tgt := 296) dX2_nextToken_289 (by decide) rfl (fun c289 => ?_) (fun c289 => ?_)
              · refine AW.iconst (v := 5) dX2_nextToken_296 (by decide) rfl ?_
                refine AW.put ci2 9 (by decide) q1360 dX2_nextToken_297 (by decide) gM rfl (fun _ => rfl) (fun _ => rfl) (Nat.le_of_ble_eq_true rfl) ps_s9 rfl ?_
                refine AW.aload_n dX2_nextToken_300 rfl rfl ?_
                refine AW.dup dX2_nextToken_301 rfl rfl ?_
                refine AW.get ci2 7 (by decide) q1358 dX2_nextToken_302 gM rfl rfl ?_
                refine AW.iconst (v := 1) dX2_nextToken_305 (by decide) rfl ?_
                refine AW.iadd dX2_nextToken_306 rfl ?_
                refine AW.put ci2 7 (by decide) q1358 dX2_nextToken_307 (by decide) gM rfl (fun _ => rfl) (fun _ => rfl) (Nat.le_of_ble_eq_true rfl) ps_s7 rfl ?_
                have e9 : lexT (byteF (s.A 629) n) n p L = (nI (p + 2), nI p, if (byteF (s.A 629) n) p = 60 then 4 else 5, L.2.2.2.1, L.2.2.2.2) := by unfold lexT; rw [if_neg hpn, if_neg (by rw [c72]; decide), if_neg (by rw [c155]; decide), if_pos ⟨by first | exact Or.inl c263 | exact Or.inr c269, c282⟩]
                rw [e9]
                exact AW.vretE dX2_nextToken_310 rfl rfl (by rw [if_neg c289, ← e2]; first | done | rfl)
              · refine AW.iconst (v := 4) dX2_nextToken_292 (by decide) rfl ?_
                refine AW.goto (tgt := 297) dX2_nextToken_293 (by decide) ?_
                refine AW.put ci2 9 (by decide) q1360 dX2_nextToken_297 (by decide) gM rfl (fun _ => rfl) (fun _ => rfl) (Nat.le_of_ble_eq_true rfl) ps_s9 rfl ?_
                refine AW.aload_n dX2_nextToken_300 rfl rfl ?_
                refine AW.dup dX2_nextToken_301 rfl rfl ?_
                refine AW.get ci2 7 (by decide) q1358 dX2_nextToken_302 gM rfl rfl ?_
                refine AW.iconst (v := 1) dX2_nextToken_305 (by decide) rfl ?_
                refine AW.iadd dX2_nextToken_306 rfl ?_
                refine AW.put ci2 7 (by decide) q1358 dX2_nextToken_307 (by decide) gM rfl (fun _ => rfl) (fun _ => rfl) (Nat.le_of_ble_eq_true rfl) ps_s7 rfl ?_
                have e9 : lexT (byteF (s.A 629) n) n p L = (nI (p + 2), nI p, if (byteF (s.A 629) n) p = 60 then 4 else 5, L.2.2.2.1, L.2.2.2.2) := by unfold lexT; rw [if_neg hpn, if_neg (by rw [c72]; decide), if_neg (by rw [c155]; decide), if_pos ⟨by first | exact Or.inl c263 | exact Or.inr c269, c282⟩]
                rw [e9]
                exact AW.vretE dX2_nextToken_310 rfl rfl (by rw [if_pos c289, ← e2]; first | done | rfl)
          · refine AW.iload_n dX2_nextToken_266 rfl rfl ?_
            refine AW.bipush (v := 62) dX2_nextToken_267 (by decide) rfl ?_
            refine AW.icmp_ne (tgt := 310) dX2_nextToken_269 (by decide) rfl (fun c269 => ?_) (fun c269 => ?_)
            · have e9 : lexT (byteF (s.A 629) n) n p L = (nI (p + 1), nI p, if isSig ((byteF (s.A 629) n) p) = true then (byteF (s.A 629) n) p else 3, L.2.2.2.1, L.2.2.2.2) := by unfold lexT; rw [if_neg hpn, if_neg (by rw [c72]; decide), if_neg (by rw [c155]; decide), if_neg (fun z => by rcases z.1 with z | z; exact c263 z; exact c269 z)]
              rw [e9]
              exact AW.vretE dX2_nextToken_310 rfl rfl rfl
            · refine AW.aload_n dX2_nextToken_272 rfl rfl ?_
              refine AW.aload_n dX2_nextToken_273 rfl rfl ?_
              refine AW.get ci2 7 (by decide) q1358 dX2_nextToken_274 gM rfl rfl ?_
              refine AW.callV (Y := mX2_byteAt) (n := 1) (r_X2_byteAt n hn h300 (p + 1) (by omega)) (by decide) (by decide) rfl gM q1505 q1507 qs67 q141 q1508 dX2_nextToken_277 (by decide +kernel) rfl rfl (Nat.le_of_ble_eq_true rfl) rfl ?_
              refine AW.bipush (v := 61) dX2_nextToken_280 (by decide) rfl ?_
              refine AW.icmp_ne (tgt := 310) dX2_nextToken_282 (by decide) rfl (fun c282 => ?_) (fun c282 => ?_)
              · have e9 : lexT (byteF (s.A 629) n) n p L = (nI (p + 1), nI p, if isSig ((byteF (s.A 629) n) p) = true then (byteF (s.A 629) n) p else 3, L.2.2.2.1, L.2.2.2.2) := by unfold lexT; rw [if_neg hpn, if_neg (by rw [c72]; decide), if_neg (by rw [c155]; decide), if_neg (fun z => c282 z.2)]
                rw [e9]
                exact AW.vretE dX2_nextToken_310 rfl rfl rfl
              · have e2 : nI (p + 1) + 1 = nI (p + 2) := (nI_succ (p + 1)).symm
                refine AW.aload_n dX2_nextToken_285 rfl rfl ?_
                refine AW.iload_n dX2_nextToken_286 rfl rfl ?_
                refine AW.bipush (v := 60) dX2_nextToken_287 (by decide) rfl ?_
                refine AW.icmp_ne (tgt := 296) dX2_nextToken_289 (by decide) rfl (fun c289 => ?_) (fun c289 => ?_)
                · refine AW.iconst (v := 5) dX2_nextToken_296 (by decide) rfl ?_
                  refine AW.put ci2 9 (by decide) q1360 dX2_nextToken_297 (by decide) gM rfl (fun _ => rfl) (fun _ => rfl) (Nat.le_of_ble_eq_true rfl) ps_s9 rfl ?_
                  refine AW.aload_n dX2_nextToken_300 rfl rfl ?_
                  refine AW.dup dX2_nextToken_301 rfl rfl ?_
                  refine AW.get ci2 7 (by decide) q1358 dX2_nextToken_302 gM rfl rfl ?_
                  refine AW.iconst (v := 1) dX2_nextToken_305 (by decide) rfl ?_
                  refine AW.iadd dX2_nextToken_306 rfl ?_
                  refine AW.put ci2 7 (by decide) q1358 dX2_nextToken_307 (by decide) gM rfl (fun _ => rfl) (fun _ => rfl) (Nat.le_of_ble_eq_true rfl) ps_s7 rfl ?_
                  have e9 : lexT (byteF (s.A 629) n) n p L = (nI (p + 2), nI p, if (byteF (s.A 629) n) p = 60 then 4 else 5, L.2.2.2.1, L.2.2.2.2) := by unfold lexT; rw [if_neg hpn, if_neg (by rw [c72]; decide), if_neg (by rw [c155]; decide), if_pos ⟨by first | exact Or.inl c263 | exact Or.inr c269, c282⟩]
                  rw [e9]
                  exact AW.vretE dX2_nextToken_310 rfl rfl (by rw [if_neg c289, ← e2]; first | done | rfl)
                · refine AW.iconst (v := 4) dX2_nextToken_292 (by decide) rfl ?_
                  refine AW.goto (tgt := 297) dX2_nextToken_293 (by decide) ?_
                  refine AW.put ci2 9 (by decide) q1360 dX2_nextToken_297 (by decide) gM rfl (fun _ => rfl) (fun _ => rfl) (Nat.le_of_ble_eq_true rfl) ps_s9 rfl ?_
                  refine AW.aload_n dX2_nextToken_300 rfl rfl ?_
                  refine AW.dup dX2_nextToken_301 rfl rfl ?_
                  refine AW.get ci2 7 (by decide) q1358 dX2_nextToken_302 gM rfl rfl ?_
                  refine AW.iconst (v := 1) dX2_nextToken_305 (by decide) rfl ?_
                  refine AW.iadd dX2_nextToken_306 rfl ?_
                  refine AW.put ci2 7 (by decide) q1358 dX2_nextToken_307 (by decide) gM rfl (fun _ => rfl) (fun _ => rfl) (Nat.le_of_ble_eq_true rfl) ps_s7 rfl ?_
                  have e9 : lexT (byteF (s.A 629) n) n p L = (nI (p + 2), nI p, if (byteF (s.A 629) n) p = 60 then 4 else 5, L.2.2.2.1, L.2.2.2.2) := by unfold lexT; rw [if_neg hpn, if_neg (by rw [c72]; decide), if_neg (by rw [c155]; decide), if_pos ⟨by first | exact Or.inl c263 | exact Or.inr c269, c282⟩]
                  rw [e9]
                  exact AW.vretE dX2_nextToken_310 rfl rfl (by rw [if_pos c289, ← e2]; first | done | rfl)
      · refine AW.aload_n dX2_nextToken_158 rfl rfl ?_
        refine AW.iconst (v := 2) dX2_nextToken_159 (by decide) rfl ?_
        refine AW.put ci2 9 (by decide) q1360 dX2_nextToken_160 (by decide) gM rfl (fun _ => rfl) (fun _ => rfl) (Nat.le_of_ble_eq_true rfl) ps_s9 rfl ?_
        refine AW.aload_n dX2_nextToken_163 rfl rfl ?_
        refine AW.lconst (v := 0) dX2_nextToken_164 (by decide) rfl ?_
        refine AW.put ci2 11 (by decide) q1362 dX2_nextToken_165 (by decide) gM rfl (fun _ => rfl) (fun _ => rfl) (Nat.le_of_ble_eq_true rfl) ps_sw rfl ?_
        have e9 : lexT (byteF (s.A 629) n) n p L = (nI (spn isLet (byteF (s.A 629) n) n p), nI p, 2, L.2.2.2.1, acc isLet (byteF (s.A 629) n) wordM n p 0) := by unfold lexT; rw [if_neg hpn, if_neg (by rw [c72]; decide), if_pos c155]
        generalize hq : spn isLet (byteF (s.A 629) n) n p = q at e9
        generalize hA : acc isLet (byteF (s.A 629) n) wordM n p 0 = A at e9
        rw [e9]
        refine loopUp (P := fun k => ∀ a, spn isLet (byteF (s.A 629) n) n k = q → acc isLet (byteF (s.A 629) n) wordM n k a = A → AW 3 mX2_nextToken (hp (ps s (nI k, nI p, 2, L.2.2.2.1, a) G)) 168 [some (.ref 625), some (.int ((byteF (s.A 629) n) p))] [] (.inl none) (hp (ps s (nI q, nI p, 2, L.2.2.2.1, A) G))) n ?_ ?_ p (by omega) 0 hq hA
        · intro a hq2 hA2
          refine AW.aload_n dX2_nextToken_168 rfl rfl ?_
          refine AW.aload_n dX2_nextToken_169 rfl rfl ?_
          refine AW.get ci2 7 (by decide) q1358 dX2_nextToken_170 gM rfl rfl ?_
          refine AW.callV (Y := mX2_byteAt) (n := 1) (r_X2_byteAt n hn h300 (n) (by omega)) (by decide) (by decide) rfl gM q1505 q1507 qs67 q141 q1508 dX2_nextToken_173 (by decide +kernel) rfl rfl (Nat.le_of_ble_eq_true rfl) rfl ?_
          refine AW.callS (Y := mX2_isLetterByte) (n := 1) (r_X2_isLetterByte _) (by decide) (by decide) q1513 q1514 q141 q1515 dX2_nextToken_176 (by decide +kernel) rfl rfl (Nat.le_of_ble_eq_true rfl) rfl ?_
          refine AW.if_eqB (tgt := 310) dX2_nextToken_179 (by decide) rfl (fun _ => ?_) (fun c_ => by first | exact absurd c_ (by rw [byteF_n]; decide) | exact absurd (by rw [byteF_n]; decide) c_ | exact absurd c_ (not_not_intro (by rw [byteF_n]; decide)) | exact Bool.noConfusion (c_.symm.trans (by rw [byteF_n]; decide)))
          exact AW.vretE dX2_nextToken_310 rfl rfl (by rw [← hq2, ← hA2, spn_e, acc_e])
        · intro k hk ihk
          intro a hq2 hA2
          refine AW.aload_n dX2_nextToken_168 rfl rfl ?_
          refine AW.aload_n dX2_nextToken_169 rfl rfl ?_
          refine AW.get ci2 7 (by decide) q1358 dX2_nextToken_170 gM rfl rfl ?_
          refine AW.callV (Y := mX2_byteAt) (n := 1) (r_X2_byteAt n hn h300 (k) (by omega)) (by decide) (by decide) rfl gM q1505 q1507 qs67 q141 q1508 dX2_nextToken_173 (by decide +kernel) rfl rfl (Nat.le_of_ble_eq_true rfl) rfl ?_
          refine AW.callS (Y := mX2_isLetterByte) (n := 1) (r_X2_isLetterByte _) (by decide) (by decide) q1513 q1514 q141 q1515 dX2_nextToken_176 (by decide +kernel) rfl rfl (Nat.le_of_ble_eq_true rfl) rfl ?_
          refine AW.if_eqB (tgt := 310) dX2_nextToken_179 (by decide) rfl (fun c179 => ?_) (fun c179 => ?_)
          · exact AW.vretE dX2_nextToken_310 rfl rfl (by rw [← hq2, ← hA2, spn_f hk c179, acc_f hk c179])
          · refine AW.aload_n dX2_nextToken_182 rfl rfl ?_
            refine AW.aload_n dX2_nextToken_183 rfl rfl ?_
            refine AW.get ci2 11 (by decide) q1362 dX2_nextToken_184 gM rfl rfl ?_
            refine AW.bipush (v := 48) dX2_nextToken_187 (by decide) rfl ?_
            refine AW.lshr dX2_nextToken_189 rfl ?_
            refine AW.lconst (v := 0) dX2_nextToken_190 (by decide) rfl ?_
            refine AW.lcmp dX2_nextToken_191 rfl ?_
            refine AW.if_eq (tgt := 201) dX2_nextToken_192 (by decide) rfl (fun c192 => ?_) (fun c192 => ?_)
            · refine AW.aload_n dX2_nextToken_201 rfl rfl ?_
              refine AW.get ci2 11 (by decide) q1362 dX2_nextToken_202 gM rfl rfl ?_
              refine AW.bipush (v := 8) dX2_nextToken_205 (by decide) rfl ?_
              refine AW.lshl dX2_nextToken_207 rfl ?_
              refine AW.aload_n dX2_nextToken_208 rfl rfl ?_
              refine AW.aload_n dX2_nextToken_209 rfl rfl ?_
              refine AW.get ci2 7 (by decide) q1358 dX2_nextToken_210 gM rfl rfl ?_
              refine AW.callV (Y := mX2_byteAt) (n := 1) (r_X2_byteAt n hn h300 (k) (by omega)) (by decide) (by decide) rfl gM q1505 q1507 qs67 q141 q1508 dX2_nextToken_213 (by decide +kernel) rfl rfl (Nat.le_of_ble_eq_true rfl) rfl ?_
              refine AW.i2l dX2_nextToken_216 rfl ?_
              refine AW.lor dX2_nextToken_217 rfl ?_
              refine AW.put ci2 11 (by decide) q1362 dX2_nextToken_218 (by decide) gM rfl (fun _ => rfl) (fun _ => rfl) (Nat.le_of_ble_eq_true rfl) ps_sw rfl ?_
              refine AW.aload_n dX2_nextToken_221 rfl rfl ?_
              refine AW.dup dX2_nextToken_222 rfl rfl ?_
              refine AW.get ci2 7 (by decide) q1358 dX2_nextToken_223 gM rfl rfl ?_
              refine AW.iconst (v := 1) dX2_nextToken_226 (by decide) rfl ?_
              refine AW.iadd dX2_nextToken_227 rfl ?_
              refine AW.put ci2 7 (by decide) q1358 dX2_nextToken_228 (by decide) gM rfl (fun _ => rfl) (fun _ => rfl) (Nat.le_of_ble_eq_true rfl) ps_s7 rfl ?_
              refine AW.goto (tgt := 168) dX2_nextToken_231 (by decide) ?_
              have e7 : acc isLet (byteF (s.A 629) n) wordM n k a = acc isLet (byteF (s.A 629) n) wordM n (k + 1) (wordM a ((byteF (s.A 629) n) k)) := acc_t hk c179
              have c193 : a >>> 48 = 0 := by rw [lg_cmp_eq] at c192; exact c192
              have e6 : wordM a ((byteF (s.A 629) n) k) = a <<< 8 ||| ((byteF (s.A 629) n) k).toInt64 := if_pos c193
              rw [e6] at e7
              exact AW.hp (h2 := (hp (ps s (nI (k + 1), nI p, 2, L.2.2.2.1, _) G))) (by rw [nI_succ k]; rfl) (ihk _ ((spn_t hk c179).symm.trans hq2) (e7.symm.trans hA2))
            · refine AW.ldc2 dX2_nextToken_195 q1516 rfl ?_
              refine AW.goto (tgt := 218) dX2_nextToken_198 (by decide) ?_
              refine AW.put ci2 11 (by decide) q1362 dX2_nextToken_218 (by decide) gM rfl (fun _ => rfl) (fun _ => rfl) (Nat.le_of_ble_eq_true rfl) ps_sw rfl ?_
              refine AW.aload_n dX2_nextToken_221 rfl rfl ?_
              refine AW.dup dX2_nextToken_222 rfl rfl ?_
              refine AW.get ci2 7 (by decide) q1358 dX2_nextToken_223 gM rfl rfl ?_
              refine AW.iconst (v := 1) dX2_nextToken_226 (by decide) rfl ?_
              refine AW.iadd dX2_nextToken_227 rfl ?_
              refine AW.put ci2 7 (by decide) q1358 dX2_nextToken_228 (by decide) gM rfl (fun _ => rfl) (fun _ => rfl) (Nat.le_of_ble_eq_true rfl) ps_s7 rfl ?_
              refine AW.goto (tgt := 168) dX2_nextToken_231 (by decide) ?_
              have e7 : acc isLet (byteF (s.A 629) n) wordM n k a = acc isLet (byteF (s.A 629) n) wordM n (k + 1) (wordM a ((byteF (s.A 629) n) k)) := acc_t hk c179
              have c193 : ¬ a >>> 48 = 0 := by rw [lg_cmp_eq] at c192; exact c192
              have e6 : wordM a ((byteF (s.A 629) n) k) = 1152921504606846976 := if_neg c193
              rw [e6] at e7
              exact AW.hp (h2 := (hp (ps s (nI (k + 1), nI p, 2, L.2.2.2.1, _) G))) (by rw [nI_succ k]; rfl) (ihk _ ((spn_t hk c179).symm.trans hq2) (e7.symm.trans hA2))
    · refine AW.aload_n dX2_nextToken_75 rfl rfl ?_
      refine AW.iconst (v := 1) dX2_nextToken_76 (by decide) rfl ?_
      refine AW.put ci2 9 (by decide) q1360 dX2_nextToken_77 (by decide) gM rfl (fun _ => rfl) (fun _ => rfl) (Nat.le_of_ble_eq_true rfl) ps_s9 rfl ?_
      refine AW.aload_n dX2_nextToken_80 rfl rfl ?_
      refine AW.iconst (v := 0) dX2_nextToken_81 (by decide) rfl ?_
      refine AW.put ci2 10 (by decide) q1361 dX2_nextToken_82 (by decide) gM rfl (fun _ => rfl) (fun _ => rfl) (Nat.le_of_ble_eq_true rfl) ps_s10 rfl ?_
      have e9 : lexT (byteF (s.A 629) n) n p L = (nI (spn isFig (byteF (s.A 629) n) n p), nI p, 1, acc isFig (byteF (s.A 629) n) numM n p 0, L.2.2.2.2) := by unfold lexT; rw [if_neg hpn, if_pos c72]
      generalize hq : spn isFig (byteF (s.A 629) n) n p = q at e9
      generalize hA : acc isFig (byteF (s.A 629) n) numM n p 0 = A at e9
      rw [e9]
      refine loopUp (P := fun k => ∀ a, spn isFig (byteF (s.A 629) n) n k = q → acc isFig (byteF (s.A 629) n) numM n k a = A → AW 3 mX2_nextToken (hp (ps s (nI k, nI p, 1, a, L.2.2.2.2) G)) 85 [some (.ref 625), some (.int ((byteF (s.A 629) n) p))] [] (.inl none) (hp (ps s (nI q, nI p, 1, A, L.2.2.2.2) G))) n ?_ ?_ p (by omega) 0 hq hA
      · intro a hq2 hA2
        refine AW.aload_n dX2_nextToken_85 rfl rfl ?_
        refine AW.aload_n dX2_nextToken_86 rfl rfl ?_
        refine AW.get ci2 7 (by decide) q1358 dX2_nextToken_87 gM rfl rfl ?_
        refine AW.callV (Y := mX2_byteAt) (n := 1) (r_X2_byteAt n hn h300 (n) (by omega)) (by decide) (by decide) rfl gM q1505 q1507 qs67 q141 q1508 dX2_nextToken_90 (by decide +kernel) rfl rfl (Nat.le_of_ble_eq_true rfl) rfl ?_
        refine AW.callS (Y := mX2_isFigure) (n := 1) (r_X2_isFigure _) (by decide) (by decide) q1509 q1510 q141 q1511 dX2_nextToken_93 (by decide +kernel) rfl rfl (Nat.le_of_ble_eq_true rfl) rfl ?_
        refine AW.if_eqB (tgt := 310) dX2_nextToken_96 (by decide) rfl (fun _ => ?_) (fun c_ => by first | exact absurd c_ (by rw [byteF_n]; decide) | exact absurd (by rw [byteF_n]; decide) c_ | exact absurd c_ (not_not_intro (by rw [byteF_n]; decide)) | exact Bool.noConfusion (c_.symm.trans (by rw [byteF_n]; decide)))
        exact AW.vretE dX2_nextToken_310 rfl rfl (by rw [← hq2, ← hA2, spn_e, acc_e])
      · intro k hk ihk
        intro a hq2 hA2
        refine AW.aload_n dX2_nextToken_85 rfl rfl ?_
        refine AW.aload_n dX2_nextToken_86 rfl rfl ?_
        refine AW.get ci2 7 (by decide) q1358 dX2_nextToken_87 gM rfl rfl ?_
        refine AW.callV (Y := mX2_byteAt) (n := 1) (r_X2_byteAt n hn h300 (k) (by omega)) (by decide) (by decide) rfl gM q1505 q1507 qs67 q141 q1508 dX2_nextToken_90 (by decide +kernel) rfl rfl (Nat.le_of_ble_eq_true rfl) rfl ?_
        refine AW.callS (Y := mX2_isFigure) (n := 1) (r_X2_isFigure _) (by decide) (by decide) q1509 q1510 q141 q1511 dX2_nextToken_93 (by decide +kernel) rfl rfl (Nat.le_of_ble_eq_true rfl) rfl ?_
        refine AW.if_eqB (tgt := 310) dX2_nextToken_96 (by decide) rfl (fun c96 => ?_) (fun c96 => ?_)
        · exact AW.vretE dX2_nextToken_310 rfl rfl (by rw [← hq2, ← hA2, spn_f hk c96, acc_f hk c96])
        · refine AW.aload_n dX2_nextToken_99 rfl rfl ?_
          refine AW.aload_n dX2_nextToken_100 rfl rfl ?_
          refine AW.get ci2 10 (by decide) q1361 dX2_nextToken_101 gM rfl rfl ?_
          refine AW.ldc dX2_nextToken_104 q1512 rfl ?_
          refine AW.icmp_le (tgt := 116) dX2_nextToken_106 (by decide) rfl (fun c106 => ?_) (fun c106 => ?_)
          · refine AW.bipush (v := 10) dX2_nextToken_116 (by decide) rfl ?_
            refine AW.aload_n dX2_nextToken_118 rfl rfl ?_
            refine AW.get ci2 10 (by decide) q1361 dX2_nextToken_119 gM rfl rfl ?_
            refine AW.imul dX2_nextToken_122 rfl ?_
            refine AW.aload_n dX2_nextToken_123 rfl rfl ?_
            refine AW.aload_n dX2_nextToken_124 rfl rfl ?_
            refine AW.get ci2 7 (by decide) q1358 dX2_nextToken_125 gM rfl rfl ?_
            refine AW.callV (Y := mX2_byteAt) (n := 1) (r_X2_byteAt n hn h300 (k) (by omega)) (by decide) (by decide) rfl gM q1505 q1507 qs67 q141 q1508 dX2_nextToken_128 (by decide +kernel) rfl rfl (Nat.le_of_ble_eq_true rfl) rfl ?_
            refine AW.iadd dX2_nextToken_131 rfl ?_
            refine AW.bipush (v := 48) dX2_nextToken_132 (by decide) rfl ?_
            refine AW.isub dX2_nextToken_134 rfl ?_
            refine AW.put ci2 10 (by decide) q1361 dX2_nextToken_135 (by decide) gM rfl (fun _ => rfl) (fun _ => rfl) (Nat.le_of_ble_eq_true rfl) ps_s10 rfl ?_
            refine AW.aload_n dX2_nextToken_138 rfl rfl ?_
            refine AW.dup dX2_nextToken_139 rfl rfl ?_
            refine AW.get ci2 7 (by decide) q1358 dX2_nextToken_140 gM rfl rfl ?_
            refine AW.iconst (v := 1) dX2_nextToken_143 (by decide) rfl ?_
            refine AW.iadd dX2_nextToken_144 rfl ?_
            refine AW.put ci2 7 (by decide) q1358 dX2_nextToken_145 (by decide) gM rfl (fun _ => rfl) (fun _ => rfl) (Nat.le_of_ble_eq_true rfl) ps_s7 rfl ?_
            refine AW.goto (tgt := 85) dX2_nextToken_148 (by decide) ?_
            have e7 : acc isFig (byteF (s.A 629) n) numM n k a = acc isFig (byteF (s.A 629) n) numM n (k + 1) (numM a ((byteF (s.A 629) n) k)) := acc_t hk c96
            have e6 : numM a ((byteF (s.A 629) n) k) = 10 * a + (byteF (s.A 629) n) k - 48 := if_neg (Int32.not_lt.mpr c106)
            rw [e6] at e7
            exact AW.hp (h2 := (hp (ps s (nI (k + 1), nI p, 1, _, L.2.2.2.2) G))) (by rw [nI_succ k]; rfl) (ihk _ ((spn_t hk c96).symm.trans hq2) (e7.symm.trans hA2))
          · refine AW.aload_n dX2_nextToken_109 rfl rfl ?_
            refine AW.get ci2 10 (by decide) q1361 dX2_nextToken_110 gM rfl rfl ?_
            refine AW.goto (tgt := 135) dX2_nextToken_113 (by decide) ?_
            refine AW.put ci2 10 (by decide) q1361 dX2_nextToken_135 (by decide) gM rfl (fun _ => rfl) (fun _ => rfl) (Nat.le_of_ble_eq_true rfl) ps_s10 rfl ?_
            refine AW.aload_n dX2_nextToken_138 rfl rfl ?_
            refine AW.dup dX2_nextToken_139 rfl rfl ?_
            refine AW.get ci2 7 (by decide) q1358 dX2_nextToken_140 gM rfl rfl ?_
            refine AW.iconst (v := 1) dX2_nextToken_143 (by decide) rfl ?_
            refine AW.iadd dX2_nextToken_144 rfl ?_
            refine AW.put ci2 7 (by decide) q1358 dX2_nextToken_145 (by decide) gM rfl (fun _ => rfl) (fun _ => rfl) (Nat.le_of_ble_eq_true rfl) ps_s7 rfl ?_
            refine AW.goto (tgt := 85) dX2_nextToken_148 (by decide) ?_
            have e7 : acc isFig (byteF (s.A 629) n) numM n k a = acc isFig (byteF (s.A 629) n) numM n (k + 1) (numM a ((byteF (s.A 629) n) k)) := acc_t hk c96
            have e6 : numM a ((byteF (s.A 629) n) k) = a := if_pos (Int32.not_le.mp c106)
            rw [e6] at e7
            exact AW.hp (h2 := (hp (ps s (nI (k + 1), nI p, 1, _, L.2.2.2.2) G))) (by rw [nI_succ k]; rfl) (ihk _ ((spn_t hk c96).symm.trans hq2) (e7.symm.trans hA2))
  · have hpn : p = n := by
      apply Classical.byContradiction
      intro z
      have h9 := hb p (by omega)
      rw [byteF_k (by omega)] at c57
      exact c57 h9
    refine AW.aload_n dX2_nextToken_60 rfl rfl ?_
    refine AW.iconst (v := 0) dX2_nextToken_61 (by decide) rfl ?_
    refine AW.put ci2 9 (by decide) q1360 dX2_nextToken_62 (by decide) gM rfl (fun _ => rfl) (fun _ => rfl) (Nat.le_of_ble_eq_true rfl) ps_s9 rfl ?_
    refine AW.goto (tgt := 310) dX2_nextToken_65 (by decide) ?_
    exact AW.vretE dX2_nextToken_310 rfl rfl (by unfold lexT; rw [if_pos hpn]; rfl)
theorem r_X2_nextToken {s : Sg} {L : Lq} {G : Gq} (n : Nat) (hn : s.S 4 = nI n) (h300 : n ≤ 300) (hb : ∀ k, k < n → 0 ≤ s.A 629 k) (k0 : Nat) (hk0 : k0 ≤ n) (hL : L.1 = nI k0) : Run 3 mX2_nextToken [.ref 625] (hp (ps s L G)) (.inl none) (hp (ps s (lexL (s.A 629) n k0 L) G)) := by
  have e0 : L = (nI k0, L.2) := by rw [← hL]
  have hpl := spn_le (p := isWs) (B := (byteF (s.A 629) n)) hk0
  show Run 3 mX2_nextToken [.ref 625] (hp (ps s L G)) (.inl none) (hp (ps s (lexT (byteF (s.A 629) n) n (spn isWs (byteF (s.A 629) n) n k0) L) G))
  generalize hp0 : spn isWs (byteF (s.A 629) n) n k0 = p at *
  refine Run.of rfl (Nat.le_of_ble_eq_true rfl) rfl ?_
  refine AW.hp (h2 := (hp (ps s (nI k0, L.2) G))) (by rw [← e0]) ?_
  refine loopUp (P := fun k => spn isWs (byteF (s.A 629) n) n k = p → AW 3 mX2_nextToken (hp (ps s (nI k, L.2) G)) 0 [some (.ref 625), none] [] (.inl none) (hp (ps s (lexT (byteF (s.A 629) n) n p L) G))) n ?_ ?_ k0 hk0 hp0
  · intro hsp
    refine AW.aload_n dX2_nextToken_0 rfl rfl ?_
    refine AW.aload_n dX2_nextToken_1 rfl rfl ?_
    refine AW.get ci2 7 (by decide) q1358 dX2_nextToken_2 gM rfl rfl ?_
    refine AW.callV (Y := mX2_byteAt) (n := 1) (r_X2_byteAt n hn h300 (n) (by omega)) (by decide) (by decide) rfl gM q1505 q1507 qs67 q141 q1508 dX2_nextToken_5 (by decide +kernel) rfl rfl (Nat.le_of_ble_eq_true rfl) rfl ?_
    refine AW.bipush (v := 32) dX2_nextToken_8 (by decide) rfl ?_
    refine AW.icmp_eq (tgt := 26) dX2_nextToken_10 (by decide) rfl (fun c_ => by first | exact absurd c_ (by rw [byteF_n]; decide) | exact absurd (by rw [byteF_n]; decide) c_ | exact Bool.noConfusion (c_.symm.trans (by rw [byteF_n]; decide))) (fun _ => ?_)
    refine AW.aload_n dX2_nextToken_13 rfl rfl ?_
    refine AW.aload_n dX2_nextToken_14 rfl rfl ?_
    refine AW.get ci2 7 (by decide) q1358 dX2_nextToken_15 gM rfl rfl ?_
    refine AW.callV (Y := mX2_byteAt) (n := 1) (r_X2_byteAt n hn h300 (n) (by omega)) (by decide) (by decide) rfl gM q1505 q1507 qs67 q141 q1508 dX2_nextToken_18 (by decide +kernel) rfl rfl (Nat.le_of_ble_eq_true rfl) rfl ?_
    refine AW.bipush (v := 10) dX2_nextToken_21 (by decide) rfl ?_
    refine AW.icmp_ne (tgt := 39) dX2_nextToken_23 (by decide) rfl (fun _ => ?_) (fun c_ => by first | exact absurd c_ (by rw [byteF_n]; decide) | exact absurd (by rw [byteF_n]; decide) c_ | exact absurd c_ (not_not_intro (by rw [byteF_n]; decide)) | exact Bool.noConfusion (c_.symm.trans (by rw [byteF_n]; decide)))
    have e3 : n = p := spn_e.symm.trans hsp
    subst e3
    exact nt_39 n hn h300 hb n (Nat.le_refl _)
  · intro k hk ihk
    intro hsp
    refine AW.aload_n dX2_nextToken_0 rfl rfl ?_
    refine AW.aload_n dX2_nextToken_1 rfl rfl ?_
    refine AW.get ci2 7 (by decide) q1358 dX2_nextToken_2 gM rfl rfl ?_
    refine AW.callV (Y := mX2_byteAt) (n := 1) (r_X2_byteAt n hn h300 (k) (by omega)) (by decide) (by decide) rfl gM q1505 q1507 qs67 q141 q1508 dX2_nextToken_5 (by decide +kernel) rfl rfl (Nat.le_of_ble_eq_true rfl) rfl ?_
    refine AW.bipush (v := 32) dX2_nextToken_8 (by decide) rfl ?_
    refine AW.icmp_eq (tgt := 26) dX2_nextToken_10 (by decide) rfl (fun c10 => ?_) (fun c10 => ?_)
    · refine AW.aload_n dX2_nextToken_26 rfl rfl ?_
      refine AW.dup dX2_nextToken_27 rfl rfl ?_
      refine AW.get ci2 7 (by decide) q1358 dX2_nextToken_28 gM rfl rfl ?_
      refine AW.iconst (v := 1) dX2_nextToken_31 (by decide) rfl ?_
      refine AW.iadd dX2_nextToken_32 rfl ?_
      refine AW.put ci2 7 (by decide) q1358 dX2_nextToken_33 (by decide) gM rfl (fun _ => rfl) (fun _ => rfl) (Nat.le_of_ble_eq_true rfl) ps_s7 rfl ?_
      refine AW.goto (tgt := 0) dX2_nextToken_36 (by decide) ?_
      exact AW.hp (h2 := (hp (ps s (nI (k + 1), L.2) G))) (by rw [nI_succ k]; rfl) (ihk ((spn_t hk (by unfold isWs; rw [decide_eq_true c10]; rfl)).symm.trans hsp))
    · refine AW.aload_n dX2_nextToken_13 rfl rfl ?_
      refine AW.aload_n dX2_nextToken_14 rfl rfl ?_
      refine AW.get ci2 7 (by decide) q1358 dX2_nextToken_15 gM rfl rfl ?_
      refine AW.callV (Y := mX2_byteAt) (n := 1) (r_X2_byteAt n hn h300 (k) (by omega)) (by decide) (by decide) rfl gM q1505 q1507 qs67 q141 q1508 dX2_nextToken_18 (by decide +kernel) rfl rfl (Nat.le_of_ble_eq_true rfl) rfl ?_
      refine AW.bipush (v := 10) dX2_nextToken_21 (by decide) rfl ?_
      refine AW.icmp_ne (tgt := 39) dX2_nextToken_23 (by decide) rfl (fun c23 => ?_) (fun c23 => ?_)
      · have e3 : k = p := (spn_f hk (by unfold isWs; rw [decide_eq_false c10, decide_eq_false c23]; rfl)).symm.trans hsp
        subst e3
        exact nt_39 n hn h300 hb k (by omega)
      · refine AW.aload_n dX2_nextToken_26 rfl rfl ?_
        refine AW.dup dX2_nextToken_27 rfl rfl ?_
        refine AW.get ci2 7 (by decide) q1358 dX2_nextToken_28 gM rfl rfl ?_
        refine AW.iconst (v := 1) dX2_nextToken_31 (by decide) rfl ?_
        refine AW.iadd dX2_nextToken_32 rfl ?_
        refine AW.put ci2 7 (by decide) q1358 dX2_nextToken_33 (by decide) gM rfl (fun _ => rfl) (fun _ => rfl) (Nat.le_of_ble_eq_true rfl) ps_s7 rfl ?_
        refine AW.goto (tgt := 0) dX2_nextToken_36 (by decide) ?_
        exact AW.hp (h2 := (hp (ps s (nI (k + 1), L.2) G))) (by rw [nI_succ k]; rfl) (ihk ((spn_t hk (by unfold isWs; rw [decide_eq_true c23, Bool.or_true])).symm.trans hsp))
