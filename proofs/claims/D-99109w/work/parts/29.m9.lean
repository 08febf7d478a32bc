/-! MODEL 9: sums, their steps (printed by tools/m9.py) -/
set_option maxRecDepth 100000
theorem r_X2_clip {h : AH} (v : Int64) : Run 1 mX2_clip [.long v] h (.inl (some (.long (clipL v)))) h := by
  refine Run.of rfl (Nat.le_of_ble_eq_true rfl) rfl ?_
  refine AW.lload_n dX2_clip_0 rfl rfl ?_
  refine AW.ldc2 dX2_clip_1 q1715 rfl ?_
  refine AW.lcmp dX2_clip_4 rfl ?_
  refine AW.if_le (tgt := 14) dX2_clip_5 (by decide) rfl (fun c1 => ?_) (fun c1 => ?_)
  · refine AW.lload_n dX2_clip_14 rfl rfl ?_
    refine AW.ldc2 dX2_clip_15 q1716 rfl ?_
    refine AW.lcmp dX2_clip_18 rfl ?_
    refine AW.if_ge (tgt := 28) dX2_clip_19 (by decide) rfl (fun c2 => ?_) (fun c2 => ?_)
    · refine AW.lload_n dX2_clip_28 rfl rfl ?_
      exact AW.lretE dX2_clip_29 rfl rfl (by (try simp only [lg_cmp_ge, lg_cmp_le, lg_cmp_gt, lg_cmp_lt, lg_cmp_eq] at *); unfold clipL; (try have g1 := Int64.not_le.mp c1); (try have g1 := Int64.not_lt.mpr c1); (try have g2 := Int64.not_le.mp c2); (try have g2 := Int64.not_lt.mpr c2); simp [g1, *]) rfl
    · refine AW.ldc2 dX2_clip_22 q1716 rfl ?_
      refine AW.goto (tgt := 29) dX2_clip_25 (by decide) ?_
      exact AW.lretE dX2_clip_29 rfl rfl (by (try simp only [lg_cmp_ge, lg_cmp_le, lg_cmp_gt, lg_cmp_lt, lg_cmp_eq] at *); unfold clipL; (try have g1 := Int64.not_le.mp c1); (try have g1 := Int64.not_lt.mpr c1); (try have g2 := Int64.not_le.mp c2); (try have g2 := Int64.not_lt.mpr c2); simp [g1, *]) rfl
  · refine AW.ldc2 dX2_clip_8 q1715 rfl ?_
    refine AW.goto (tgt := 29) dX2_clip_11 (by decide) ?_
    exact AW.lretE dX2_clip_29 rfl rfl (by (try simp only [lg_cmp_ge, lg_cmp_le, lg_cmp_gt, lg_cmp_lt, lg_cmp_eq] at *); unfold clipL; (try have g1 := Int64.not_le.mp c1); (try have g1 := Int64.not_lt.mpr c1); (try have g2 := Int64.not_le.mp c2); (try have g2 := Int64.not_lt.mpr c2); simp [g1, *]) rfl
theorem r_X2_two {h : AH} (o : Int32) (x y : Int64) : Run 2 mX2_two [.int o, .long x, .long y] h (.inl (some (.long (twoL o x y)))) h := by
  refine Run.of rfl (Nat.le_of_ble_eq_true rfl) rfl ?_
  refine AW.iload_n dX2_two_0 rfl rfl ?_
  by_cases s1_0 : o = 3
  · refine AW.tableIn (off := 27) (tgt := 28) dX2_two_1 (by rw [s1_0]; decide) (by rw [s1_0]; decide) (by rw [s1_0]; rfl) (by decide) ?_
    refine AW.lload_n dX2_two_28 rfl rfl ?_
    refine AW.lload_n dX2_two_29 rfl rfl ?_
    refine AW.ladd dX2_two_30 rfl ?_
    refine AW.callS (Y := mX2_clip) (n := 1) (r_X2_clip _) (by decide) (by decide) q1712 q1713 q141 q1714 dX2_two_31 (by decide +kernel) rfl rfl (Nat.le_of_ble_eq_true rfl) rfl ?_
    exact AW.lretE dX2_two_34 rfl rfl (by (try rw [lg_cmp_eq] at c); simp [twoL, *]) rfl
  by_cases s1_1 : o = 4
  · refine AW.tableIn (off := 34) (tgt := 35) dX2_two_1 (by rw [s1_1]; decide) (by rw [s1_1]; decide) (by rw [s1_1]; rfl) (by decide) ?_
    refine AW.lload_n dX2_two_35 rfl rfl ?_
    refine AW.lload_n dX2_two_36 rfl rfl ?_
    refine AW.lsub dX2_two_37 rfl ?_
    refine AW.callS (Y := mX2_clip) (n := 1) (r_X2_clip _) (by decide) (by decide) q1712 q1713 q141 q1714 dX2_two_38 (by decide +kernel) rfl rfl (Nat.le_of_ble_eq_true rfl) rfl ?_
    exact AW.lretE dX2_two_41 rfl rfl (by (try rw [lg_cmp_eq] at c); simp [twoL, *]) rfl
  by_cases s1_2 : o = 5
  · refine AW.tableIn (off := 41) (tgt := 42) dX2_two_1 (by rw [s1_2]; decide) (by rw [s1_2]; decide) (by rw [s1_2]; rfl) (by decide) ?_
    refine AW.lload_n dX2_two_42 rfl rfl ?_
    refine AW.lload_n dX2_two_43 rfl rfl ?_
    refine AW.lmul dX2_two_44 rfl ?_
    refine AW.callS (Y := mX2_clip) (n := 1) (r_X2_clip _) (by decide) (by decide) q1712 q1713 q141 q1714 dX2_two_45 (by decide +kernel) rfl rfl (Nat.le_of_ble_eq_true rfl) rfl ?_
    exact AW.lretE dX2_two_48 rfl rfl (by (try rw [lg_cmp_eq] at c); simp [twoL, *]) rfl
  refine AW.tableOut (tgt := 49) dX2_two_1 (by have q0 : ¬ (o).toInt = 3 := fun q => s1_0 (Int32.toInt_inj.mp q); have q1 : ¬ (o).toInt = 4 := fun q => s1_1 (Int32.toInt_inj.mp q); have q2 : ¬ (o).toInt = 5 := fun q => s1_2 (Int32.toInt_inj.mp q); omega) (by decide) ?_
  refine AW.lload_n dX2_two_49 rfl rfl ?_
  refine AW.lconst (v := 0) dX2_two_50 (by decide) rfl ?_
  refine AW.lcmp dX2_two_51 rfl ?_
  refine AW.if_ne (tgt := 59) dX2_two_52 (by decide) rfl (fun c => ?_) (fun c => ?_)
  · refine AW.lload_n dX2_two_59 rfl rfl ?_
    refine AW.lload_n dX2_two_60 rfl rfl ?_
    refine AW.ldiv dX2_two_61 (by rw [lg_cmp_eq] at c; exact c) rfl ?_
    refine AW.callS (Y := mX2_clip) (n := 1) (r_X2_clip _) (by decide) (by decide) q1712 q1713 q141 q1714 dX2_two_62 (by decide +kernel) rfl rfl (Nat.le_of_ble_eq_true rfl) rfl ?_
    exact AW.lretE dX2_two_65 rfl rfl (by (try rw [lg_cmp_eq] at c); simp [twoL, *]) rfl
  · refine AW.lconst (v := 0) dX2_two_55 (by decide) rfl ?_
    refine AW.goto (tgt := 65) dX2_two_56 (by decide) ?_
    exact AW.lretE dX2_two_65 rfl rfl (by (try rw [lg_cmp_eq] at c); simp [twoL, *]) rfl
theorem r_X2_isAsked {h : AH} (o : Int32) (x y : Int64) : Run 1 mX2_isAsked [.int o, .long x, .long y] h (.inl (some (.int (b2i (askB o x y))))) h := by
  refine Run.of rfl (Nat.le_of_ble_eq_true rfl) rfl ?_
  refine AW.iload_n dX2_isAsked_0 rfl rfl ?_
  refine AW.bipush (v := 10) dX2_isAsked_1 (by decide) rfl ?_
  refine AW.icmp_ne (tgt := 20) dX2_isAsked_3 (by decide) rfl (fun c1 => ?_) (fun c1 => ?_)
  · refine AW.iload_n dX2_isAsked_20 rfl rfl ?_
    refine AW.bipush (v := 11) dX2_isAsked_21 (by decide) rfl ?_
    refine AW.icmp_ne (tgt := 40) dX2_isAsked_23 (by decide) rfl (fun c2 => ?_) (fun c2 => ?_)
    · refine AW.iload_n dX2_isAsked_40 rfl rfl ?_
      refine AW.bipush (v := 12) dX2_isAsked_41 (by decide) rfl ?_
      refine AW.icmp_ne (tgt := 60) dX2_isAsked_43 (by decide) rfl (fun c3 => ?_) (fun c3 => ?_)
      · refine AW.iload_n dX2_isAsked_60 rfl rfl ?_
        refine AW.bipush (v := 13) dX2_isAsked_61 (by decide) rfl ?_
        refine AW.icmp_ne (tgt := 80) dX2_isAsked_63 (by decide) rfl (fun c4 => ?_) (fun c4 => ?_)
        · refine AW.iload_n dX2_isAsked_80 rfl rfl ?_
          refine AW.bipush (v := 14) dX2_isAsked_81 (by decide) rfl ?_
          refine AW.icmp_ne (tgt := 100) dX2_isAsked_83 (by decide) rfl (fun c5 => ?_) (fun c5 => ?_)
          · refine AW.lload_n dX2_isAsked_100 rfl rfl ?_
            refine AW.lload_n dX2_isAsked_101 rfl rfl ?_
            refine AW.lcmp dX2_isAsked_102 rfl ?_
            refine AW.if_eq (tgt := 110) dX2_isAsked_103 (by decide) rfl (fun c6 => ?_) (fun c6 => ?_)
            · refine AW.iconst (v := 0) dX2_isAsked_110 (by decide) rfl ?_
              exact AW.bretE dX2_isAsked_111 rfl rfl (by (try simp only [lg_cmp_ge, lg_cmp_le, lg_cmp_gt, lg_cmp_lt, lg_cmp_eq] at *); simp_all [askB, b2i, Int64.not_le, Int64.not_lt]) rfl
            · refine AW.iconst (v := 1) dX2_isAsked_106 (by decide) rfl ?_
              refine AW.goto (tgt := 111) dX2_isAsked_107 (by decide) ?_
              exact AW.bretE dX2_isAsked_111 rfl rfl (by (try simp only [lg_cmp_ge, lg_cmp_le, lg_cmp_gt, lg_cmp_lt, lg_cmp_eq] at *); simp_all [askB, b2i, Int64.not_le, Int64.not_lt]) rfl
          · refine AW.lload_n dX2_isAsked_86 rfl rfl ?_
            refine AW.lload_n dX2_isAsked_87 rfl rfl ?_
            refine AW.lcmp dX2_isAsked_88 rfl ?_
            refine AW.if_ne (tgt := 96) dX2_isAsked_89 (by decide) rfl (fun c7 => ?_) (fun c7 => ?_)
            · refine AW.iconst (v := 0) dX2_isAsked_96 (by decide) rfl ?_
              refine AW.goto (tgt := 111) dX2_isAsked_97 (by decide) ?_
              exact AW.bretE dX2_isAsked_111 rfl rfl (by (try simp only [lg_cmp_ge, lg_cmp_le, lg_cmp_gt, lg_cmp_lt, lg_cmp_eq] at *); simp_all [askB, b2i, Int64.not_le, Int64.not_lt]) rfl
            · refine AW.iconst (v := 1) dX2_isAsked_92 (by decide) rfl ?_
              refine AW.goto (tgt := 111) dX2_isAsked_93 (by decide) ?_
              exact AW.bretE dX2_isAsked_111 rfl rfl (by (try simp only [lg_cmp_ge, lg_cmp_le, lg_cmp_gt, lg_cmp_lt, lg_cmp_eq] at *); simp_all [askB, b2i, Int64.not_le, Int64.not_lt]) rfl
        · refine AW.lload_n dX2_isAsked_66 rfl rfl ?_
          refine AW.lload_n dX2_isAsked_67 rfl rfl ?_
          refine AW.lcmp dX2_isAsked_68 rfl ?_
          refine AW.if_lt (tgt := 76) dX2_isAsked_69 (by decide) rfl (fun c8 => ?_) (fun c8 => ?_)
          · refine AW.iconst (v := 0) dX2_isAsked_76 (by decide) rfl ?_
            refine AW.goto (tgt := 111) dX2_isAsked_77 (by decide) ?_
            exact AW.bretE dX2_isAsked_111 rfl rfl (by (try simp only [lg_cmp_ge, lg_cmp_le, lg_cmp_gt, lg_cmp_lt, lg_cmp_eq] at *); simp_all [askB, b2i, Int64.not_le, Int64.not_lt]) rfl
          · refine AW.iconst (v := 1) dX2_isAsked_72 (by decide) rfl ?_
            refine AW.goto (tgt := 111) dX2_isAsked_73 (by decide) ?_
            exact AW.bretE dX2_isAsked_111 rfl rfl (by (try simp only [lg_cmp_ge, lg_cmp_le, lg_cmp_gt, lg_cmp_lt, lg_cmp_eq] at *); simp_all [askB, b2i, Int64.not_le, Int64.not_lt]) rfl
      · refine AW.lload_n dX2_isAsked_46 rfl rfl ?_
        refine AW.lload_n dX2_isAsked_47 rfl rfl ?_
        refine AW.lcmp dX2_isAsked_48 rfl ?_
        refine AW.if_le (tgt := 56) dX2_isAsked_49 (by decide) rfl (fun c9 => ?_) (fun c9 => ?_)
        · refine AW.iconst (v := 0) dX2_isAsked_56 (by decide) rfl ?_
          refine AW.goto (tgt := 111) dX2_isAsked_57 (by decide) ?_
          exact AW.bretE dX2_isAsked_111 rfl rfl (by (try simp only [lg_cmp_ge, lg_cmp_le, lg_cmp_gt, lg_cmp_lt, lg_cmp_eq] at *); simp_all [askB, b2i, Int64.not_le, Int64.not_lt]) rfl
        · refine AW.iconst (v := 1) dX2_isAsked_52 (by decide) rfl ?_
          refine AW.goto (tgt := 111) dX2_isAsked_53 (by decide) ?_
          exact AW.bretE dX2_isAsked_111 rfl rfl (by (try simp only [lg_cmp_ge, lg_cmp_le, lg_cmp_gt, lg_cmp_lt, lg_cmp_eq] at *); simp_all [askB, b2i, Int64.not_le, Int64.not_lt]) rfl
    · refine AW.lload_n dX2_isAsked_26 rfl rfl ?_
      refine AW.lload_n dX2_isAsked_27 rfl rfl ?_
      refine AW.lcmp dX2_isAsked_28 rfl ?_
      refine AW.if_gt (tgt := 36) dX2_isAsked_29 (by decide) rfl (fun c10 => ?_) (fun c10 => ?_)
      · refine AW.iconst (v := 0) dX2_isAsked_36 (by decide) rfl ?_
        refine AW.goto (tgt := 111) dX2_isAsked_37 (by decide) ?_
        exact AW.bretE dX2_isAsked_111 rfl rfl (by (try simp only [lg_cmp_ge, lg_cmp_le, lg_cmp_gt, lg_cmp_lt, lg_cmp_eq] at *); simp_all [askB, b2i, Int64.not_le, Int64.not_lt]) rfl
      · refine AW.iconst (v := 1) dX2_isAsked_32 (by decide) rfl ?_
        refine AW.goto (tgt := 111) dX2_isAsked_33 (by decide) ?_
        exact AW.bretE dX2_isAsked_111 rfl rfl (by (try simp only [lg_cmp_ge, lg_cmp_le, lg_cmp_gt, lg_cmp_lt, lg_cmp_eq] at *); simp_all [askB, b2i, Int64.not_le, Int64.not_lt]) rfl
  · refine AW.lload_n dX2_isAsked_6 rfl rfl ?_
    refine AW.lload_n dX2_isAsked_7 rfl rfl ?_
    refine AW.lcmp dX2_isAsked_8 rfl ?_
    refine AW.if_ge (tgt := 16) dX2_isAsked_9 (by decide) rfl (fun c11 => ?_) (fun c11 => ?_)
    · refine AW.iconst (v := 0) dX2_isAsked_16 (by decide) rfl ?_
      refine AW.goto (tgt := 111) dX2_isAsked_17 (by decide) ?_
      exact AW.bretE dX2_isAsked_111 rfl rfl (by (try simp only [lg_cmp_ge, lg_cmp_le, lg_cmp_gt, lg_cmp_lt, lg_cmp_eq] at *); simp_all [askB, b2i, Int64.not_le, Int64.not_lt]) rfl
    · refine AW.iconst (v := 1) dX2_isAsked_12 (by decide) rfl ?_
      refine AW.goto (tgt := 111) dX2_isAsked_13 (by decide) ?_
      exact AW.bretE dX2_isAsked_111 rfl rfl (by (try simp only [lg_cmp_ge, lg_cmp_le, lg_cmp_gt, lg_cmp_lt, lg_cmp_eq] at *); simp_all [askB, b2i, Int64.not_le, Int64.not_lt]) rfl
theorem r_X2_isDividing {h : AH} (v w : Int64) : Run 1 mX2_isDividing [.long v, .long w] h (.inl (some (.int (b2i (divB v w))))) h := by
  refine Run.of rfl (Nat.le_of_ble_eq_true rfl) rfl ?_
  refine AW.lload_n dX2_isDividing_0 rfl rfl ?_
  refine AW.lconst (v := 0) dX2_isDividing_1 (by decide) rfl ?_
  refine AW.lcmp dX2_isDividing_2 rfl ?_
  refine AW.if_ne (tgt := 20) dX2_isDividing_3 (by decide) rfl (fun c => ?_) (fun c => ?_)
  · refine AW.lload_n dX2_isDividing_20 rfl rfl ?_
    refine AW.lload_n dX2_isDividing_21 rfl rfl ?_
    refine AW.lrem dX2_isDividing_22 (by rw [lg_cmp_eq] at c; exact c) rfl ?_
    refine AW.lconst (v := 0) dX2_isDividing_23 (by decide) rfl ?_
    refine AW.lcmp dX2_isDividing_24 rfl ?_
    refine AW.if_ne (tgt := 32) dX2_isDividing_25 (by decide) rfl (fun c2 => ?_) (fun c2 => ?_)
    · refine AW.iconst (v := 0) dX2_isDividing_32 (by decide) rfl ?_
      exact AW.bretE dX2_isDividing_33 rfl rfl (by (try simp only [lg_cmp_ge, lg_cmp_le, lg_cmp_gt, lg_cmp_lt, lg_cmp_eq] at *); simp_all [divB, b2i]) rfl
    · refine AW.iconst (v := 1) dX2_isDividing_28 (by decide) rfl ?_
      refine AW.goto (tgt := 33) dX2_isDividing_29 (by decide) ?_
      exact AW.bretE dX2_isDividing_33 rfl rfl (by (try simp only [lg_cmp_ge, lg_cmp_le, lg_cmp_gt, lg_cmp_lt, lg_cmp_eq] at *); simp_all [divB, b2i]) rfl
  · refine AW.lload_n dX2_isDividing_6 rfl rfl ?_
    refine AW.lconst (v := 0) dX2_isDividing_7 (by decide) rfl ?_
    refine AW.lcmp dX2_isDividing_8 rfl ?_
    refine AW.if_ne (tgt := 16) dX2_isDividing_9 (by decide) rfl (fun c3 => ?_) (fun c3 => ?_)
    · refine AW.iconst (v := 0) dX2_isDividing_16 (by decide) rfl ?_
      refine AW.goto (tgt := 33) dX2_isDividing_17 (by decide) ?_
      exact AW.bretE dX2_isDividing_33 rfl rfl (by (try simp only [lg_cmp_ge, lg_cmp_le, lg_cmp_gt, lg_cmp_lt, lg_cmp_eq] at *); simp_all [divB, b2i]) rfl
    · refine AW.iconst (v := 1) dX2_isDividing_12 (by decide) rfl ?_
      refine AW.goto (tgt := 33) dX2_isDividing_13 (by decide) ?_
      exact AW.bretE dX2_isDividing_33 rfl rfl (by (try simp only [lg_cmp_ge, lg_cmp_le, lg_cmp_gt, lg_cmp_lt, lg_cmp_eq] at *); simp_all [divB, b2i]) rfl
theorem r_X2_joined {h : AH} (o : Int32) (p q : Bool) : Run 1 mX2_joined [.int o, .int (b2i p), .int (b2i q)] h (.inl (some (.int (b2i (joinB o p q))))) h := by
  refine Run.of rfl (Nat.le_of_ble_eq_true rfl) rfl ?_
  refine AW.iload_n dX2_joined_0 rfl rfl ?_
  refine AW.bipush (v := 21) dX2_joined_1 (by decide) rfl ?_
  refine AW.icmp_ne (tgt := 22) dX2_joined_3 (by decide) rfl (fun c1 => ?_) (fun c1 => ?_)
  · refine AW.iload_n dX2_joined_22 rfl rfl ?_
    refine AW.if_neB (tgt := 30) dX2_joined_23 (by decide) rfl (fun c2 => ?_) (fun c2 => ?_)
    · refine AW.iconst (v := 1) dX2_joined_30 (by decide) rfl ?_
      refine AW.goto (tgt := 35) dX2_joined_31 (by decide) ?_
      exact AW.bretE dX2_joined_35 rfl rfl (by simp [joinB, b2i, *]) rfl
    · refine AW.iload_n dX2_joined_26 rfl rfl ?_
      refine AW.if_eqB (tgt := 34) dX2_joined_27 (by decide) rfl (fun c3 => ?_) (fun c3 => ?_)
      · refine AW.iconst (v := 0) dX2_joined_34 (by decide) rfl ?_
        exact AW.bretE dX2_joined_35 rfl rfl (by simp [joinB, b2i, *]) rfl
      · refine AW.iconst (v := 1) dX2_joined_30 (by decide) rfl ?_
        refine AW.goto (tgt := 35) dX2_joined_31 (by decide) ?_
        exact AW.bretE dX2_joined_35 rfl rfl (by simp [joinB, b2i, *]) rfl
  · refine AW.iload_n dX2_joined_6 rfl rfl ?_
    refine AW.if_eqB (tgt := 18) dX2_joined_7 (by decide) rfl (fun c4 => ?_) (fun c4 => ?_)
    · refine AW.iconst (v := 0) dX2_joined_18 (by decide) rfl ?_
      refine AW.goto (tgt := 35) dX2_joined_19 (by decide) ?_
      exact AW.bretE dX2_joined_35 rfl rfl (by simp [joinB, b2i, *]) rfl
    · refine AW.iload_n dX2_joined_10 rfl rfl ?_
      refine AW.if_eqB (tgt := 18) dX2_joined_11 (by decide) rfl (fun c5 => ?_) (fun c5 => ?_)
      · refine AW.iconst (v := 0) dX2_joined_18 (by decide) rfl ?_
        refine AW.goto (tgt := 35) dX2_joined_19 (by decide) ?_
        exact AW.bretE dX2_joined_35 rfl rfl (by simp [joinB, b2i, *]) rfl
      · refine AW.iconst (v := 1) dX2_joined_14 (by decide) rfl ?_
        refine AW.goto (tgt := 35) dX2_joined_15 (by decide) ?_
        exact AW.bretE dX2_joined_35 rfl rfl (by simp [joinB, b2i, *]) rfl
theorem r_X2_digit {h : AH} (p w : Int64) : Run 1 mX2_digit [.long p, .long w] h (.inl (some (.long (digM p w)))) h := by
  refine Run.of rfl (Nat.le_of_ble_eq_true rfl) rfl ?_
  refine AW.lload_n dX2_digit_0 rfl rfl ?_
  refine AW.lconst (v := 0) dX2_digit_1 (by decide) rfl ?_
  refine AW.lcmp dX2_digit_2 rfl ?_
  refine AW.if_ge (tgt := 11) dX2_digit_3 (by decide) rfl (fun c1 => ?_) (fun c1 => ?_)
  · refine AW.lload_n dX2_digit_11 rfl rfl ?_
    refine AW.lstore dX2_digit_12 rfl (Nat.le_of_ble_eq_true rfl) rfl rfl ?_
    refine AW.lconst (v := 0) dX2_digit_14 (by decide) rfl ?_
    refine AW.lstore dX2_digit_15 rfl (Nat.le_of_ble_eq_true rfl) rfl rfl ?_
    refine AW.ls (ls' := [some (.long p), none, some (.long w), none, some (.long (iter (fun x => x / 10) 0 (absM w))), none, some (.long (lN 0)), none]) (by rw [lg_cmp_ge] at c1; show _ = [_, _, _, _, some (Value.long (absM w)), _, _, _]; first | (rw [absM_n (Int64.not_le.mp c1)]; rfl) | (rw [absM_p c1]; rfl)) ?_
    refine loopUp (P := fun k => AW 1 mX2_digit h 17 [some (.long (p)), none, some (.long (w)), none, some (.long (iter (fun x => x / 10) k (absM w))), none, some (.long (lN k)), none] [] (.inl (some (.long (digM p w)))) h) (digN p) ?_ ?_ 0 (by first | exact Nat.zero_le _ | omega)
    · refine AW.lload dX2_digit_17 rfl rfl ?_
      refine AW.lload_n dX2_digit_19 rfl rfl ?_
      refine AW.lcmp dX2_digit_20 rfl ?_
      refine AW.if_ge (tgt := 50) dX2_digit_21 (by decide) rfl (fun c2 => ?_) (fun c2 => ?_)
      · refine AW.lload_n dX2_digit_50 rfl rfl ?_
        refine AW.lconst (v := 0) dX2_digit_51 (by decide) rfl ?_
        refine AW.lcmp dX2_digit_52 rfl ?_
        refine AW.if_lt (tgt := 64) dX2_digit_53 (by decide) rfl (fun c5 => ?_) (fun c5 => ?_)
        · refine AW.lconst (v := 0) dX2_digit_64 (by decide) rfl ?_
          refine AW.goto (tgt := 74) dX2_digit_65 (by decide) ?_
          have g0 : ∀ {a b : Int64}, ¬ 0 ≤ lg_cmp a b → a < b := fun q => by rw [lg_cmp_ge] at q; exact Int64.not_le.mp q
          exact AW.lretE dX2_digit_74 rfl rfl (by unfold digM; (try rw [lg_cmp_lt] at c5); (try rw [lg_cmp_le] at c6); first | (rw [if_pos c5]; done) | (rw [if_neg c5, if_pos (Int64.not_le.mp c6)]; done) | (rw [if_neg c5, if_neg (Int64.not_lt.mpr c6), digN_eq c5 (Int64.not_lt.mpr c6)])) rfl
        · refine AW.lload_n dX2_digit_56 rfl rfl ?_
          refine AW.ldc2 dX2_digit_57 q1708 rfl ?_
          refine AW.lcmp dX2_digit_60 rfl ?_
          refine AW.if_le (tgt := 68) dX2_digit_61 (by decide) rfl (fun c6 => ?_) (fun c6 => ?_)
          · refine AW.lload dX2_digit_68 rfl rfl ?_
            refine AW.ldc2 dX2_digit_70 q1707 rfl ?_
            refine AW.lrem dX2_digit_73 (by decide) rfl ?_
            have g0 : ∀ {a b : Int64}, ¬ 0 ≤ lg_cmp a b → a < b := fun q => by rw [lg_cmp_ge] at q; exact Int64.not_le.mp q
            exact AW.lretE dX2_digit_74 rfl rfl (by unfold digM; (try rw [lg_cmp_lt] at c5); (try rw [lg_cmp_le] at c6); first | (rw [if_pos c5]; done) | (rw [if_neg c5, if_pos (Int64.not_le.mp c6)]; done) | (rw [if_neg c5, if_neg (Int64.not_lt.mpr c6), digN_eq c5 (Int64.not_lt.mpr c6)])) rfl
          · refine AW.lconst (v := 0) dX2_digit_64 (by decide) rfl ?_
            refine AW.goto (tgt := 74) dX2_digit_65 (by decide) ?_
            have g0 : ∀ {a b : Int64}, ¬ 0 ≤ lg_cmp a b → a < b := fun q => by rw [lg_cmp_ge] at q; exact Int64.not_le.mp q
            exact AW.lretE dX2_digit_74 rfl rfl (by unfold digM; (try rw [lg_cmp_lt] at c5); (try rw [lg_cmp_le] at c6); first | (rw [if_pos c5]; done) | (rw [if_neg c5, if_pos (Int64.not_le.mp c6)]; done) | (rw [if_neg c5, if_neg (Int64.not_lt.mpr c6), digN_eq c5 (Int64.not_lt.mpr c6)])) rfl
      · refine AW.lload dX2_digit_24 rfl rfl ?_
        refine AW.ldc2 dX2_digit_26 q1707 rfl ?_
        refine AW.lcmp dX2_digit_29 rfl ?_
        refine AW.if_ge (tgt := 50) dX2_digit_30 (by decide) rfl (fun c3 => ?_) (fun c3 => ?_)
        · refine AW.lload_n dX2_digit_50 rfl rfl ?_
          refine AW.lconst (v := 0) dX2_digit_51 (by decide) rfl ?_
          refine AW.lcmp dX2_digit_52 rfl ?_
          refine AW.if_lt (tgt := 64) dX2_digit_53 (by decide) rfl (fun c5 => ?_) (fun c5 => ?_)
          · refine AW.lconst (v := 0) dX2_digit_64 (by decide) rfl ?_
            refine AW.goto (tgt := 74) dX2_digit_65 (by decide) ?_
            have g0 : ∀ {a b : Int64}, ¬ 0 ≤ lg_cmp a b → a < b := fun q => by rw [lg_cmp_ge] at q; exact Int64.not_le.mp q
            exact AW.lretE dX2_digit_74 rfl rfl (by unfold digM; (try rw [lg_cmp_lt] at c5); (try rw [lg_cmp_le] at c6); first | (rw [if_pos c5]; done) | (rw [if_neg c5, if_pos (Int64.not_le.mp c6)]; done) | (rw [if_neg c5, if_neg (Int64.not_lt.mpr c6), digN_eq c5 (Int64.not_lt.mpr c6)])) rfl
          · refine AW.lload_n dX2_digit_56 rfl rfl ?_
            refine AW.ldc2 dX2_digit_57 q1708 rfl ?_
            refine AW.lcmp dX2_digit_60 rfl ?_
            refine AW.if_le (tgt := 68) dX2_digit_61 (by decide) rfl (fun c6 => ?_) (fun c6 => ?_)
            · refine AW.lload dX2_digit_68 rfl rfl ?_
              refine AW.ldc2 dX2_digit_70 q1707 rfl ?_
              refine AW.lrem dX2_digit_73 (by decide) rfl ?_
              have g0 : ∀ {a b : Int64}, ¬ 0 ≤ lg_cmp a b → a < b := fun q => by rw [lg_cmp_ge] at q; exact Int64.not_le.mp q
              exact AW.lretE dX2_digit_74 rfl rfl (by unfold digM; (try rw [lg_cmp_lt] at c5); (try rw [lg_cmp_le] at c6); first | (rw [if_pos c5]; done) | (rw [if_neg c5, if_pos (Int64.not_le.mp c6)]; done) | (rw [if_neg c5, if_neg (Int64.not_lt.mpr c6), digN_eq c5 (Int64.not_lt.mpr c6)])) rfl
            · refine AW.lconst (v := 0) dX2_digit_64 (by decide) rfl ?_
              refine AW.goto (tgt := 74) dX2_digit_65 (by decide) ?_
              have g0 : ∀ {a b : Int64}, ¬ 0 ≤ lg_cmp a b → a < b := fun q => by rw [lg_cmp_ge] at q; exact Int64.not_le.mp q
              exact AW.lretE dX2_digit_74 rfl rfl (by unfold digM; (try rw [lg_cmp_lt] at c5); (try rw [lg_cmp_le] at c6); first | (rw [if_pos c5]; done) | (rw [if_neg c5, if_pos (Int64.not_le.mp c6)]; done) | (rw [if_neg c5, if_neg (Int64.not_lt.mpr c6), digN_eq c5 (Int64.not_lt.mpr c6)])) rfl
        · refine AW.lload dX2_digit_33 rfl rfl ?_
          refine AW.ldc2 dX2_digit_35 q1707 rfl ?_
          refine AW.ldiv dX2_digit_38 (by decide) rfl ?_
          refine AW.lstore dX2_digit_39 rfl (Nat.le_of_ble_eq_true rfl) rfl rfl ?_
          refine AW.lload dX2_digit_41 rfl rfl ?_
          refine AW.lconst (v := 1) dX2_digit_43 (by decide) rfl ?_
          refine AW.ladd dX2_digit_44 rfl ?_
          refine AW.lstore dX2_digit_45 rfl (Nat.le_of_ble_eq_true rfl) rfl rfl ?_
          refine AW.goto (tgt := 17) dX2_digit_47 (by decide) ?_
          rw [lg_cmp_ge] at c2 c3
          exact (digN_out (Int64.not_le.mp c2) (Int64.not_le.mp c3)).elim
    · intro k hk ihk
      refine AW.lload dX2_digit_17 rfl rfl ?_
      refine AW.lload_n dX2_digit_19 rfl rfl ?_
      refine AW.lcmp dX2_digit_20 rfl ?_
      refine AW.if_ge (tgt := 50) dX2_digit_21 (by decide) rfl (fun c_ => by first | exact absurd c_ (by rw [lg_cmp_ge]; exact Int64.not_le.mpr (digN_in hk).1) | exact absurd (by rw [lg_cmp_ge]; exact Int64.not_le.mpr (digN_in hk).1) c_ | exact Bool.noConfusion (c_.symm.trans (by rw [lg_cmp_ge]; exact Int64.not_le.mpr (digN_in hk).1))) (fun _ => ?_)
      refine AW.lload dX2_digit_24 rfl rfl ?_
      refine AW.ldc2 dX2_digit_26 q1707 rfl ?_
      refine AW.lcmp dX2_digit_29 rfl ?_
      refine AW.if_ge (tgt := 50) dX2_digit_30 (by decide) rfl (fun c_ => by first | exact absurd c_ (by rw [lg_cmp_ge]; exact Int64.not_le.mpr (digN_in hk).2) | exact absurd (by rw [lg_cmp_ge]; exact Int64.not_le.mpr (digN_in hk).2) c_ | exact Bool.noConfusion (c_.symm.trans (by rw [lg_cmp_ge]; exact Int64.not_le.mpr (digN_in hk).2))) (fun _ => ?_)
      refine AW.lload dX2_digit_33 rfl rfl ?_
      refine AW.ldc2 dX2_digit_35 q1707 rfl ?_
      refine AW.ldiv dX2_digit_38 (by decide) rfl ?_
      refine AW.lstore dX2_digit_39 rfl (Nat.le_of_ble_eq_true rfl) rfl rfl ?_
      refine AW.lload dX2_digit_41 rfl rfl ?_
      refine AW.lconst (v := 1) dX2_digit_43 (by decide) rfl ?_
      refine AW.ladd dX2_digit_44 rfl ?_
      refine AW.lstore dX2_digit_45 rfl (Nat.le_of_ble_eq_true rfl) rfl rfl ?_
      refine AW.goto (tgt := 17) dX2_digit_47 (by decide) ?_
      exact AW.ls (by rw [← lN_1]; rfl) ihk
  · refine AW.lload_n dX2_digit_6 rfl rfl ?_
    refine AW.lneg dX2_digit_7 rfl ?_
    refine AW.goto (tgt := 12) dX2_digit_8 (by decide) ?_
    refine AW.lstore dX2_digit_12 rfl (Nat.le_of_ble_eq_true rfl) rfl rfl ?_
    refine AW.lconst (v := 0) dX2_digit_14 (by decide) rfl ?_
    refine AW.lstore dX2_digit_15 rfl (Nat.le_of_ble_eq_true rfl) rfl rfl ?_
    refine AW.ls (ls' := [some (.long p), none, some (.long w), none, some (.long (iter (fun x => x / 10) 0 (absM w))), none, some (.long (lN 0)), none]) (by rw [lg_cmp_ge] at c1; show _ = [_, _, _, _, some (Value.long (absM w)), _, _, _]; first | (rw [absM_n (Int64.not_le.mp c1)]; rfl) | (rw [absM_p c1]; rfl)) ?_
    refine loopUp (P := fun k => AW 1 mX2_digit h 17 [some (.long (p)), none, some (.long (w)), none, some (.long (iter (fun x => x / 10) k (absM w))), none, some (.long (lN k)), none] [] (.inl (some (.long (digM p w)))) h) (digN p) ?_ ?_ 0 (by first | exact Nat.zero_le _ | omega)
    · refine AW.lload dX2_digit_17 rfl rfl ?_
      refine AW.lload_n dX2_digit_19 rfl rfl ?_
      refine AW.lcmp dX2_digit_20 rfl ?_
      refine AW.if_ge (tgt := 50) dX2_digit_21 (by decide) rfl (fun c2 => ?_) (fun c2 => ?_)
      · refine AW.lload_n dX2_digit_50 rfl rfl ?_
        refine AW.lconst (v := 0) dX2_digit_51 (by decide) rfl ?_
        refine AW.lcmp dX2_digit_52 rfl ?_
        refine AW.if_lt (tgt := 64) dX2_digit_53 (by decide) rfl (fun c5 => ?_) (fun c5 => ?_)
        · refine AW.lconst (v := 0) dX2_digit_64 (by decide) rfl ?_
          refine AW.goto (tgt := 74) dX2_digit_65 (by decide) ?_
          have g0 : ∀ {a b : Int64}, ¬ 0 ≤ lg_cmp a b → a < b := fun q => by rw [lg_cmp_ge] at q; exact Int64.not_le.mp q
          exact AW.lretE dX2_digit_74 rfl rfl (by unfold digM; (try rw [lg_cmp_lt] at c5); (try rw [lg_cmp_le] at c6); first | (rw [if_pos c5]; done) | (rw [if_neg c5, if_pos (Int64.not_le.mp c6)]; done) | (rw [if_neg c5, if_neg (Int64.not_lt.mpr c6), digN_eq c5 (Int64.not_lt.mpr c6)])) rfl
        · refine AW.lload_n dX2_digit_56 rfl rfl ?_
          refine AW.ldc2 dX2_digit_57 q1708 rfl ?_
          refine AW.lcmp dX2_digit_60 rfl ?_
          refine AW.if_le (tgt := 68) dX2_digit_61 (by decide) rfl (fun c6 => ?_) (fun c6 => ?_)
          · refine AW.lload dX2_digit_68 rfl rfl ?_
            refine AW.ldc2 dX2_digit_70 q1707 rfl ?_
            refine AW.lrem dX2_digit_73 (by decide) rfl ?_
            have g0 : ∀ {a b : Int64}, ¬ 0 ≤ lg_cmp a b → a < b := fun q => by rw [lg_cmp_ge] at q; exact Int64.not_le.mp q
            exact AW.lretE dX2_digit_74 rfl rfl (by unfold digM; (try rw [lg_cmp_lt] at c5); (try rw [lg_cmp_le] at c6); first | (rw [if_pos c5]; done) | (rw [if_neg c5, if_pos (Int64.not_le.mp c6)]; done) | (rw [if_neg c5, if_neg (Int64.not_lt.mpr c6), digN_eq c5 (Int64.not_lt.mpr c6)])) rfl
          · refine AW.lconst (v := 0) dX2_digit_64 (by decide) rfl ?_
            refine AW.goto (tgt := 74) dX2_digit_65 (by decide) ?_
            have g0 : ∀ {a b : Int64}, ¬ 0 ≤ lg_cmp a b → a < b := fun q => by rw [lg_cmp_ge] at q; exact Int64.not_le.mp q
            exact AW.lretE dX2_digit_74 rfl rfl (by unfold digM; (try rw [lg_cmp_lt] at c5); (try rw [lg_cmp_le] at c6); first | (rw [if_pos c5]; done) | (rw [if_neg c5, if_pos (Int64.not_le.mp c6)]; done) | (rw [if_neg c5, if_neg (Int64.not_lt.mpr c6), digN_eq c5 (Int64.not_lt.mpr c6)])) rfl
      · refine AW.lload dX2_digit_24 rfl rfl ?_
        refine AW.ldc2 dX2_digit_26 q1707 rfl ?_
        refine AW.lcmp dX2_digit_29 rfl ?_
        refine AW.if_ge (tgt := 50) dX2_digit_30 (by decide) rfl (fun c3 => ?_) (fun c3 => ?_)
        · refine AW.lload_n dX2_digit_50 rfl rfl ?_
          refine AW.lconst (v := 0) dX2_digit_51 (by decide) rfl ?_
          refine AW.lcmp dX2_digit_52 rfl ?_
          refine AW.if_lt (tgt := 64) dX2_digit_53 (by decide) rfl (fun c5 => ?_) (fun c5 => ?_)
          · refine AW.lconst (v := 0) dX2_digit_64 (by decide) rfl ?_
            refine AW.goto (tgt := 74) dX2_digit_65 (by decide) ?_
            have g0 : ∀ {a b : Int64}, ¬ 0 ≤ lg_cmp a b → a < b := fun q => by rw [lg_cmp_ge] at q; exact Int64.not_le.mp q
            exact AW.lretE dX2_digit_74 rfl rfl (by unfold digM; (try rw [lg_cmp_lt] at c5); (try rw [lg_cmp_le] at c6); first | (rw [if_pos c5]; done) | (rw [if_neg c5, if_pos (Int64.not_le.mp c6)]; done) | (rw [if_neg c5, if_neg (Int64.not_lt.mpr c6), digN_eq c5 (Int64.not_lt.mpr c6)])) rfl
          · refine AW.lload_n dX2_digit_56 rfl rfl ?_
            refine AW.ldc2 dX2_digit_57 q1708 rfl ?_
            refine AW.lcmp dX2_digit_60 rfl ?_
            refine AW.if_le (tgt := 68) dX2_digit_61 (by decide) rfl (fun c6 => ?_) (fun c6 => ?_)
            · refine AW.lload dX2_digit_68 rfl rfl ?_
              refine AW.ldc2 dX2_digit_70 q1707 rfl ?_
              refine AW.lrem dX2_digit_73 (by decide) rfl ?_
              have g0 : ∀ {a b : Int64}, ¬ 0 ≤ lg_cmp a b → a < b := fun q => by rw [lg_cmp_ge] at q; exact Int64.not_le.mp q
              exact AW.lretE dX2_digit_74 rfl rfl (by unfold digM; (try rw [lg_cmp_lt] at c5); (try rw [lg_cmp_le] at c6); first | (rw [if_pos c5]; done) | (rw [if_neg c5, if_pos (Int64.not_le.mp c6)]; done) | (rw [if_neg c5, if_neg (Int64.not_lt.mpr c6), digN_eq c5 (Int64.not_lt.mpr c6)])) rfl
            · refine AW.lconst (v := 0) dX2_digit_64 (by decide) rfl ?_
              refine AW.goto (tgt := 74) dX2_digit_65 (by decide) ?_
              have g0 : ∀ {a b : Int64}, ¬ 0 ≤ lg_cmp a b → a < b := fun q => by rw [lg_cmp_ge] at q; exact Int64.not_le.mp q
              exact AW.lretE dX2_digit_74 rfl rfl (by unfold digM; (try rw [lg_cmp_lt] at c5); (try rw [lg_cmp_le] at c6); first | (rw [if_pos c5]; done) | (rw [if_neg c5, if_pos (Int64.not_le.mp c6)]; done) | (rw [if_neg c5, if_neg (Int64.not_lt.mpr c6), digN_eq c5 (Int64.not_lt.mpr c6)])) rfl
        · refine AW.lload dX2_digit_33 rfl rfl ?_
          refine AW.ldc2 dX2_digit_35 q1707 rfl ?_
          refine AW.ldiv dX2_digit_38 (by decide) rfl ?_
          refine AW.lstore dX2_digit_39 rfl (Nat.le_of_ble_eq_true rfl) rfl rfl ?_
          refine AW.lload dX2_digit_41 rfl rfl ?_
          refine AW.lconst (v := 1) dX2_digit_43 (by decide) rfl ?_
          refine AW.ladd dX2_digit_44 rfl ?_
          refine AW.lstore dX2_digit_45 rfl (Nat.le_of_ble_eq_true rfl) rfl rfl ?_
          refine AW.goto (tgt := 17) dX2_digit_47 (by decide) ?_
          rw [lg_cmp_ge] at c2 c3
          exact (digN_out (Int64.not_le.mp c2) (Int64.not_le.mp c3)).elim
    · intro k hk ihk
      refine AW.lload dX2_digit_17 rfl rfl ?_
      refine AW.lload_n dX2_digit_19 rfl rfl ?_
      refine AW.lcmp dX2_digit_20 rfl ?_
      refine AW.if_ge (tgt := 50) dX2_digit_21 (by decide) rfl (fun c_ => by first | exact absurd c_ (by rw [lg_cmp_ge]; exact Int64.not_le.mpr (digN_in hk).1) | exact absurd (by rw [lg_cmp_ge]; exact Int64.not_le.mpr (digN_in hk).1) c_ | exact Bool.noConfusion (c_.symm.trans (by rw [lg_cmp_ge]; exact Int64.not_le.mpr (digN_in hk).1))) (fun _ => ?_)
      refine AW.lload dX2_digit_24 rfl rfl ?_
      refine AW.ldc2 dX2_digit_26 q1707 rfl ?_
      refine AW.lcmp dX2_digit_29 rfl ?_
      refine AW.if_ge (tgt := 50) dX2_digit_30 (by decide) rfl (fun c_ => by first | exact absurd c_ (by rw [lg_cmp_ge]; exact Int64.not_le.mpr (digN_in hk).2) | exact absurd (by rw [lg_cmp_ge]; exact Int64.not_le.mpr (digN_in hk).2) c_ | exact Bool.noConfusion (c_.symm.trans (by rw [lg_cmp_ge]; exact Int64.not_le.mpr (digN_in hk).2))) (fun _ => ?_)
      refine AW.lload dX2_digit_33 rfl rfl ?_
      refine AW.ldc2 dX2_digit_35 q1707 rfl ?_
      refine AW.ldiv dX2_digit_38 (by decide) rfl ?_
      refine AW.lstore dX2_digit_39 rfl (Nat.le_of_ble_eq_true rfl) rfl rfl ?_
      refine AW.lload dX2_digit_41 rfl rfl ?_
      refine AW.lconst (v := 1) dX2_digit_43 (by decide) rfl ?_
      refine AW.ladd dX2_digit_44 rfl ?_
      refine AW.lstore dX2_digit_45 rfl (Nat.le_of_ble_eq_true rfl) rfl rfl ?_
      refine AW.goto (tgt := 17) dX2_digit_47 (by decide) ?_
      exact AW.ls (by rw [← lN_1]; rfl) ihk
theorem r_X2_name {s : Sg} (hn : (vwM (s.A 626)).ok) (h day : Int32) (hh : (vwM (s.A 626)).hou h = true) : Run 6 mX2_name [.ref 625, .int h, .int day] (hp s) (.inl none) (hp (s.setA 631 (nmA (s.A 631) (vwM (s.A 626)) h day))) := by
  refine Run.of rfl (Nat.le_of_ble_eq_true rfl) rfl ?_
  refine AW.aload_n dX2_name_0 rfl rfl ?_
  refine AW.get ci2 21 (by decide) q1372 dX2_name_1 gM rfl rfl ?_
  refine AW.iconst (v := 0) dX2_name_4 (by decide) rfl ?_
  refine AW.iload_n dX2_name_5 rfl rfl ?_
  refine AW.iast dX2_name_6 (by decide) g631 (vp_in_iff.mpr (by decide)) (j := 0) (by decide) s631 rfl ?_
  refine AW.hp (h2 := hp (s.setA 631 (up (s.A 631) 0 day))) (by first | rfl | (rw [setA_setA, setA_at])) ?_
  refine AW.aload_n dX2_name_7 rfl rfl ?_
  refine AW.get ci2 21 (by decide) q1372 dX2_name_8 gM rfl rfl ?_
  refine AW.iconst (v := 1) dX2_name_11 (by decide) rfl ?_
  refine AW.iload_n dX2_name_12 rfl rfl ?_
  refine AW.bipush (v := 20) dX2_name_13 (by decide) rfl ?_
  refine AW.irem dX2_name_15 (by decide) rfl ?_
  refine AW.iast dX2_name_16 (by decide) g631 (vp_in_iff.mpr (by decide)) (j := 1) (by decide) s631 rfl ?_
  refine AW.hp (h2 := hp (s.setA 631 (up (up (s.A 631) 0 day) 1 (day % 20)))) (by first | rfl | (rw [setA_setA, setA_at])) ?_
  refine AW.aload_n dX2_name_17 rfl rfl ?_
  refine AW.get ci2 21 (by decide) q1372 dX2_name_18 gM rfl rfl ?_
  refine AW.iconst (v := 2) dX2_name_21 (by decide) rfl ?_
  refine AW.iload_n dX2_name_22 rfl rfl ?_
  refine AW.iast dX2_name_23 (by decide) g631 (vp_in_iff.mpr (by decide)) (j := 2) (by decide) s631 rfl ?_
  refine AW.hp (h2 := hp (s.setA 631 (up (up (up (s.A 631) 0 day) 1 (day % 20)) 2 h))) (by first | rfl | (rw [setA_setA, setA_at])) ?_
  refine AW.aload_n dX2_name_24 rfl rfl ?_
  refine AW.get ci2 21 (by decide) q1372 dX2_name_25 gM rfl rfl ?_
  refine AW.iconst (v := 3) dX2_name_28 (by decide) rfl ?_
  refine AW.aload_n dX2_name_29 rfl rfl ?_
  refine AW.iload_n dX2_name_30 rfl rfl ?_
  refine AW.iconst (v := 1) dX2_name_31 (by decide) rfl ?_
  refine AW.callV (Y := mX2_get) (n := 2) (r_X2_get (s := s.setA 631 (up (up (up (s.A 631) 0 day) 1 (day % 20)) 2 h)) h 1 (in_get hn hh (by decide) (by decide))) (by decide) (by decide) rfl gM q1477 q1479 qs63 q141 q1480 dX2_name_32 (by decide +kernel) rfl rfl (Nat.le_of_ble_eq_true rfl) rfl ?_
  refine AW.iast dX2_name_35 (by decide) g631 (vp_in_iff.mpr (by decide)) (j := 3) (by decide) s631 rfl ?_
  refine AW.hp (h2 := hp (s.setA 631 (up (up (up (up (s.A 631) 0 day) 1 (day % 20)) 2 h) 3 ((vwM (s.A 626)).pu h)))) (by rw [setA_setA, setA_at, setA_ne (by decide), vwM_pu hh]) ?_
  refine AW.aload_n dX2_name_36 rfl rfl ?_
  refine AW.get ci2 21 (by decide) q1372 dX2_name_37 gM rfl rfl ?_
  refine AW.iconst (v := 4) dX2_name_40 (by decide) rfl ?_
  refine AW.aload_n dX2_name_41 rfl rfl ?_
  refine AW.iload_n dX2_name_42 rfl rfl ?_
  refine AW.iconst (v := 2) dX2_name_43 (by decide) rfl ?_
  refine AW.callV (Y := mX2_get) (n := 2) (r_X2_get (s := s.setA 631 (up (up (up (up (s.A 631) 0 day) 1 (day % 20)) 2 h) 3 ((vwM (s.A 626)).pu h))) h 2 (in_get hn hh (by decide) (by decide))) (by decide) (by decide) rfl gM q1477 q1479 qs63 q141 q1480 dX2_name_44 (by decide +kernel) rfl rfl (Nat.le_of_ble_eq_true rfl) rfl ?_
  refine AW.iast dX2_name_47 (by decide) g631 (vp_in_iff.mpr (by decide)) (j := 4) (by decide) s631 rfl ?_
  refine AW.hp (h2 := hp (s.setA 631 (up (up (up (up (up (s.A 631) 0 day) 1 (day % 20)) 2 h) 3 ((vwM (s.A 626)).pu h)) 4 ((vwM (s.A 626)).fr h)))) (by rw [setA_setA, setA_at, setA_ne (by decide), vwM_fr hh]) ?_
  refine AW.aload_n dX2_name_48 rfl rfl ?_
  refine AW.get ci2 21 (by decide) q1372 dX2_name_49 gM rfl rfl ?_
  refine AW.iconst (v := 5) dX2_name_52 (by decide) rfl ?_
  refine AW.aload_n dX2_name_53 rfl rfl ?_
  refine AW.iload_n dX2_name_54 rfl rfl ?_
  refine AW.iconst (v := 0) dX2_name_55 (by decide) rfl ?_
  refine AW.callV (Y := mX2_get) (n := 2) (r_X2_get (s := s.setA 631 (up (up (up (up (up (s.A 631) 0 day) 1 (day % 20)) 2 h) 3 ((vwM (s.A 626)).pu h)) 4 ((vwM (s.A 626)).fr h))) h 0 (in_get hn hh (by decide) (by decide))) (by decide) (by decide) rfl gM q1477 q1479 qs63 q141 q1480 dX2_name_56 (by decide +kernel) rfl rfl (Nat.le_of_ble_eq_true rfl) rfl ?_
  refine AW.callS (Y := mX2_bits) (n := 1) (r_X2_bits _) (by decide) (by decide) q1685 q1686 q141 q1687 dX2_name_59 (by decide +kernel) rfl rfl (Nat.le_of_ble_eq_true rfl) rfl ?_
  refine AW.iast dX2_name_62 (by decide) g631 (vp_in_iff.mpr (by decide)) (j := 5) (by decide) s631 rfl ?_
  refine AW.hp (h2 := hp (s.setA 631 (up (up (up (up (up (up (s.A 631) 0 day) 1 (day % 20)) 2 h) 3 ((vwM (s.A 626)).pu h)) 4 ((vwM (s.A 626)).fr h)) 5 (bitsI ((vwM (s.A 626)).sh h))))) (by rw [setA_setA, setA_at, setA_ne (by decide), vwM_sh hh]) ?_
  refine AW.aload_n dX2_name_63 rfl rfl ?_
  refine AW.get ci2 21 (by decide) q1372 dX2_name_64 gM rfl rfl ?_
  refine AW.bipush (v := 6) dX2_name_67 (by decide) rfl ?_
  refine AW.aload_n dX2_name_69 rfl rfl ?_
  refine AW.aload_n dX2_name_70 rfl rfl ?_
  refine AW.get ci2 21 (by decide) q1372 dX2_name_71 gM rfl rfl ?_
  refine AW.iconst (v := 1) dX2_name_74 (by decide) rfl ?_
  refine AW.iald dX2_name_75 g631 (vp_in_iff.mpr (by decide)) (j := 1) (by decide) rfl ?_
  refine AW.callV (Y := mX2_openOn) (n := 1) (r_X2_openOn (s := s.setA 631 (up (up (up (up (up (up (s.A 631) 0 day) 1 (day % 20)) 2 h) 3 ((vwM (s.A 626)).pu h)) 4 ((vwM (s.A 626)).fr h)) 5 (bitsI ((vwM (s.A 626)).sh h)))) hn _) (by decide) (by decide) rfl gM q1688 q1690 qs100 q141 q1691 dX2_name_76 (by decide +kernel) rfl rfl (Nat.le_of_ble_eq_true rfl) rfl ?_
  refine AW.iast dX2_name_79 (by decide) g631 (vp_in_iff.mpr (by decide)) (j := 6) (by decide) s631 rfl ?_
  refine AW.hp (h2 := hp (s.setA 631 (up (up (up (up (up (up (up (s.A 631) 0 day) 1 (day % 20)) 2 h) 3 ((vwM (s.A 626)).pu h)) 4 ((vwM (s.A 626)).fr h)) 5 (bitsI ((vwM (s.A 626)).sh h))) 6 ((vwM (s.A 626)).openOn (day % 20))))) (by rw [setA_setA, setA_at, setA_ne (by decide), up_ne (by decide), up_ne (by decide), up_ne (by decide), up_ne (by decide), up_eq]) ?_
  refine AW.aload_n dX2_name_80 rfl rfl ?_
  refine AW.get ci2 21 (by decide) q1372 dX2_name_81 gM rfl rfl ?_
  refine AW.bipush (v := 7) dX2_name_84 (by decide) rfl ?_
  refine AW.aload_n dX2_name_86 rfl rfl ?_
  refine AW.iload_n dX2_name_87 rfl rfl ?_
  refine AW.aload_n dX2_name_88 rfl rfl ?_
  refine AW.get ci2 21 (by decide) q1372 dX2_name_89 gM rfl rfl ?_
  refine AW.iconst (v := 1) dX2_name_92 (by decide) rfl ?_
  refine AW.iald dX2_name_93 g631 (vp_in_iff.mpr (by decide)) (j := 1) (by decide) rfl ?_
  refine AW.callV (Y := mX2_besideOn) (n := 2) (r_X2_besideOn (s := s.setA 631 (up (up (up (up (up (up (up (s.A 631) 0 day) 1 (day % 20)) 2 h) 3 ((vwM (s.A 626)).pu h)) 4 ((vwM (s.A 626)).fr h)) 5 (bitsI ((vwM (s.A 626)).sh h))) 6 ((vwM (s.A 626)).openOn (day % 20)))) hn _ _) (by decide) (by decide) rfl gM q1696 q1698 qs102 q141 q1699 dX2_name_94 (by decide +kernel) rfl rfl (Nat.le_of_ble_eq_true rfl) rfl ?_
  refine AW.iast dX2_name_97 (by decide) g631 (vp_in_iff.mpr (by decide)) (j := 7) (by decide) s631 rfl ?_
  exact AW.vretE dX2_name_98 rfl rfl (by rw [setA_setA, setA_at, setA_ne (by decide), up_ne (by decide), up_ne (by decide), up_ne (by decide), up_ne (by decide), up_ne (by decide), up_eq]; rfl)
theorem r_X2_clauseOf_n {s : Sg} (sort : Int32) (ht : s.A 626 2 < 0) : Run 1 mX2_clauseOf [.ref 625, .int sort] (hp s) (.inl (some (.int (-1)))) (hp s) := by
  refine Run.of rfl (Nat.le_of_ble_eq_true rfl) rfl ?_
  refine AW.iconst (v := 0) dX2_clauseOf_0 (by decide) rfl ?_
  refine AW.istore_n (i := 2) dX2_clauseOf_1 rfl rfl (Nat.le_of_ble_eq_true rfl) rfl rfl ?_
  refine AW.aload_n dX2_clauseOf_2 rfl rfl ?_
  refine AW.get ci2 0 (by decide) q1351 dX2_clauseOf_3 gM rfl rfl ?_
  refine AW.iconst (v := 2) dX2_clauseOf_6 (by decide) rfl ?_
  refine AW.iald dX2_clauseOf_7 g626 (vp_in_iff.mpr (by decide)) (j := 2) (by decide) rfl ?_
  refine AW.if_lt (tgt := 63) dX2_clauseOf_8 (by decide) rfl (fun _ => ?_) (fun c_ => by first | exact absurd c_ ht | exact absurd ht c_ | exact absurd c_ (not_not_intro ht) | exact Bool.noConfusion (c_.symm.trans ht))
  refine AW.iconst (v := (-1)) dX2_clauseOf_63 (by decide) rfl ?_
  exact AW.iretE dX2_clauseOf_64 rfl rfl rfl rfl
theorem r_X2_clauseOf {s : Sg} (t n : Nat) (ht : s.A 626 2 = nI t) (ht4 : t < 4) (hx : s.A 628 (705 * t) = nI n) (hn24 : n ≤ 24) (sort : Int32) : Run 1 mX2_clauseOf [.ref 625, .int sort] (hp s) (.inl (some (.int (clauseF (s.A 628) t n sort)))) (hp s) := by
  refine Run.of rfl (Nat.le_of_ble_eq_true rfl) rfl ?_
  refine AW.iconst (v := 0) dX2_clauseOf_0 (by decide) rfl ?_
  refine AW.istore_n (i := 2) dX2_clauseOf_1 rfl rfl (Nat.le_of_ble_eq_true rfl) rfl rfl ?_
  refine loopUp (P := fun k => AW 1 mX2_clauseOf (hp s) 2 [some (.ref 625), some (.int (sort)), some (.int (nI k))] [] (.inl (some (.int (srch (fun k => decide (s.A 628 (705 * t + 1 + 4 * k) = sort)) nI (-1) (n - k) k)))) (hp s)) n ?_ ?_ 0 (by first | exact Nat.zero_le _ | omega)
  · refine AW.aload_n dX2_clauseOf_2 rfl rfl ?_
    refine AW.get ci2 0 (by decide) q1351 dX2_clauseOf_3 gM rfl rfl ?_
    refine AW.iconst (v := 2) dX2_clauseOf_6 (by decide) rfl ?_
    refine AW.iald dX2_clauseOf_7 g626 (vp_in_iff.mpr (by decide)) (j := 2) (by decide) rfl ?_
    refine AW.if_lt (tgt := 63) dX2_clauseOf_8 (by decide) rfl (fun c_ => by first | exact absurd c_ (by rw [ht]; exact nI_pos (by omega)) | exact absurd (by rw [ht]; exact nI_pos (by omega)) c_ | exact Bool.noConfusion (c_.symm.trans (by rw [ht]; exact nI_pos (by omega)))) (fun _ => ?_)
    refine AW.iload_n dX2_clauseOf_11 rfl rfl ?_
    refine AW.aload_n dX2_clauseOf_12 rfl rfl ?_
    refine AW.get ci2 2 (by decide) q1353 dX2_clauseOf_13 gM rfl rfl ?_
    refine AW.sipush (v := 705) dX2_clauseOf_16 (by decide) rfl ?_
    refine AW.aload_n dX2_clauseOf_19 rfl rfl ?_
    refine AW.get ci2 0 (by decide) q1351 dX2_clauseOf_20 gM rfl rfl ?_
    refine AW.iconst (v := 2) dX2_clauseOf_23 (by decide) rfl ?_
    refine AW.iald dX2_clauseOf_24 g626 (vp_in_iff.mpr (by decide)) (j := 2) (by decide) rfl ?_
    refine AW.imul dX2_clauseOf_25 rfl ?_
    refine AW.iald dX2_clauseOf_26 g628 (by rw [show (705 : Int32) * s.A 626 2 = nI (705 * t) by rw [ht, show (705 : Int32) = nI 705 from rfl, nI_mul]]; exact in0 _ (by omega) (by decide)) (j := 705 * t) (by rw [show (705 : Int32) * s.A 626 2 = nI (705 * t) by rw [ht, show (705 : Int32) = nI 705 from rfl, nI_mul]]; exact cI_nI (by omega)) rfl ?_
    refine AW.icmp_ge (tgt := 63) dX2_clauseOf_27 (by decide) rfl (fun _ => ?_) (fun c_ => by first | exact absurd c_ (by rw [hx]; exact Int32.le_refl _) | exact absurd (by rw [hx]; exact Int32.le_refl _) c_ | exact absurd c_ (not_not_intro (by rw [hx]; exact Int32.le_refl _)) | exact Bool.noConfusion (c_.symm.trans (by rw [hx]; exact Int32.le_refl _)))
    refine AW.iconst (v := (-1)) dX2_clauseOf_63 (by decide) rfl ?_
    exact AW.iretE dX2_clauseOf_64 rfl rfl srch_e.symm rfl
  · intro k hk ihk
    refine AW.aload_n dX2_clauseOf_2 rfl rfl ?_
    refine AW.get ci2 0 (by decide) q1351 dX2_clauseOf_3 gM rfl rfl ?_
    refine AW.iconst (v := 2) dX2_clauseOf_6 (by decide) rfl ?_
    refine AW.iald dX2_clauseOf_7 g626 (vp_in_iff.mpr (by decide)) (j := 2) (by decide) rfl ?_
    refine AW.if_lt (tgt := 63) dX2_clauseOf_8 (by decide) rfl (fun c_ => by first | exact absurd c_ (by rw [ht]; exact nI_pos (by omega)) | exact absurd (by rw [ht]; exact nI_pos (by omega)) c_ | exact Bool.noConfusion (c_.symm.trans (by rw [ht]; exact nI_pos (by omega)))) (fun _ => ?_)
    refine AW.iload_n dX2_clauseOf_11 rfl rfl ?_
    refine AW.aload_n dX2_clauseOf_12 rfl rfl ?_
    refine AW.get ci2 2 (by decide) q1353 dX2_clauseOf_13 gM rfl rfl ?_
    refine AW.sipush (v := 705) dX2_clauseOf_16 (by decide) rfl ?_
    refine AW.aload_n dX2_clauseOf_19 rfl rfl ?_
    refine AW.get ci2 0 (by decide) q1351 dX2_clauseOf_20 gM rfl rfl ?_
    refine AW.iconst (v := 2) dX2_clauseOf_23 (by decide) rfl ?_
    refine AW.iald dX2_clauseOf_24 g626 (vp_in_iff.mpr (by decide)) (j := 2) (by decide) rfl ?_
    refine AW.imul dX2_clauseOf_25 rfl ?_
    refine AW.iald dX2_clauseOf_26 g628 (by rw [show (705 : Int32) * s.A 626 2 = nI (705 * t) by rw [ht, show (705 : Int32) = nI 705 from rfl, nI_mul]]; exact in0 _ (by omega) (by decide)) (j := 705 * t) (by rw [show (705 : Int32) * s.A 626 2 = nI (705 * t) by rw [ht, show (705 : Int32) = nI 705 from rfl, nI_mul]]; exact cI_nI (by omega)) rfl ?_
    refine AW.icmp_ge (tgt := 63) dX2_clauseOf_27 (by decide) rfl (fun c_ => by first | exact absurd c_ (by rw [hx, Int32.le_iff_toInt_le, nI_t (by omega), nI_t (by omega)]; omega) | exact absurd (by rw [hx, Int32.le_iff_toInt_le, nI_t (by omega), nI_t (by omega)]; omega) c_ | exact Bool.noConfusion (c_.symm.trans (by rw [hx, Int32.le_iff_toInt_le, nI_t (by omega), nI_t (by omega)]; omega))) (fun _ => ?_)
    refine AW.aload_n dX2_clauseOf_30 rfl rfl ?_
    refine AW.get ci2 2 (by decide) q1353 dX2_clauseOf_31 gM rfl rfl ?_
    refine AW.sipush (v := 705) dX2_clauseOf_34 (by decide) rfl ?_
    refine AW.aload_n dX2_clauseOf_37 rfl rfl ?_
    refine AW.get ci2 0 (by decide) q1351 dX2_clauseOf_38 gM rfl rfl ?_
    refine AW.iconst (v := 2) dX2_clauseOf_41 (by decide) rfl ?_
    refine AW.iald dX2_clauseOf_42 g626 (vp_in_iff.mpr (by decide)) (j := 2) (by decide) rfl ?_
    refine AW.imul dX2_clauseOf_43 rfl ?_
    refine AW.iconst (v := 1) dX2_clauseOf_44 (by decide) rfl ?_
    refine AW.iadd dX2_clauseOf_45 rfl ?_
    refine AW.iconst (v := 4) dX2_clauseOf_46 (by decide) rfl ?_
    refine AW.iload_n dX2_clauseOf_47 rfl rfl ?_
    refine AW.imul dX2_clauseOf_48 rfl ?_
    refine AW.iadd dX2_clauseOf_49 rfl ?_
    refine AW.iald dX2_clauseOf_50 g628 (by rw [show (705 : Int32) * s.A 626 2 + 1 + 4 * nI k = nI (705 * t + 1 + 4 * k) by rw [ht, show (705 : Int32) = nI 705 from rfl, show (4 : Int32) = nI 4 from rfl, nI_mul, nI_mul, nI_1, nI_add]]; exact in0 _ (by omega) (by decide)) (j := 705 * t + 1 + 4 * k) (by rw [show (705 : Int32) * s.A 626 2 + 1 + 4 * nI k = nI (705 * t + 1 + 4 * k) by rw [ht, show (705 : Int32) = nI 705 from rfl, show (4 : Int32) = nI 4 from rfl, nI_mul, nI_mul, nI_1, nI_add]]; exact cI_nI (by omega)) rfl ?_
    refine AW.iload_n dX2_clauseOf_51 rfl rfl ?_
    refine AW.icmp_ne (tgt := 57) dX2_clauseOf_52 (by decide) rfl (fun c => ?_) (fun c => ?_)
    · refine AW.iinc (v := 1) dX2_clauseOf_57 rfl (by decide) rfl rfl rfl ?_
      refine AW.goto (tgt := 2) dX2_clauseOf_60 (by decide) ?_
      exact AW.ls (by rw [nI_succ k]; rfl) (AW.oo (by rw [srch_f hk (dec_f c)]) ihk)
    · refine AW.iload_n dX2_clauseOf_55 rfl rfl ?_
      exact AW.iretE dX2_clauseOf_56 rfl rfl (srch_t hk (dec_t c)).symm rfl
