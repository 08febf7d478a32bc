/-! MODEL 20: sets, odds, next knock (printed by tools/m20.py) -/
set_option maxRecDepth 100000
section LE
variable {s : Sg} {W O : Int32} {q : Cq}
theorem r_lX2_entry0 (hb : (bkM (s.A 626)).ok) (i : Nat) (hi : i < (bkM (s.A 626)).n) : Run 1 mX2_entry [.ref 625, .int (nI i), .int 0] (hp (sl s W O q)) (.inl (some (.int ((bkM (s.A 626)).d i)))) (hp (sl s W O q)) := r_X2_entry (s := sl s W O q) hb i hi 0
theorem r_lX2_entry1 (hb : (bkM (s.A 626)).ok) (i : Nat) (hi : i < (bkM (s.A 626)).n) : Run 1 mX2_entry [.ref 625, .int (nI i), .int 1] (hp (sl s W O q)) (.inl (some (.int ((bkM (s.A 626)).h i)))) (hp (sl s W O q)) := r_X2_entry (s := sl s W O q) hb i hi 1
theorem r_lX2_entry2 (hb : (bkM (s.A 626)).ok) (i : Nat) (hi : i < (bkM (s.A 626)).n) : Run 1 mX2_entry [.ref 625, .int (nI i), .int 2] (hp (sl s W O q)) (.inl (some (.int ((bkM (s.A 626)).s i)))) (hp (sl s W O q)) := r_X2_entry (s := sl s W O q) hb i hi 2
end LE
theorem laySets_1 {s : Sg} (hb : (bkM (s.A 626)).ok) (he : (ewM (s.A 626)).ok) (h : Int32) : Run 2 mX2_laySets [.ref 625, .int h, .int 1] (hp s) (.inl none) (hp (sl s (datesP (bkM (s.A 626)) (ewM (s.A 626)) h).1 (datesP (bkM (s.A 626)) (ewM (s.A 626)) h).2 (sets1 (datesP (bkM (s.A 626)) (ewM (s.A 626)) h).1 (datesP (bkM (s.A 626)) (ewM (s.A 626)) h).2 ((0 : Int32), (1048575 : Int32), zero20 (s.A 635))))) := by
  refine Run.of rfl (Nat.le_of_ble_eq_true rfl) rfl ?_
  refine AW.hp (h2 := hp (sl s (s.S 25) (s.S 26) (s.S 27, s.S 28, s.A 635))) (by rw [sl_id]) ?_
  refine AW.aload_n dX2_laySets_0 rfl rfl ?_
  refine AW.iconst (v := 0) dX2_laySets_1 (by decide) rfl ?_
  refine AW.put ci2 25 (by decide) q1376 dX2_laySets_2 (by decide) gM rfl (fun _ => rfl) (fun _ => rfl) (Nat.le_of_ble_eq_true rfl) sl25 rfl ?_
  refine AW.aload_n dX2_laySets_5 rfl rfl ?_
  refine AW.iconst (v := 0) dX2_laySets_6 (by decide) rfl ?_
  refine AW.put ci2 26 (by decide) q1377 dX2_laySets_7 (by decide) gM rfl (fun _ => rfl) (fun _ => rfl) (Nat.le_of_ble_eq_true rfl) sl26 rfl ?_
  refine AW.iconst (v := 0) dX2_laySets_10 (by decide) rfl ?_
  refine AW.istore_n (i := 3) dX2_laySets_11 rfl rfl (Nat.le_of_ble_eq_true rfl) rfl rfl ?_
  refine loopUp (P := fun k => AW 2 mX2_laySets (hp (sl s (bookP (bkM (s.A 626)) h (0, 0) k).1 (bookP (bkM (s.A 626)) h (0, 0) k).2 (s.S 27, s.S 28, s.A 635))) 12 [some (.ref 625), some (.int (h)), some (.int (1)), some (.int (nI k)), none, none] [] (.inl none) (hp (sl s (datesP (bkM (s.A 626)) (ewM (s.A 626)) h).1 (datesP (bkM (s.A 626)) (ewM (s.A 626)) h).2 (sets1 (datesP (bkM (s.A 626)) (ewM (s.A 626)) h).1 (datesP (bkM (s.A 626)) (ewM (s.A 626)) h).2 ((0 : Int32), (1048575 : Int32), zero20 (s.A 635)))))) (bkM (s.A 626)).n ?_ ?_ 0 (by first | exact Nat.zero_le _ | omega)
  · refine AW.iload_n dX2_laySets_12 rfl rfl ?_
    refine AW.aload_n dX2_laySets_13 rfl rfl ?_
    refine AW.get ci2 0 (by decide) q1351 dX2_laySets_14 gM rfl rfl ?_
    refine AW.bipush (v := 10) dX2_laySets_17 (by decide) rfl ?_
    refine AW.iald dX2_laySets_19 gl626 (vp_in_iff.mpr (by decide)) (j := 10) (by decide) rfl ?_
    refine AW.icmp_ge (tgt := 58) dX2_laySets_20 (by decide) rfl (fun _ => ?_) (fun c_ => by first | exact absurd c_ (loop_end (by have := Bw.n40 hb; omega) (Bw.nN hb)) | exact absurd (loop_end (by have := Bw.n40 hb; omega) (Bw.nN hb)) c_ | exact absurd c_ (not_not_intro (loop_end (by have := Bw.n40 hb; omega) (Bw.nN hb))) | exact Bool.noConfusion (c_.symm.trans (loop_end (by have := Bw.n40 hb; omega) (Bw.nN hb))))
    refine AW.iconst (v := 0) dX2_laySets_58 (by decide) rfl ?_
    refine AW.istore_n (i := 3) dX2_laySets_59 rfl rfl (Nat.le_of_ble_eq_true rfl) rfl rfl ?_
    refine loopUp (P := fun k => AW 2 mX2_laySets (hp (sl s (seenP (ewM (s.A 626)) h (bookP (bkM (s.A 626)) h (0, 0) (bkM (s.A 626)).n) k).1 (seenP (ewM (s.A 626)) h (bookP (bkM (s.A 626)) h (0, 0) (bkM (s.A 626)).n) k).2 (s.S 27, s.S 28, s.A 635))) 60 [some (.ref 625), some (.int (h)), some (.int (1)), some (.int (nI k)), none, none] [] (.inl none) (hp (sl s (datesP (bkM (s.A 626)) (ewM (s.A 626)) h).1 (datesP (bkM (s.A 626)) (ewM (s.A 626)) h).2 (sets1 (datesP (bkM (s.A 626)) (ewM (s.A 626)) h).1 (datesP (bkM (s.A 626)) (ewM (s.A 626)) h).2 ((0 : Int32), (1048575 : Int32), zero20 (s.A 635)))))) (ewM (s.A 626)).n ?_ ?_ 0 (by first | exact Nat.zero_le _ | omega)
    · refine AW.iload_n dX2_laySets_60 rfl rfl ?_
      refine AW.aload_n dX2_laySets_61 rfl rfl ?_
      refine AW.get ci2 0 (by decide) q1351 dX2_laySets_62 gM rfl rfl ?_
      refine AW.iconst (v := 4) dX2_laySets_65 (by decide) rfl ?_
      refine AW.iald dX2_laySets_66 gl626 (vp_in_iff.mpr (by decide)) (j := 4) (by decide) rfl ?_
      refine AW.icmp_ge (tgt := 121) dX2_laySets_67 (by decide) rfl (fun _ => ?_) (fun c_ => by first | exact absurd c_ (loop_end (by have := Ew.n8 he; omega) (Ew.nN he)) | exact absurd (loop_end (by have := Ew.n8 he; omega) (Ew.nN he)) c_ | exact absurd c_ (not_not_intro (loop_end (by have := Ew.n8 he; omega) (Ew.nN he))) | exact Bool.noConfusion (c_.symm.trans (loop_end (by have := Ew.n8 he; omega) (Ew.nN he))))
      refine AW.aload_n dX2_laySets_121 rfl rfl ?_
      refine AW.iconst (v := 0) dX2_laySets_122 (by decide) rfl ?_
      refine AW.put ci2 27 (by decide) q1378 dX2_laySets_123 (by decide) gM rfl (fun _ => rfl) (fun _ => rfl) (Nat.le_of_ble_eq_true rfl) sl27 rfl ?_
      refine AW.aload_n dX2_laySets_126 rfl rfl ?_
      refine AW.ldcw dX2_laySets_127 q1905 rfl ?_
      refine AW.put ci2 28 (by decide) q1379 dX2_laySets_130 (by decide) gM rfl (fun _ => rfl) (fun _ => rfl) (Nat.le_of_ble_eq_true rfl) sl28 rfl ?_
      refine AW.fg 3 rfl ?_
      refine AW.hp (h2 := (hp (sl s (datesP (bkM (s.A 626)) (ewM (s.A 626)) h).1 (datesP (bkM (s.A 626)) (ewM (s.A 626)) h).2 ((0 : Int32), (1048575 : Int32), mv (s.A 635) 0 (fun _ => (0 : Int32)) 0)))) (by rw [mv_0]; rfl) ?_
      refine AW.iconst (v := 0) dX2_laySets_133 (by decide) rfl ?_
      refine AW.istore_n (i := 3) dX2_laySets_134 rfl rfl (Nat.le_of_ble_eq_true rfl) rfl rfl ?_
      refine loopUp (P := fun k => AW 2 mX2_laySets (hp (sl s (datesP (bkM (s.A 626)) (ewM (s.A 626)) h).1 (datesP (bkM (s.A 626)) (ewM (s.A 626)) h).2 ((0 : Int32), (1048575 : Int32), mv (s.A 635) 0 (fun _ => (0 : Int32)) k))) 135 [some (.ref 625), some (.int (h)), some (.int (1)), some (.int (nI k)), none, none] [] (.inl none) (hp (sl s (datesP (bkM (s.A 626)) (ewM (s.A 626)) h).1 (datesP (bkM (s.A 626)) (ewM (s.A 626)) h).2 (sets1 (datesP (bkM (s.A 626)) (ewM (s.A 626)) h).1 (datesP (bkM (s.A 626)) (ewM (s.A 626)) h).2 ((0 : Int32), (1048575 : Int32), zero20 (s.A 635)))))) 20 ?_ ?_ 0 (by first | exact Nat.zero_le _ | omega)
      · refine AW.iload_n dX2_laySets_135 rfl rfl ?_
        refine AW.bipush (v := 20) dX2_laySets_136 (by decide) rfl ?_
        refine AW.icmp_ge (tgt := 154) dX2_laySets_138 (by decide) rfl (fun _ => ?_) (fun c_ => by first | exact absurd c_ (by decide) | exact absurd (by decide) c_ | exact absurd c_ (not_not_intro (by decide)) | exact Bool.noConfusion (c_.symm.trans (by decide)))
        exact AW.fg 3 rfl (lay_1 h)
      · intro k hk ihk
        refine AW.iload_n dX2_laySets_135 rfl rfl ?_
        refine AW.bipush (v := 20) dX2_laySets_136 (by decide) rfl ?_
        refine AW.icmp_ge (tgt := 154) dX2_laySets_138 (by decide) rfl (fun c_ => by first | exact absurd c_ (nI_nle20' hk) | exact absurd (nI_nle20' hk) c_ | exact Bool.noConfusion (c_.symm.trans (nI_nle20' hk))) (fun _ => ?_)
        refine AW.aload_n dX2_laySets_141 rfl rfl ?_
        refine AW.get ci2 29 (by decide) q1380 dX2_laySets_142 gM rfl rfl ?_
        refine AW.iload_n dX2_laySets_145 rfl rfl ?_
        refine AW.iconst (v := 0) dX2_laySets_146 (by decide) rfl ?_
        refine AW.iast dX2_laySets_147 (by decide) gl635 (in0 k (by omega) (by decide)) (j := k) (cI_nI (by omega)) sl635 rfl ?_
        refine AW.iinc (v := 1) dX2_laySets_148 rfl (by decide) rfl rfl rfl ?_
        refine AW.goto (tgt := 135) dX2_laySets_151 (by decide) ?_
        exact AW.hp (by rw [← mv_s]; simp only [Nat.zero_add]) (AW.ls (by rw [nI_succ k]; rfl) ihk)
    · intro k hk ihk
      have hk8 : k < 8 := by have := Ew.n8 he; omega
      refine AW.iload_n dX2_laySets_60 rfl rfl ?_
      refine AW.aload_n dX2_laySets_61 rfl rfl ?_
      refine AW.get ci2 0 (by decide) q1351 dX2_laySets_62 gM rfl rfl ?_
      refine AW.iconst (v := 4) dX2_laySets_65 (by decide) rfl ?_
      refine AW.iald dX2_laySets_66 gl626 (vp_in_iff.mpr (by decide)) (j := 4) (by decide) rfl ?_
      refine AW.icmp_ge (tgt := 121) dX2_laySets_67 (by decide) rfl (fun c_ => by first | exact absurd c_ (loop_in hk (by have := Ew.n8 he; omega) (Ew.nN he)) | exact absurd (loop_in hk (by have := Ew.n8 he; omega) (Ew.nN he)) c_ | exact Bool.noConfusion (c_.symm.trans (loop_in hk (by have := Ew.n8 he; omega) (Ew.nN he)))) (fun _ => ?_)
      refine AW.aload_n dX2_laySets_70 rfl rfl ?_
      refine AW.get ci2 0 (by decide) q1351 dX2_laySets_71 gM rfl rfl ?_
      refine AW.bipush (v := 68) dX2_laySets_74 (by decide) rfl ?_
      refine AW.iconst (v := 3) dX2_laySets_76 (by decide) rfl ?_
      refine AW.iload_n dX2_laySets_77 rfl rfl ?_
      refine AW.imul dX2_laySets_78 rfl ?_
      refine AW.iadd dX2_laySets_79 rfl ?_
      refine AW.iald dX2_laySets_80 gl626 (by rw [(show (68 : Int32) + 3 * nI k = nI (68 + 3 * k) by rw [show (68 : Int32) = nI 68 from rfl, show (3 : Int32) = nI 3 from rfl, nI_mul, nI_add])]; exact in0 _ (by omega) (by decide)) (j := 68 + 3 * k) (by rw [(show (68 : Int32) + 3 * nI k = nI (68 + 3 * k) by rw [show (68 : Int32) = nI 68 from rfl, show (3 : Int32) = nI 3 from rfl, nI_mul, nI_add])]; exact cI_nI (by omega)) rfl ?_
      refine AW.iload_n dX2_laySets_81 rfl rfl ?_
      refine AW.icmp_ne (tgt := 115) dX2_laySets_82 (by decide) rfl (fun c82 => ?_) (fun c82 => ?_)
      · refine AW.iinc (v := 1) dX2_laySets_115 rfl (by decide) rfl rfl rfl ?_
        refine AW.goto (tgt := 60) dX2_laySets_118 (by decide) ?_
        have es : seenP (ewM (s.A 626)) h (bookP (bkM (s.A 626)) h (0, 0) (bkM (s.A 626)).n) (k + 1) = if (ewM (s.A 626)).h k = h then noteP (seenP (ewM (s.A 626)) h (bookP (bkM (s.A 626)) h (0, 0) (bkM (s.A 626)).n) k) ((ewM (s.A 626)).d k) ((ewM (s.A 626)).s k) else seenP (ewM (s.A 626)) h (bookP (bkM (s.A 626)) h (0, 0) (bkM (s.A 626)).n) k := rfl
        rw [if_neg (by rw [ewM_h hk]; exact c82)] at es
        rw [es] at ihk
        exact AW.ls (by rw [nI_succ k]; rfl) ihk
      · refine AW.aload_n dX2_laySets_85 rfl rfl ?_
        refine AW.aload_n dX2_laySets_86 rfl rfl ?_
        refine AW.get ci2 0 (by decide) q1351 dX2_laySets_87 gM rfl rfl ?_
        refine AW.bipush (v := 68) dX2_laySets_90 (by decide) rfl ?_
        refine AW.iconst (v := 3) dX2_laySets_92 (by decide) rfl ?_
        refine AW.iload_n dX2_laySets_93 rfl rfl ?_
        refine AW.imul dX2_laySets_94 rfl ?_
        refine AW.iadd dX2_laySets_95 rfl ?_
        refine AW.iconst (v := 1) dX2_laySets_96 (by decide) rfl ?_
        refine AW.iadd dX2_laySets_97 rfl ?_
        refine AW.iald dX2_laySets_98 gl626 (by rw [(show (68 : Int32) + 3 * nI k + 1 = nI (68 + 3 * k + 1) by rw [show (68 : Int32) = nI 68 from rfl, show (3 : Int32) = nI 3 from rfl, nI_mul, nI_add, show (1 : Int32) = nI 1 from rfl, nI_add])]; exact in0 _ (by omega) (by decide)) (j := 68 + 3 * k + 1) (by rw [(show (68 : Int32) + 3 * nI k + 1 = nI (68 + 3 * k + 1) by rw [show (68 : Int32) = nI 68 from rfl, show (3 : Int32) = nI 3 from rfl, nI_mul, nI_add, show (1 : Int32) = nI 1 from rfl, nI_add])]; exact cI_nI (by omega)) rfl ?_
        refine AW.aload_n dX2_laySets_99 rfl rfl ?_
        refine AW.get ci2 0 (by decide) q1351 dX2_laySets_100 gM rfl rfl ?_
        refine AW.bipush (v := 68) dX2_laySets_103 (by decide) rfl ?_
        refine AW.iconst (v := 3) dX2_laySets_105 (by decide) rfl ?_
        refine AW.iload_n dX2_laySets_106 rfl rfl ?_
        refine AW.imul dX2_laySets_107 rfl ?_
        refine AW.iadd dX2_laySets_108 rfl ?_
        refine AW.iconst (v := 2) dX2_laySets_109 (by decide) rfl ?_
        refine AW.iadd dX2_laySets_110 rfl ?_
        refine AW.iald dX2_laySets_111 gl626 (by rw [(show (68 : Int32) + 3 * nI k + 2 = nI (68 + 3 * k + 2) by rw [show (68 : Int32) = nI 68 from rfl, show (3 : Int32) = nI 3 from rfl, nI_mul, nI_add, show (2 : Int32) = nI 2 from rfl, nI_add])]; exact in0 _ (by omega) (by decide)) (j := 68 + 3 * k + 2) (by rw [(show (68 : Int32) + 3 * nI k + 2 = nI (68 + 3 * k + 2) by rw [show (68 : Int32) = nI 68 from rfl, show (3 : Int32) = nI 3 from rfl, nI_mul, nI_add, show (2 : Int32) = nI 2 from rfl, nI_add])]; exact cI_nI (by omega)) rfl ?_
        refine AW.callV (Y := mX2_note) (n := 2) (r_X2_note _ _) (by decide) (by decide) rfl gM q1901 q1903 qs124 q141 q1904 dX2_laySets_112 (by decide +kernel) rfl rfl (Nat.le_of_ble_eq_true rfl) rfl ?_
        refine AW.iinc (v := 1) dX2_laySets_115 rfl (by decide) rfl rfl rfl ?_
        refine AW.goto (tgt := 60) dX2_laySets_118 (by decide) ?_
        have es : seenP (ewM (s.A 626)) h (bookP (bkM (s.A 626)) h (0, 0) (bkM (s.A 626)).n) (k + 1) = if (ewM (s.A 626)).h k = h then noteP (seenP (ewM (s.A 626)) h (bookP (bkM (s.A 626)) h (0, 0) (bkM (s.A 626)).n) k) ((ewM (s.A 626)).d k) ((ewM (s.A 626)).s k) else seenP (ewM (s.A 626)) h (bookP (bkM (s.A 626)) h (0, 0) (bkM (s.A 626)).n) k := rfl
        rw [if_pos (by rw [ewM_h hk]; exact c82), ewM_d hk, ewM_s hk] at es
        rw [es] at ihk
        exact AW.ls (by rw [nI_succ k]; rfl) ihk
  · intro k hk ihk
    refine AW.iload_n dX2_laySets_12 rfl rfl ?_
    refine AW.aload_n dX2_laySets_13 rfl rfl ?_
    refine AW.get ci2 0 (by decide) q1351 dX2_laySets_14 gM rfl rfl ?_
    refine AW.bipush (v := 10) dX2_laySets_17 (by decide) rfl ?_
    refine AW.iald dX2_laySets_19 gl626 (vp_in_iff.mpr (by decide)) (j := 10) (by decide) rfl ?_
    refine AW.icmp_ge (tgt := 58) dX2_laySets_20 (by decide) rfl (fun c_ => by first | exact absurd c_ (loop_in hk (by have := Bw.n40 hb; omega) (Bw.nN hb)) | exact absurd (loop_in hk (by have := Bw.n40 hb; omega) (Bw.nN hb)) c_ | exact Bool.noConfusion (c_.symm.trans (loop_in hk (by have := Bw.n40 hb; omega) (Bw.nN hb)))) (fun _ => ?_)
    refine AW.aload_n dX2_laySets_23 rfl rfl ?_
    refine AW.iload_n dX2_laySets_24 rfl rfl ?_
    refine AW.iconst (v := 1) dX2_laySets_25 (by decide) rfl ?_
    refine AW.callV (Y := mX2_entry) (n := 2) (r_lX2_entry1 hb k hk) (by decide) (by decide) rfl gM q1821 q1823 qs116 q141 q1824 dX2_laySets_26 (by decide +kernel) rfl rfl (Nat.le_of_ble_eq_true rfl) rfl ?_
    refine AW.iload_n dX2_laySets_29 rfl rfl ?_
    refine AW.icmp_ne (tgt := 52) dX2_laySets_30 (by decide) rfl (fun c30 => ?_) (fun c30 => ?_)
    · refine AW.iinc (v := 1) dX2_laySets_52 rfl (by decide) rfl rfl rfl ?_
      refine AW.goto (tgt := 12) dX2_laySets_55 (by decide) ?_
      have es : bookP (bkM (s.A 626)) h (0, 0) (k + 1) = if (bkM (s.A 626)).h k = h then noteP (bookP (bkM (s.A 626)) h (0, 0) k) ((bkM (s.A 626)).d k % 20) ((bkM (s.A 626)).s k) else bookP (bkM (s.A 626)) h (0, 0) k := rfl
      rw [if_neg c30] at es
      rw [es] at ihk
      exact AW.ls (by rw [nI_succ k]; rfl) ihk
    · refine AW.aload_n dX2_laySets_33 rfl rfl ?_
      refine AW.aload_n dX2_laySets_34 rfl rfl ?_
      refine AW.iload_n dX2_laySets_35 rfl rfl ?_
      refine AW.iconst (v := 0) dX2_laySets_36 (by decide) rfl ?_
      refine AW.callV (Y := mX2_entry) (n := 2) (r_lX2_entry0 hb k hk) (by decide) (by decide) rfl gM q1821 q1823 qs116 q141 q1824 dX2_laySets_37 (by decide +kernel) rfl rfl (Nat.le_of_ble_eq_true rfl) rfl ?_
      refine AW.bipush (v := 20) dX2_laySets_40 (by decide) rfl ?_
      refine AW.irem dX2_laySets_42 (by decide) rfl ?_
      refine AW.aload_n dX2_laySets_43 rfl rfl ?_
      refine AW.iload_n dX2_laySets_44 rfl rfl ?_
      refine AW.iconst (v := 2) dX2_laySets_45 (by decide) rfl ?_
      refine AW.callV (Y := mX2_entry) (n := 2) (r_lX2_entry2 hb k hk) (by decide) (by decide) rfl gM q1821 q1823 qs116 q141 q1824 dX2_laySets_46 (by decide +kernel) rfl rfl (Nat.le_of_ble_eq_true rfl) rfl ?_
      refine AW.callV (Y := mX2_note) (n := 2) (r_X2_note _ _) (by decide) (by decide) rfl gM q1901 q1903 qs124 q141 q1904 dX2_laySets_49 (by decide +kernel) rfl rfl (Nat.le_of_ble_eq_true rfl) rfl ?_
      refine AW.iinc (v := 1) dX2_laySets_52 rfl (by decide) rfl rfl rfl ?_
      refine AW.goto (tgt := 12) dX2_laySets_55 (by decide) ?_
      have es : bookP (bkM (s.A 626)) h (0, 0) (k + 1) = if (bkM (s.A 626)).h k = h then noteP (bookP (bkM (s.A 626)) h (0, 0) k) ((bkM (s.A 626)).d k % 20) ((bkM (s.A 626)).s k) else bookP (bkM (s.A 626)) h (0, 0) k := rfl
      rw [if_pos c30] at es
      rw [es] at ihk
      exact AW.ls (by rw [nI_succ k]; rfl) ihk
theorem laySets_2 {s : Sg} (hb : (bkM (s.A 626)).ok) (he : (ewM (s.A 626)).ok) (h : Int32) : Run 2 mX2_laySets [.ref 625, .int h, .int 2] (hp s) (.inl none) (hp (sl s (datesP (bkM (s.A 626)) (ewM (s.A 626)) h).1 (datesP (bkM (s.A 626)) (ewM (s.A 626)) h).2 (sets2 (datesP (bkM (s.A 626)) (ewM (s.A 626)) h).1 (datesP (bkM (s.A 626)) (ewM (s.A 626)) h).2 ((0 : Int32), (1048575 : Int32), zero20 (s.A 635))))) := by
  refine Run.of rfl (Nat.le_of_ble_eq_true rfl) rfl ?_
  refine AW.hp (h2 := hp (sl s (s.S 25) (s.S 26) (s.S 27, s.S 28, s.A 635))) (by rw [sl_id]) ?_
  refine AW.aload_n dX2_laySets_0 rfl rfl ?_
  refine AW.iconst (v := 0) dX2_laySets_1 (by decide) rfl ?_
  refine AW.put ci2 25 (by decide) q1376 dX2_laySets_2 (by decide) gM rfl (fun _ => rfl) (fun _ => rfl) (Nat.le_of_ble_eq_true rfl) sl25 rfl ?_
  refine AW.aload_n dX2_laySets_5 rfl rfl ?_
  refine AW.iconst (v := 0) dX2_laySets_6 (by decide) rfl ?_
  refine AW.put ci2 26 (by decide) q1377 dX2_laySets_7 (by decide) gM rfl (fun _ => rfl) (fun _ => rfl) (Nat.le_of_ble_eq_true rfl) sl26 rfl ?_
  refine AW.iconst (v := 0) dX2_laySets_10 (by decide) rfl ?_
  refine AW.istore_n (i := 3) dX2_laySets_11 rfl rfl (Nat.le_of_ble_eq_true rfl) rfl rfl ?_
  refine loopUp (P := fun k => AW 2 mX2_laySets (hp (sl s (bookP (bkM (s.A 626)) h (0, 0) k).1 (bookP (bkM (s.A 626)) h (0, 0) k).2 (s.S 27, s.S 28, s.A 635))) 12 [some (.ref 625), some (.int (h)), some (.int (2)), some (.int (nI k)), none, none] [] (.inl none) (hp (sl s (datesP (bkM (s.A 626)) (ewM (s.A 626)) h).1 (datesP (bkM (s.A 626)) (ewM (s.A 626)) h).2 (sets2 (datesP (bkM (s.A 626)) (ewM (s.A 626)) h).1 (datesP (bkM (s.A 626)) (ewM (s.A 626)) h).2 ((0 : Int32), (1048575 : Int32), zero20 (s.A 635)))))) (bkM (s.A 626)).n ?_ ?_ 0 (by first | exact Nat.zero_le _ | omega)
  · refine AW.iload_n dX2_laySets_12 rfl rfl ?_
    refine AW.aload_n dX2_laySets_13 rfl rfl ?_
    refine AW.get ci2 0 (by decide) q1351 dX2_laySets_14 gM rfl rfl ?_
    refine AW.bipush (v := 10) dX2_laySets_17 (by decide) rfl ?_
    refine AW.iald dX2_laySets_19 gl626 (vp_in_iff.mpr (by decide)) (j := 10) (by decide) rfl ?_
    refine AW.icmp_ge (tgt := 58) dX2_laySets_20 (by decide) rfl (fun _ => ?_) (fun c_ => by first | exact absurd c_ (loop_end (by have := Bw.n40 hb; omega) (Bw.nN hb)) | exact absurd (loop_end (by have := Bw.n40 hb; omega) (Bw.nN hb)) c_ | exact absurd c_ (not_not_intro (loop_end (by have := Bw.n40 hb; omega) (Bw.nN hb))) | exact Bool.noConfusion (c_.symm.trans (loop_end (by have := Bw.n40 hb; omega) (Bw.nN hb))))
    refine AW.iconst (v := 0) dX2_laySets_58 (by decide) rfl ?_
    refine AW.istore_n (i := 3) dX2_laySets_59 rfl rfl (Nat.le_of_ble_eq_true rfl) rfl rfl ?_
    refine loopUp (P := fun k => AW 2 mX2_laySets (hp (sl s (seenP (ewM (s.A 626)) h (bookP (bkM (s.A 626)) h (0, 0) (bkM (s.A 626)).n) k).1 (seenP (ewM (s.A 626)) h (bookP (bkM (s.A 626)) h (0, 0) (bkM (s.A 626)).n) k).2 (s.S 27, s.S 28, s.A 635))) 60 [some (.ref 625), some (.int (h)), some (.int (2)), some (.int (nI k)), none, none] [] (.inl none) (hp (sl s (datesP (bkM (s.A 626)) (ewM (s.A 626)) h).1 (datesP (bkM (s.A 626)) (ewM (s.A 626)) h).2 (sets2 (datesP (bkM (s.A 626)) (ewM (s.A 626)) h).1 (datesP (bkM (s.A 626)) (ewM (s.A 626)) h).2 ((0 : Int32), (1048575 : Int32), zero20 (s.A 635)))))) (ewM (s.A 626)).n ?_ ?_ 0 (by first | exact Nat.zero_le _ | omega)
    · refine AW.iload_n dX2_laySets_60 rfl rfl ?_
      refine AW.aload_n dX2_laySets_61 rfl rfl ?_
      refine AW.get ci2 0 (by decide) q1351 dX2_laySets_62 gM rfl rfl ?_
      refine AW.iconst (v := 4) dX2_laySets_65 (by decide) rfl ?_
      refine AW.iald dX2_laySets_66 gl626 (vp_in_iff.mpr (by decide)) (j := 4) (by decide) rfl ?_
      refine AW.icmp_ge (tgt := 121) dX2_laySets_67 (by decide) rfl (fun _ => ?_) (fun c_ => by first | exact absurd c_ (loop_end (by have := Ew.n8 he; omega) (Ew.nN he)) | exact absurd (loop_end (by have := Ew.n8 he; omega) (Ew.nN he)) c_ | exact absurd c_ (not_not_intro (loop_end (by have := Ew.n8 he; omega) (Ew.nN he))) | exact Bool.noConfusion (c_.symm.trans (loop_end (by have := Ew.n8 he; omega) (Ew.nN he))))
      refine AW.aload_n dX2_laySets_121 rfl rfl ?_
      refine AW.iconst (v := 0) dX2_laySets_122 (by decide) rfl ?_
      refine AW.put ci2 27 (by decide) q1378 dX2_laySets_123 (by decide) gM rfl (fun _ => rfl) (fun _ => rfl) (Nat.le_of_ble_eq_true rfl) sl27 rfl ?_
      refine AW.aload_n dX2_laySets_126 rfl rfl ?_
      refine AW.ldcw dX2_laySets_127 q1905 rfl ?_
      refine AW.put ci2 28 (by decide) q1379 dX2_laySets_130 (by decide) gM rfl (fun _ => rfl) (fun _ => rfl) (Nat.le_of_ble_eq_true rfl) sl28 rfl ?_
      refine AW.fg 3 rfl ?_
      refine AW.hp (h2 := (hp (sl s (datesP (bkM (s.A 626)) (ewM (s.A 626)) h).1 (datesP (bkM (s.A 626)) (ewM (s.A 626)) h).2 ((0 : Int32), (1048575 : Int32), mv (s.A 635) 0 (fun _ => (0 : Int32)) 0)))) (by rw [mv_0]; rfl) ?_
      refine AW.iconst (v := 0) dX2_laySets_133 (by decide) rfl ?_
      refine AW.istore_n (i := 3) dX2_laySets_134 rfl rfl (Nat.le_of_ble_eq_true rfl) rfl rfl ?_
      refine loopUp (P := fun k => AW 2 mX2_laySets (hp (sl s (datesP (bkM (s.A 626)) (ewM (s.A 626)) h).1 (datesP (bkM (s.A 626)) (ewM (s.A 626)) h).2 ((0 : Int32), (1048575 : Int32), mv (s.A 635) 0 (fun _ => (0 : Int32)) k))) 135 [some (.ref 625), some (.int (h)), some (.int (2)), some (.int (nI k)), none, none] [] (.inl none) (hp (sl s (datesP (bkM (s.A 626)) (ewM (s.A 626)) h).1 (datesP (bkM (s.A 626)) (ewM (s.A 626)) h).2 (sets2 (datesP (bkM (s.A 626)) (ewM (s.A 626)) h).1 (datesP (bkM (s.A 626)) (ewM (s.A 626)) h).2 ((0 : Int32), (1048575 : Int32), zero20 (s.A 635)))))) 20 ?_ ?_ 0 (by first | exact Nat.zero_le _ | omega)
      · refine AW.iload_n dX2_laySets_135 rfl rfl ?_
        refine AW.bipush (v := 20) dX2_laySets_136 (by decide) rfl ?_
        refine AW.icmp_ge (tgt := 154) dX2_laySets_138 (by decide) rfl (fun _ => ?_) (fun c_ => by first | exact absurd c_ (by decide) | exact absurd (by decide) c_ | exact absurd c_ (not_not_intro (by decide)) | exact Bool.noConfusion (c_.symm.trans (by decide)))
        exact AW.fg 3 rfl (lay_2 h)
      · intro k hk ihk
        refine AW.iload_n dX2_laySets_135 rfl rfl ?_
        refine AW.bipush (v := 20) dX2_laySets_136 (by decide) rfl ?_
        refine AW.icmp_ge (tgt := 154) dX2_laySets_138 (by decide) rfl (fun c_ => by first | exact absurd c_ (nI_nle20' hk) | exact absurd (nI_nle20' hk) c_ | exact Bool.noConfusion (c_.symm.trans (nI_nle20' hk))) (fun _ => ?_)
        refine AW.aload_n dX2_laySets_141 rfl rfl ?_
        refine AW.get ci2 29 (by decide) q1380 dX2_laySets_142 gM rfl rfl ?_
        refine AW.iload_n dX2_laySets_145 rfl rfl ?_
        refine AW.iconst (v := 0) dX2_laySets_146 (by decide) rfl ?_
        refine AW.iast dX2_laySets_147 (by decide) gl635 (in0 k (by omega) (by decide)) (j := k) (cI_nI (by omega)) sl635 rfl ?_
        refine AW.iinc (v := 1) dX2_laySets_148 rfl (by decide) rfl rfl rfl ?_
        refine AW.goto (tgt := 135) dX2_laySets_151 (by decide) ?_
        exact AW.hp (by rw [← mv_s]; simp only [Nat.zero_add]) (AW.ls (by rw [nI_succ k]; rfl) ihk)
    · intro k hk ihk
      have hk8 : k < 8 := by have := Ew.n8 he; omega
      refine AW.iload_n dX2_laySets_60 rfl rfl ?_
      refine AW.aload_n dX2_laySets_61 rfl rfl ?_
      refine AW.get ci2 0 (by decide) q1351 dX2_laySets_62 gM rfl rfl ?_
      refine AW.iconst (v := 4) dX2_laySets_65 (by decide) rfl ?_
      refine AW.iald dX2_laySets_66 gl626 (vp_in_iff.mpr (by decide)) (j := 4) (by decide) rfl ?_
      refine AW.icmp_ge (tgt := 121) dX2_laySets_67 (by decide) rfl (fun c_ => by first | exact absurd c_ (loop_in hk (by have := Ew.n8 he; omega) (Ew.nN he)) | exact absurd (loop_in hk (by have := Ew.n8 he; omega) (Ew.nN he)) c_ | exact Bool.noConfusion (c_.symm.trans (loop_in hk (by have := Ew.n8 he; omega) (Ew.nN he)))) (fun _ => ?_)
      refine AW.aload_n dX2_laySets_70 rfl rfl ?_
      refine AW.get ci2 0 (by decide) q1351 dX2_laySets_71 gM rfl rfl ?_
      refine AW.bipush (v := 68) dX2_laySets_74 (by decide) rfl ?_
      refine AW.iconst (v := 3) dX2_laySets_76 (by decide) rfl ?_
      refine AW.iload_n dX2_laySets_77 rfl rfl ?_
      refine AW.imul dX2_laySets_78 rfl ?_
      refine AW.iadd dX2_laySets_79 rfl ?_
      refine AW.iald dX2_laySets_80 gl626 (by rw [(show (68 : Int32) + 3 * nI k = nI (68 + 3 * k) by rw [show (68 : Int32) = nI 68 from rfl, show (3 : Int32) = nI 3 from rfl, nI_mul, nI_add])]; exact in0 _ (by omega) (by decide)) (j := 68 + 3 * k) (by rw [(show (68 : Int32) + 3 * nI k = nI (68 + 3 * k) by rw [show (68 : Int32) = nI 68 from rfl, show (3 : Int32) = nI 3 from rfl, nI_mul, nI_add])]; exact cI_nI (by omega)) rfl ?_
      refine AW.iload_n dX2_laySets_81 rfl rfl ?_
      refine AW.icmp_ne (tgt := 115) dX2_laySets_82 (by decide) rfl (fun c82 => ?_) (fun c82 => ?_)
      · refine AW.iinc (v := 1) dX2_laySets_115 rfl (by decide) rfl rfl rfl ?_
        refine AW.goto (tgt := 60) dX2_laySets_118 (by decide) ?_
        have es : seenP (ewM (s.A 626)) h (bookP (bkM (s.A 626)) h (0, 0) (bkM (s.A 626)).n) (k + 1) = if (ewM (s.A 626)).h k = h then noteP (seenP (ewM (s.A 626)) h (bookP (bkM (s.A 626)) h (0, 0) (bkM (s.A 626)).n) k) ((ewM (s.A 626)).d k) ((ewM (s.A 626)).s k) else seenP (ewM (s.A 626)) h (bookP (bkM (s.A 626)) h (0, 0) (bkM (s.A 626)).n) k := rfl
        rw [if_neg (by rw [ewM_h hk]; exact c82)] at es
        rw [es] at ihk
        exact AW.ls (by rw [nI_succ k]; rfl) ihk
      · refine AW.aload_n dX2_laySets_85 rfl rfl ?_
        refine AW.aload_n dX2_laySets_86 rfl rfl ?_
        refine AW.get ci2 0 (by decide) q1351 dX2_laySets_87 gM rfl rfl ?_
        refine AW.bipush (v := 68) dX2_laySets_90 (by decide) rfl ?_
        refine AW.iconst (v := 3) dX2_laySets_92 (by decide) rfl ?_
        refine AW.iload_n dX2_laySets_93 rfl rfl ?_
        refine AW.imul dX2_laySets_94 rfl ?_
        refine AW.iadd dX2_laySets_95 rfl ?_
        refine AW.iconst (v := 1) dX2_laySets_96 (by decide) rfl ?_
        refine AW.iadd dX2_laySets_97 rfl ?_
        refine AW.iald dX2_laySets_98 gl626 (by rw [(show (68 : Int32) + 3 * nI k + 1 = nI (68 + 3 * k + 1) by rw [show (68 : Int32) = nI 68 from rfl, show (3 : Int32) = nI 3 from rfl, nI_mul, nI_add, show (1 : Int32) = nI 1 from rfl, nI_add])]; exact in0 _ (by omega) (by decide)) (j := 68 + 3 * k + 1) (by rw [(show (68 : Int32) + 3 * nI k + 1 = nI (68 + 3 * k + 1) by rw [show (68 : Int32) = nI 68 from rfl, show (3 : Int32) = nI 3 from rfl, nI_mul, nI_add, show (1 : Int32) = nI 1 from rfl, nI_add])]; exact cI_nI (by omega)) rfl ?_
        refine AW.aload_n dX2_laySets_99 rfl rfl ?_
        refine AW.get ci2 0 (by decide) q1351 dX2_laySets_100 gM rfl rfl ?_
        refine AW.bipush (v := 68) dX2_laySets_103 (by decide) rfl ?_
        refine AW.iconst (v := 3) dX2_laySets_105 (by decide) rfl ?_
        refine AW.iload_n dX2_laySets_106 rfl rfl ?_
        refine AW.imul dX2_laySets_107 rfl ?_
        refine AW.iadd dX2_laySets_108 rfl ?_
        refine AW.iconst (v := 2) dX2_laySets_109 (by decide) rfl ?_
        refine AW.iadd dX2_laySets_110 rfl ?_
        refine AW.iald dX2_laySets_111 gl626 (by rw [(show (68 : Int32) + 3 * nI k + 2 = nI (68 + 3 * k + 2) by rw [show (68 : Int32) = nI 68 from rfl, show (3 : Int32) = nI 3 from rfl, nI_mul, nI_add, show (2 : Int32) = nI 2 from rfl, nI_add])]; exact in0 _ (by omega) (by decide)) (j := 68 + 3 * k + 2) (by rw [(show (68 : Int32) + 3 * nI k + 2 = nI (68 + 3 * k + 2) by rw [show (68 : Int32) = nI 68 from rfl, show (3 : Int32) = nI 3 from rfl, nI_mul, nI_add, show (2 : Int32) = nI 2 from rfl, nI_add])]; exact cI_nI (by omega)) rfl ?_
        refine AW.callV (Y := mX2_note) (n := 2) (r_X2_note _ _) (by decide) (by decide) rfl gM q1901 q1903 qs124 q141 q1904 dX2_laySets_112 (by decide +kernel) rfl rfl (Nat.le_of_ble_eq_true rfl) rfl ?_
        refine AW.iinc (v := 1) dX2_laySets_115 rfl (by decide) rfl rfl rfl ?_
        refine AW.goto (tgt := 60) dX2_laySets_118 (by decide) ?_
        have es : seenP (ewM (s.A 626)) h (bookP (bkM (s.A 626)) h (0, 0) (bkM (s.A 626)).n) (k + 1) = if (ewM (s.A 626)).h k = h then noteP (seenP (ewM (s.A 626)) h (bookP (bkM (s.A 626)) h (0, 0) (bkM (s.A 626)).n) k) ((ewM (s.A 626)).d k) ((ewM (s.A 626)).s k) else seenP (ewM (s.A 626)) h (bookP (bkM (s.A 626)) h (0, 0) (bkM (s.A 626)).n) k := rfl
        rw [if_pos (by rw [ewM_h hk]; exact c82), ewM_d hk, ewM_s hk] at es
        rw [es] at ihk
        exact AW.ls (by rw [nI_succ k]; rfl) ihk
  · intro k hk ihk
    refine AW.iload_n dX2_laySets_12 rfl rfl ?_
    refine AW.aload_n dX2_laySets_13 rfl rfl ?_
    refine AW.get ci2 0 (by decide) q1351 dX2_laySets_14 gM rfl rfl ?_
    refine AW.bipush (v := 10) dX2_laySets_17 (by decide) rfl ?_
    refine AW.iald dX2_laySets_19 gl626 (vp_in_iff.mpr (by decide)) (j := 10) (by decide) rfl ?_
    refine AW.icmp_ge (tgt := 58) dX2_laySets_20 (by decide) rfl (fun c_ => by first | exact absurd c_ (loop_in hk (by have := Bw.n40 hb; omega) (Bw.nN hb)) | exact absurd (loop_in hk (by have := Bw.n40 hb; omega) (Bw.nN hb)) c_ | exact Bool.noConfusion (c_.symm.trans (loop_in hk (by have := Bw.n40 hb; omega) (Bw.nN hb)))) (fun _ => ?_)
    refine AW.aload_n dX2_laySets_23 rfl rfl ?_
    refine AW.iload_n dX2_laySets_24 rfl rfl ?_
    refine AW.iconst (v := 1) dX2_laySets_25 (by decide) rfl ?_
    refine AW.callV (Y := mX2_entry) (n := 2) (r_lX2_entry1 hb k hk) (by decide) (by decide) rfl gM q1821 q1823 qs116 q141 q1824 dX2_laySets_26 (by decide +kernel) rfl rfl (Nat.le_of_ble_eq_true rfl) rfl ?_
    refine AW.iload_n dX2_laySets_29 rfl rfl ?_
    refine AW.icmp_ne (tgt := 52) dX2_laySets_30 (by decide) rfl (fun c30 => ?_) (fun c30 => ?_)
    · refine AW.iinc (v := 1) dX2_laySets_52 rfl (by decide) rfl rfl rfl ?_
      refine AW.goto (tgt := 12) dX2_laySets_55 (by decide) ?_
      have es : bookP (bkM (s.A 626)) h (0, 0) (k + 1) = if (bkM (s.A 626)).h k = h then noteP (bookP (bkM (s.A 626)) h (0, 0) k) ((bkM (s.A 626)).d k % 20) ((bkM (s.A 626)).s k) else bookP (bkM (s.A 626)) h (0, 0) k := rfl
      rw [if_neg c30] at es
      rw [es] at ihk
      exact AW.ls (by rw [nI_succ k]; rfl) ihk
    · refine AW.aload_n dX2_laySets_33 rfl rfl ?_
      refine AW.aload_n dX2_laySets_34 rfl rfl ?_
      refine AW.iload_n dX2_laySets_35 rfl rfl ?_
      refine AW.iconst (v := 0) dX2_laySets_36 (by decide) rfl ?_
      refine AW.callV (Y := mX2_entry) (n := 2) (r_lX2_entry0 hb k hk) (by decide) (by decide) rfl gM q1821 q1823 qs116 q141 q1824 dX2_laySets_37 (by decide +kernel) rfl rfl (Nat.le_of_ble_eq_true rfl) rfl ?_
      refine AW.bipush (v := 20) dX2_laySets_40 (by decide) rfl ?_
      refine AW.irem dX2_laySets_42 (by decide) rfl ?_
      refine AW.aload_n dX2_laySets_43 rfl rfl ?_
      refine AW.iload_n dX2_laySets_44 rfl rfl ?_
      refine AW.iconst (v := 2) dX2_laySets_45 (by decide) rfl ?_
      refine AW.callV (Y := mX2_entry) (n := 2) (r_lX2_entry2 hb k hk) (by decide) (by decide) rfl gM q1821 q1823 qs116 q141 q1824 dX2_laySets_46 (by decide +kernel) rfl rfl (Nat.le_of_ble_eq_true rfl) rfl ?_
      refine AW.callV (Y := mX2_note) (n := 2) (r_X2_note _ _) (by decide) (by decide) rfl gM q1901 q1903 qs124 q141 q1904 dX2_laySets_49 (by decide +kernel) rfl rfl (Nat.le_of_ble_eq_true rfl) rfl ?_
      refine AW.iinc (v := 1) dX2_laySets_52 rfl (by decide) rfl rfl rfl ?_
      refine AW.goto (tgt := 12) dX2_laySets_55 (by decide) ?_
      have es : bookP (bkM (s.A 626)) h (0, 0) (k + 1) = if (bkM (s.A 626)).h k = h then noteP (bookP (bkM (s.A 626)) h (0, 0) k) ((bkM (s.A 626)).d k % 20) ((bkM (s.A 626)).s k) else bookP (bkM (s.A 626)) h (0, 0) k := rfl
      rw [if_pos c30] at es
      rw [es] at ihk
      exact AW.ls (by rw [nI_succ k]; rfl) ihk
theorem laySets_3 {s : Sg} (hb : (bkM (s.A 626)).ok) (he : (ewM (s.A 626)).ok) (h : Int32) : Run 2 mX2_laySets [.ref 625, .int h, .int 3] (hp s) (.inl none) (hp (sl s (datesP (bkM (s.A 626)) (ewM (s.A 626)) h).1 (datesP (bkM (s.A 626)) (ewM (s.A 626)) h).2 (sets3 (datesP (bkM (s.A 626)) (ewM (s.A 626)) h).1 (datesP (bkM (s.A 626)) (ewM (s.A 626)) h).2 ((0 : Int32), (1048575 : Int32), zero20 (s.A 635))))) := by
  refine Run.of rfl (Nat.le_of_ble_eq_true rfl) rfl ?_
  refine AW.hp (h2 := hp (sl s (s.S 25) (s.S 26) (s.S 27, s.S 28, s.A 635))) (by rw [sl_id]) ?_
  refine AW.aload_n dX2_laySets_0 rfl rfl ?_
  refine AW.iconst (v := 0) dX2_laySets_1 (by decide) rfl ?_
  refine AW.put ci2 25 (by decide) q1376 dX2_laySets_2 (by decide) gM rfl (fun _ => rfl) (fun _ => rfl) (Nat.le_of_ble_eq_true rfl) sl25 rfl ?_
  refine AW.aload_n dX2_laySets_5 rfl rfl ?_
  refine AW.iconst (v := 0) dX2_laySets_6 (by decide) rfl ?_
  refine AW.put ci2 26 (by decide) q1377 dX2_laySets_7 (by decide) gM rfl (fun _ => rfl) (fun _ => rfl) (Nat.le_of_ble_eq_true rfl) sl26 rfl ?_
  refine AW.iconst (v := 0) dX2_laySets_10 (by decide) rfl ?_
  refine AW.istore_n (i := 3) dX2_laySets_11 rfl rfl (Nat.le_of_ble_eq_true rfl) rfl rfl ?_
  refine loopUp (P := fun k => AW 2 mX2_laySets (hp (sl s (bookP (bkM (s.A 626)) h (0, 0) k).1 (bookP (bkM (s.A 626)) h (0, 0) k).2 (s.S 27, s.S 28, s.A 635))) 12 [some (.ref 625), some (.int (h)), some (.int (3)), some (.int (nI k)), none, none] [] (.inl none) (hp (sl s (datesP (bkM (s.A 626)) (ewM (s.A 626)) h).1 (datesP (bkM (s.A 626)) (ewM (s.A 626)) h).2 (sets3 (datesP (bkM (s.A 626)) (ewM (s.A 626)) h).1 (datesP (bkM (s.A 626)) (ewM (s.A 626)) h).2 ((0 : Int32), (1048575 : Int32), zero20 (s.A 635)))))) (bkM (s.A 626)).n ?_ ?_ 0 (by first | exact Nat.zero_le _ | omega)
  · refine AW.iload_n dX2_laySets_12 rfl rfl ?_
    refine AW.aload_n dX2_laySets_13 rfl rfl ?_
    refine AW.get ci2 0 (by decide) q1351 dX2_laySets_14 gM rfl rfl ?_
    refine AW.bipush (v := 10) dX2_laySets_17 (by decide) rfl ?_
    refine AW.iald dX2_laySets_19 gl626 (vp_in_iff.mpr (by decide)) (j := 10) (by decide) rfl ?_
    refine AW.icmp_ge (tgt := 58) dX2_laySets_20 (by decide) rfl (fun _ => ?_) (fun c_ => by first | exact absurd c_ (loop_end (by have := Bw.n40 hb; omega) (Bw.nN hb)) | exact absurd (loop_end (by have := Bw.n40 hb; omega) (Bw.nN hb)) c_ | exact absurd c_ (not_not_intro (loop_end (by have := Bw.n40 hb; omega) (Bw.nN hb))) | exact Bool.noConfusion (c_.symm.trans (loop_end (by have := Bw.n40 hb; omega) (Bw.nN hb))))
    refine AW.iconst (v := 0) dX2_laySets_58 (by decide) rfl ?_
    refine AW.istore_n (i := 3) dX2_laySets_59 rfl rfl (Nat.le_of_ble_eq_true rfl) rfl rfl ?_
    refine loopUp (P := fun k => AW 2 mX2_laySets (hp (sl s (seenP (ewM (s.A 626)) h (bookP (bkM (s.A 626)) h (0, 0) (bkM (s.A 626)).n) k).1 (seenP (ewM (s.A 626)) h (bookP (bkM (s.A 626)) h (0, 0) (bkM (s.A 626)).n) k).2 (s.S 27, s.S 28, s.A 635))) 60 [some (.ref 625), some (.int (h)), some (.int (3)), some (.int (nI k)), none, none] [] (.inl none) (hp (sl s (datesP (bkM (s.A 626)) (ewM (s.A 626)) h).1 (datesP (bkM (s.A 626)) (ewM (s.A 626)) h).2 (sets3 (datesP (bkM (s.A 626)) (ewM (s.A 626)) h).1 (datesP (bkM (s.A 626)) (ewM (s.A 626)) h).2 ((0 : Int32), (1048575 : Int32), zero20 (s.A 635)))))) (ewM (s.A 626)).n ?_ ?_ 0 (by first | exact Nat.zero_le _ | omega)
    · refine AW.iload_n dX2_laySets_60 rfl rfl ?_
      refine AW.aload_n dX2_laySets_61 rfl rfl ?_
      refine AW.get ci2 0 (by decide) q1351 dX2_laySets_62 gM rfl rfl ?_
      refine AW.iconst (v := 4) dX2_laySets_65 (by decide) rfl ?_
      refine AW.iald dX2_laySets_66 gl626 (vp_in_iff.mpr (by decide)) (j := 4) (by decide) rfl ?_
      refine AW.icmp_ge (tgt := 121) dX2_laySets_67 (by decide) rfl (fun _ => ?_) (fun c_ => by first | exact absurd c_ (loop_end (by have := Ew.n8 he; omega) (Ew.nN he)) | exact absurd (loop_end (by have := Ew.n8 he; omega) (Ew.nN he)) c_ | exact absurd c_ (not_not_intro (loop_end (by have := Ew.n8 he; omega) (Ew.nN he))) | exact Bool.noConfusion (c_.symm.trans (loop_end (by have := Ew.n8 he; omega) (Ew.nN he))))
      refine AW.aload_n dX2_laySets_121 rfl rfl ?_
      refine AW.iconst (v := 0) dX2_laySets_122 (by decide) rfl ?_
      refine AW.put ci2 27 (by decide) q1378 dX2_laySets_123 (by decide) gM rfl (fun _ => rfl) (fun _ => rfl) (Nat.le_of_ble_eq_true rfl) sl27 rfl ?_
      refine AW.aload_n dX2_laySets_126 rfl rfl ?_
      refine AW.ldcw dX2_laySets_127 q1905 rfl ?_
      refine AW.put ci2 28 (by decide) q1379 dX2_laySets_130 (by decide) gM rfl (fun _ => rfl) (fun _ => rfl) (Nat.le_of_ble_eq_true rfl) sl28 rfl ?_
      refine AW.fg 3 rfl ?_
      refine AW.hp (h2 := (hp (sl s (datesP (bkM (s.A 626)) (ewM (s.A 626)) h).1 (datesP (bkM (s.A 626)) (ewM (s.A 626)) h).2 ((0 : Int32), (1048575 : Int32), mv (s.A 635) 0 (fun _ => (0 : Int32)) 0)))) (by rw [mv_0]; rfl) ?_
      refine AW.iconst (v := 0) dX2_laySets_133 (by decide) rfl ?_
      refine AW.istore_n (i := 3) dX2_laySets_134 rfl rfl (Nat.le_of_ble_eq_true rfl) rfl rfl ?_
      refine loopUp (P := fun k => AW 2 mX2_laySets (hp (sl s (datesP (bkM (s.A 626)) (ewM (s.A 626)) h).1 (datesP (bkM (s.A 626)) (ewM (s.A 626)) h).2 ((0 : Int32), (1048575 : Int32), mv (s.A 635) 0 (fun _ => (0 : Int32)) k))) 135 [some (.ref 625), some (.int (h)), some (.int (3)), some (.int (nI k)), none, none] [] (.inl none) (hp (sl s (datesP (bkM (s.A 626)) (ewM (s.A 626)) h).1 (datesP (bkM (s.A 626)) (ewM (s.A 626)) h).2 (sets3 (datesP (bkM (s.A 626)) (ewM (s.A 626)) h).1 (datesP (bkM (s.A 626)) (ewM (s.A 626)) h).2 ((0 : Int32), (1048575 : Int32), zero20 (s.A 635)))))) 20 ?_ ?_ 0 (by first | exact Nat.zero_le _ | omega)
      · refine AW.iload_n dX2_laySets_135 rfl rfl ?_
        refine AW.bipush (v := 20) dX2_laySets_136 (by decide) rfl ?_
        refine AW.icmp_ge (tgt := 154) dX2_laySets_138 (by decide) rfl (fun _ => ?_) (fun c_ => by first | exact absurd c_ (by decide) | exact absurd (by decide) c_ | exact absurd c_ (not_not_intro (by decide)) | exact Bool.noConfusion (c_.symm.trans (by decide)))
        exact AW.fg 3 rfl (lay_3 h)
      · intro k hk ihk
        refine AW.iload_n dX2_laySets_135 rfl rfl ?_
        refine AW.bipush (v := 20) dX2_laySets_136 (by decide) rfl ?_
        refine AW.icmp_ge (tgt := 154) dX2_laySets_138 (by decide) rfl (fun c_ => by first | exact absurd c_ (nI_nle20' hk) | exact absurd (nI_nle20' hk) c_ | exact Bool.noConfusion (c_.symm.trans (nI_nle20' hk))) (fun _ => ?_)
        refine AW.aload_n dX2_laySets_141 rfl rfl ?_
        refine AW.get ci2 29 (by decide) q1380 dX2_laySets_142 gM rfl rfl ?_
        refine AW.iload_n dX2_laySets_145 rfl rfl ?_
        refine AW.iconst (v := 0) dX2_laySets_146 (by decide) rfl ?_
        refine AW.iast dX2_laySets_147 (by decide) gl635 (in0 k (by omega) (by decide)) (j := k) (cI_nI (by omega)) sl635 rfl ?_
        refine AW.iinc (v := 1) dX2_laySets_148 rfl (by decide) rfl rfl rfl ?_
        refine AW.goto (tgt := 135) dX2_laySets_151 (by decide) ?_
        exact AW.hp (by rw [← mv_s]; simp only [Nat.zero_add]) (AW.ls (by rw [nI_succ k]; rfl) ihk)
    · intro k hk ihk
      have hk8 : k < 8 := by have := Ew.n8 he; omega
      refine AW.iload_n dX2_laySets_60 rfl rfl ?_
      refine AW.aload_n dX2_laySets_61 rfl rfl ?_
      refine AW.get ci2 0 (by decide) q1351 dX2_laySets_62 gM rfl rfl ?_
      refine AW.iconst (v := 4) dX2_laySets_65 (by decide) rfl ?_
      refine AW.iald dX2_laySets_66 gl626 (vp_in_iff.mpr (by decide)) (j := 4) (by decide) rfl ?_
      refine AW.icmp_ge (tgt := 121) dX2_laySets_67 (by decide) rfl (fun c_ => by first | exact absurd c_ (loop_in hk (by have := Ew.n8 he; omega) (Ew.nN he)) | exact absurd (loop_in hk (by have := Ew.n8 he; omega) (Ew.nN he)) c_ | exact Bool.noConfusion (c_.symm.trans (loop_in hk (by have := Ew.n8 he; omega) (Ew.nN he)))) (fun _ => ?_)
      refine AW.aload_n dX2_laySets_70 rfl rfl ?_
      refine AW.get ci2 0 (by decide) q1351 dX2_laySets_71 gM rfl rfl ?_
      refine AW.bipush (v := 68) dX2_laySets_74 (by decide) rfl ?_
      refine AW.iconst (v := 3) dX2_laySets_76 (by decide) rfl ?_
      refine AW.iload_n dX2_laySets_77 rfl rfl ?_
      refine AW.imul dX2_laySets_78 rfl ?_
      refine AW.iadd dX2_laySets_79 rfl ?_
      refine AW.iald dX2_laySets_80 gl626 (by rw [(show (68 : Int32) + 3 * nI k = nI (68 + 3 * k) by rw [show (68 : Int32) = nI 68 from rfl, show (3 : Int32) = nI 3 from rfl, nI_mul, nI_add])]; exact in0 _ (by omega) (by decide)) (j := 68 + 3 * k) (by rw [(show (68 : Int32) + 3 * nI k = nI (68 + 3 * k) by rw [show (68 : Int32) = nI 68 from rfl, show (3 : Int32) = nI 3 from rfl, nI_mul, nI_add])]; exact cI_nI (by omega)) rfl ?_
      refine AW.iload_n dX2_laySets_81 rfl rfl ?_
      refine AW.icmp_ne (tgt := 115) dX2_laySets_82 (by decide) rfl (fun c82 => ?_) (fun c82 => ?_)
      · refine AW.iinc (v := 1) dX2_laySets_115 rfl (by decide) rfl rfl rfl ?_
        refine AW.goto (tgt := 60) dX2_laySets_118 (by decide) ?_
        have es : seenP (ewM (s.A 626)) h (bookP (bkM (s.A 626)) h (0, 0) (bkM (s.A 626)).n) (k + 1) = if (ewM (s.A 626)).h k = h then noteP (seenP (ewM (s.A 626)) h (bookP (bkM (s.A 626)) h (0, 0) (bkM (s.A 626)).n) k) ((ewM (s.A 626)).d k) ((ewM (s.A 626)).s k) else seenP (ewM (s.A 626)) h (bookP (bkM (s.A 626)) h (0, 0) (bkM (s.A 626)).n) k := rfl
        rw [if_neg (by rw [ewM_h hk]; exact c82)] at es
        rw [es] at ihk
        exact AW.ls (by rw [nI_succ k]; rfl) ihk
      · refine AW.aload_n dX2_laySets_85 rfl rfl ?_
        refine AW.aload_n dX2_laySets_86 rfl rfl ?_
        refine AW.get ci2 0 (by decide) q1351 dX2_laySets_87 gM rfl rfl ?_
        refine AW.bipush (v := 68) dX2_laySets_90 (by decide) rfl ?_
        refine AW.iconst (v := 3) dX2_laySets_92 (by decide) rfl ?_
        refine AW.iload_n dX2_laySets_93 rfl rfl ?_
        refine AW.imul dX2_laySets_94 rfl ?_
        refine AW.iadd dX2_laySets_95 rfl ?_
        refine AW.iconst (v := 1) dX2_laySets_96 (by decide) rfl ?_
        refine AW.iadd dX2_laySets_97 rfl ?_
        refine AW.iald dX2_laySets_98 gl626 (by rw [(show (68 : Int32) + 3 * nI k + 1 = nI (68 + 3 * k + 1) by rw [show (68 : Int32) = nI 68 from rfl, show (3 : Int32) = nI 3 from rfl, nI_mul, nI_add, show (1 : Int32) = nI 1 from rfl, nI_add])]; exact in0 _ (by omega) (by decide)) (j := 68 + 3 * k + 1) (by rw [(show (68 : Int32) + 3 * nI k + 1 = nI (68 + 3 * k + 1) by rw [show (68 : Int32) = nI 68 from rfl, show (3 : Int32) = nI 3 from rfl, nI_mul, nI_add, show (1 : Int32) = nI 1 from rfl, nI_add])]; exact cI_nI (by omega)) rfl ?_
        refine AW.aload_n dX2_laySets_99 rfl rfl ?_
        refine AW.get ci2 0 (by decide) q1351 dX2_laySets_100 gM rfl rfl ?_
        refine AW.bipush (v := 68) dX2_laySets_103 (by decide) rfl ?_
        refine AW.iconst (v := 3) dX2_laySets_105 (by decide) rfl ?_
        refine AW.iload_n dX2_laySets_106 rfl rfl ?_
        refine AW.imul dX2_laySets_107 rfl ?_
        refine AW.iadd dX2_laySets_108 rfl ?_
        refine AW.iconst (v := 2) dX2_laySets_109 (by decide) rfl ?_
        refine AW.iadd dX2_laySets_110 rfl ?_
        refine AW.iald dX2_laySets_111 gl626 (by rw [(show (68 : Int32) + 3 * nI k + 2 = nI (68 + 3 * k + 2) by rw [show (68 : Int32) = nI 68 from rfl, show (3 : Int32) = nI 3 from rfl, nI_mul, nI_add, show (2 : Int32) = nI 2 from rfl, nI_add])]; exact in0 _ (by omega) (by decide)) (j := 68 + 3 * k + 2) (by rw [(show (68 : Int32) + 3 * nI k + 2 = nI (68 + 3 * k + 2) by rw [show (68 : Int32) = nI 68 from rfl, show (3 : Int32) = nI 3 from rfl, nI_mul, nI_add, show (2 : Int32) = nI 2 from rfl, nI_add])]; exact cI_nI (by omega)) rfl ?_
        refine AW.callV (Y := mX2_note) (n := 2) (r_X2_note _ _) (by decide) (by decide) rfl gM q1901 q1903 qs124 q141 q1904 dX2_laySets_112 (by decide +kernel) rfl rfl (Nat.le_of_ble_eq_true rfl) rfl ?_
        refine AW.iinc (v := 1) dX2_laySets_115 rfl (by decide) rfl rfl rfl ?_
        refine AW.goto (tgt := 60) dX2_laySets_118 (by decide) ?_
        have es : seenP (ewM (s.A 626)) h (bookP (bkM (s.A 626)) h (0, 0) (bkM (s.A 626)).n) (k + 1) = if (ewM (s.A 626)).h k = h then noteP (seenP (ewM (s.A 626)) h (bookP (bkM (s.A 626)) h (0, 0) (bkM (s.A 626)).n) k) ((ewM (s.A 626)).d k) ((ewM (s.A 626)).s k) else seenP (ewM (s.A 626)) h (bookP (bkM (s.A 626)) h (0, 0) (bkM (s.A 626)).n) k := rfl
        rw [if_pos (by rw [ewM_h hk]; exact c82), ewM_d hk, ewM_s hk] at es
        rw [es] at ihk
        exact AW.ls (by rw [nI_succ k]; rfl) ihk
  · intro k hk ihk
    refine AW.iload_n dX2_laySets_12 rfl rfl ?_
    refine AW.aload_n dX2_laySets_13 rfl rfl ?_
    refine AW.get ci2 0 (by decide) q1351 dX2_laySets_14 gM rfl rfl ?_
    refine AW.bipush (v := 10) dX2_laySets_17 (by decide) rfl ?_
    refine AW.iald dX2_laySets_19 gl626 (vp_in_iff.mpr (by decide)) (j := 10) (by decide) rfl ?_
    refine AW.icmp_ge (tgt := 58) dX2_laySets_20 (by decide) rfl (fun c_ => by first | exact absurd c_ (loop_in hk (by have := Bw.n40 hb; omega) (Bw.nN hb)) | exact absurd (loop_in hk (by have := Bw.n40 hb; omega) (Bw.nN hb)) c_ | exact Bool.noConfusion (c_.symm.trans (loop_in hk (by have := Bw.n40 hb; omega) (Bw.nN hb)))) (fun _ => ?_)
    refine AW.aload_n dX2_laySets_23 rfl rfl ?_
    refine AW.iload_n dX2_laySets_24 rfl rfl ?_
    refine AW.iconst (v := 1) dX2_laySets_25 (by decide) rfl ?_
    refine AW.callV (Y := mX2_entry) (n := 2) (r_lX2_entry1 hb k hk) (by decide) (by decide) rfl gM q1821 q1823 qs116 q141 q1824 dX2_laySets_26 (by decide +kernel) rfl rfl (Nat.le_of_ble_eq_true rfl) rfl ?_
    refine AW.iload_n dX2_laySets_29 rfl rfl ?_
    refine AW.icmp_ne (tgt := 52) dX2_laySets_30 (by decide) rfl (fun c30 => ?_) (fun c30 => ?_)
    · refine AW.iinc (v := 1) dX2_laySets_52 rfl (by decide) rfl rfl rfl ?_
      refine AW.goto (tgt := 12) dX2_laySets_55 (by decide) ?_
      have es : bookP (bkM (s.A 626)) h (0, 0) (k + 1) = if (bkM (s.A 626)).h k = h then noteP (bookP (bkM (s.A 626)) h (0, 0) k) ((bkM (s.A 626)).d k % 20) ((bkM (s.A 626)).s k) else bookP (bkM (s.A 626)) h (0, 0) k := rfl
      rw [if_neg c30] at es
      rw [es] at ihk
      exact AW.ls (by rw [nI_succ k]; rfl) ihk
    · refine AW.aload_n dX2_laySets_33 rfl rfl ?_
      refine AW.aload_n dX2_laySets_34 rfl rfl ?_
      refine AW.iload_n dX2_laySets_35 rfl rfl ?_
      refine AW.iconst (v := 0) dX2_laySets_36 (by decide) rfl ?_
      refine AW.callV (Y := mX2_entry) (n := 2) (r_lX2_entry0 hb k hk) (by decide) (by decide) rfl gM q1821 q1823 qs116 q141 q1824 dX2_laySets_37 (by decide +kernel) rfl rfl (Nat.le_of_ble_eq_true rfl) rfl ?_
      refine AW.bipush (v := 20) dX2_laySets_40 (by decide) rfl ?_
      refine AW.irem dX2_laySets_42 (by decide) rfl ?_
      refine AW.aload_n dX2_laySets_43 rfl rfl ?_
      refine AW.iload_n dX2_laySets_44 rfl rfl ?_
      refine AW.iconst (v := 2) dX2_laySets_45 (by decide) rfl ?_
      refine AW.callV (Y := mX2_entry) (n := 2) (r_lX2_entry2 hb k hk) (by decide) (by decide) rfl gM q1821 q1823 qs116 q141 q1824 dX2_laySets_46 (by decide +kernel) rfl rfl (Nat.le_of_ble_eq_true rfl) rfl ?_
      refine AW.callV (Y := mX2_note) (n := 2) (r_X2_note _ _) (by decide) (by decide) rfl gM q1901 q1903 qs124 q141 q1904 dX2_laySets_49 (by decide +kernel) rfl rfl (Nat.le_of_ble_eq_true rfl) rfl ?_
      refine AW.iinc (v := 1) dX2_laySets_52 rfl (by decide) rfl rfl rfl ?_
      refine AW.goto (tgt := 12) dX2_laySets_55 (by decide) ?_
      have es : bookP (bkM (s.A 626)) h (0, 0) (k + 1) = if (bkM (s.A 626)).h k = h then noteP (bookP (bkM (s.A 626)) h (0, 0) k) ((bkM (s.A 626)).d k % 20) ((bkM (s.A 626)).s k) else bookP (bkM (s.A 626)) h (0, 0) k := rfl
      rw [if_pos c30] at es
      rw [es] at ihk
      exact AW.ls (by rw [nI_succ k]; rfl) ihk
/-- what a house may have, told from the view of book and seen -/
def setsF (b : Bw) (e : Ew) (h m : Int32) (w : Nat → Int32) : Cq := setsM (datesP b e h).1 (datesP b e h).2 m ((0 : Int32), (1048575 : Int32), zero20 w)
theorem r_X2_laySets {s : Sg} (hb : (bkM (s.A 626)).ok) (he : (ewM (s.A 626)).ok) (h m : Int32) (hm : inI m 1 3 = true) : Run 2 mX2_laySets [.ref 625, .int h, .int m] (hp s) (.inl none) (hp (sl s (datesP (bkM (s.A 626)) (ewM (s.A 626)) h).1 (datesP (bkM (s.A 626)) (ewM (s.A 626)) h).2 (setsF (bkM (s.A 626)) (ewM (s.A 626)) h m (s.A 635)))) := by
  have q := inI_iff.mp hm
  rw [t1, show (3 : Int32).toInt = 3 from rfl] at q
  by_cases h1 : m = 1
  · subst h1; exact laySets_1 hb he h
  by_cases h2 : m = 2
  · subst h2; exact laySets_2 hb he h
  have h3 : m = 3 := Int32.toInt_inj.mp (by
    have q1 : m.toInt ≠ 1 := fun z => h1 (Int32.toInt_inj.mp z)
    have q2 : m.toInt ≠ 2 := fun z => h2 (Int32.toInt_inj.mp z)
    show m.toInt = 3
    omega)
  subst h3
  exact laySets_3 hb he h
theorem r_X2_sets_f {s : Sg} (h m : Int32) (p : Bool) (hc : ((vwM (s.A 626)).hou h && inI m 1 3) = false) : Run 3 mX2_sets [.ref 625, .int h, .int m, .int (b2i p)] (hp s) (.inl (some (.int (-1)))) (hp s) := by
  refine Run.of rfl (Nat.le_of_ble_eq_true rfl) rfl ?_
  refine AW.aload_n dX2_sets_0 rfl rfl ?_
  refine AW.iload_n dX2_sets_1 rfl rfl ?_
  refine AW.callV (Y := mX2_isHouse) (n := 1) (r_X2_isHouse _) (by decide) (by decide) rfl gM q1653 q1655 qs92 q141 q1656 dX2_sets_2 (by decide +kernel) rfl rfl (Nat.le_of_ble_eq_true rfl) rfl ?_
  refine AW.if_eqB (tgt := 17) dX2_sets_5 (by decide) rfl (fun c5 => ?_) (fun c5 => ?_)
  · refine AW.iconst (v := (-1)) dX2_sets_17 (by decide) rfl ?_
    exact AW.iretE dX2_sets_18 rfl rfl rfl rfl
  · refine AW.iload_n dX2_sets_8 rfl rfl ?_
    refine AW.iconst (v := 1) dX2_sets_9 (by decide) rfl ?_
    refine AW.iconst (v := 3) dX2_sets_10 (by decide) rfl ?_
    refine AW.callS (Y := mX2_isIn) (n := 3) (r_X2_isIn _ _ _) (by decide) (by decide) q1466 q1467 q141 q1468 dX2_sets_11 (by decide +kernel) rfl rfl (Nat.le_of_ble_eq_true rfl) rfl ?_
    refine AW.if_neB (tgt := 19) dX2_sets_14 (by decide) rfl (fun c14 => ?_) (fun c14 => ?_)
    · exact absurd hc (by rw [c5, c14]; decide)
    · refine AW.iconst (v := (-1)) dX2_sets_17 (by decide) rfl ?_
      exact AW.iretE dX2_sets_18 rfl rfl rfl rfl
theorem r_X2_sets_t {s : Sg} (hb : (bkM (s.A 626)).ok) (he : (ewM (s.A 626)).ok) (h m : Int32) (p : Bool) (hc : ((vwM (s.A 626)).hou h && inI m 1 3) = true) : Run 3 mX2_sets [.ref 625, .int h, .int m, .int (b2i p)] (hp s) (.inl (some (.int (if p = true then (if (setsF (bkM (s.A 626)) (ewM (s.A 626)) h m (s.A 635)).1 = 0 then 0 else (setsF (bkM (s.A 626)) (ewM (s.A 626)) h m (s.A 635)).2.1) else (setsF (bkM (s.A 626)) (ewM (s.A 626)) h m (s.A 635)).1)))) (hp (sl s (datesP (bkM (s.A 626)) (ewM (s.A 626)) h).1 (datesP (bkM (s.A 626)) (ewM (s.A 626)) h).2 (setsF (bkM (s.A 626)) (ewM (s.A 626)) h m (s.A 635)))) := by
  have hc2 := Bool.and_eq_true_iff.mp hc
  refine Run.of rfl (Nat.le_of_ble_eq_true rfl) rfl ?_
  refine AW.aload_n dX2_sets_0 rfl rfl ?_
  refine AW.iload_n dX2_sets_1 rfl rfl ?_
  refine AW.callV (Y := mX2_isHouse) (n := 1) (r_X2_isHouse _) (by decide) (by decide) rfl gM q1653 q1655 qs92 q141 q1656 dX2_sets_2 (by decide +kernel) rfl rfl (Nat.le_of_ble_eq_true rfl) rfl ?_
  refine AW.if_eqB (tgt := 17) dX2_sets_5 (by decide) rfl (fun c_ => by first | exact absurd c_ hc2.1 | exact absurd hc2.1 c_ | exact Bool.noConfusion (c_.symm.trans hc2.1)) (fun _ => ?_)
  refine AW.iload_n dX2_sets_8 rfl rfl ?_
  refine AW.iconst (v := 1) dX2_sets_9 (by decide) rfl ?_
  refine AW.iconst (v := 3) dX2_sets_10 (by decide) rfl ?_
  refine AW.callS (Y := mX2_isIn) (n := 3) (r_X2_isIn _ _ _) (by decide) (by decide) q1466 q1467 q141 q1468 dX2_sets_11 (by decide +kernel) rfl rfl (Nat.le_of_ble_eq_true rfl) rfl ?_
  refine AW.if_neB (tgt := 19) dX2_sets_14 (by decide) rfl (fun _ => ?_) (fun c_ => by first | exact absurd c_ hc2.2 | exact absurd hc2.2 c_ | exact absurd c_ (not_not_intro hc2.2) | exact Bool.noConfusion (c_.symm.trans hc2.2))
  refine AW.aload_n dX2_sets_19 rfl rfl ?_
  refine AW.iload_n dX2_sets_20 rfl rfl ?_
  refine AW.iload_n dX2_sets_21 rfl rfl ?_
  refine AW.callV (Y := mX2_laySets) (n := 2) (r_X2_laySets hb he h m hc2.2) (by decide) (by decide) rfl gM q1897 q1899 qs123 q141 q1900 dX2_sets_22 (by decide +kernel) rfl rfl (Nat.le_of_ble_eq_true rfl) rfl ?_
  have f27 : (sl s (datesP (bkM (s.A 626)) (ewM (s.A 626)) h).1 (datesP (bkM (s.A 626)) (ewM (s.A 626)) h).2 (setsF (bkM (s.A 626)) (ewM (s.A 626)) h m (s.A 635))).S 27 = (setsF (bkM (s.A 626)) (ewM (s.A 626)) h m (s.A 635)).1 := sl_27
  have f28 : (sl s (datesP (bkM (s.A 626)) (ewM (s.A 626)) h).1 (datesP (bkM (s.A 626)) (ewM (s.A 626)) h).2 (setsF (bkM (s.A 626)) (ewM (s.A 626)) h m (s.A 635))).S 28 = (setsF (bkM (s.A 626)) (ewM (s.A 626)) h m (s.A 635)).2.1 := sl_28
  generalize hF : (setsF (bkM (s.A 626)) (ewM (s.A 626)) h m (s.A 635)) = F at *
  refine AW.iload_n dX2_sets_25 rfl rfl ?_
  refine AW.if_neB (tgt := 36) dX2_sets_26 (by decide) rfl (fun c26 => ?_) (fun c26 => ?_)
  · refine AW.aload_n dX2_sets_36 rfl rfl ?_
    refine AW.get ci2 27 (by decide) q1378 dX2_sets_37 gM rfl rfl ?_
    refine AW.if_ne (tgt := 47) dX2_sets_40 (by decide) rfl (fun c40 => ?_) (fun c40 => ?_)
    · refine AW.aload_n dX2_sets_47 rfl rfl ?_
      refine AW.get ci2 28 (by decide) q1379 dX2_sets_48 gM rfl rfl ?_
      exact AW.iretE dX2_sets_51 rfl rfl (by (try rw [f27] at c40); first | (rw [if_pos c26, if_neg c40]; exact f28) | (rw [if_pos c26, if_pos c40]; done) | (rw [if_neg (by rw [c26]; decide)]; exact f27)) rfl
    · refine AW.iconst (v := 0) dX2_sets_43 (by decide) rfl ?_
      refine AW.goto (tgt := 51) dX2_sets_44 (by decide) ?_
      exact AW.iretE dX2_sets_51 rfl rfl (by (try rw [f27] at c40); first | (rw [if_pos c26, if_neg c40]; exact f28) | (rw [if_pos c26, if_pos c40]; done) | (rw [if_neg (by rw [c26]; decide)]; exact f27)) rfl
  · refine AW.aload_n dX2_sets_29 rfl rfl ?_
    refine AW.get ci2 27 (by decide) q1378 dX2_sets_30 gM rfl rfl ?_
    refine AW.goto (tgt := 51) dX2_sets_33 (by decide) ?_
    exact AW.iretE dX2_sets_51 rfl rfl (by (try rw [f27] at c40); first | (rw [if_pos c26, if_neg c40]; exact f28) | (rw [if_pos c26, if_pos c40]; done) | (rw [if_neg (by rw [c26]; decide)]; exact f27)) rfl
