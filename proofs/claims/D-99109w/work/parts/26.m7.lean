/-! MODEL 7: undo, house, marry, hat, forget, feed (printed by tools/m7.py) -/
set_option maxRecDepth 100000
theorem r_X2_undo_0 {s : Sg} (hc : s.A 626 3 = 0) : Run 3 mX2_undo [.ref 625] (hp s) (.inl (some (.int (-1)))) (hp s) := by
  refine Run.of rfl (Nat.le_of_ble_eq_true rfl) rfl ?_
  refine AW.aload_n dX2_undo_0 rfl rfl ?_
  refine AW.get ci2 0 (by decide) q1351 dX2_undo_1 gM rfl rfl ?_
  refine AW.iconst (v := 3) dX2_undo_4 (by decide) rfl ?_
  refine AW.iald dX2_undo_5 g626 (vp_in_iff.mpr (by decide)) (j := 3) (by decide) rfl ?_
  refine AW.if_ne (tgt := 11) dX2_undo_6 (by decide) rfl (fun c_ => by first | exact absurd c_ (not_not_intro hc) | exact absurd (not_not_intro hc) c_ | exact Bool.noConfusion (c_.symm.trans (not_not_intro hc))) (fun _ => ?_)
  refine AW.iconst (v := (-1)) dX2_undo_9 (by decide) rfl ?_
  exact AW.iretE dX2_undo_10 rfl rfl rfl rfl
theorem r_X2_undo {s : Sg} (c n m : Nat) (hc : s.A 626 3 = nI (c + 1)) (h30 : c < 30) (hm : s.A 626 0 = nI m) (hm7 : m ≤ 7) (hx : s.A 626 (108 + 72 * c) = nI n) (hn7 : n ≤ 7) : Run 3 mX2_undo [.ref 625] (hp s) (.inl (some (.int (nI c)))) (hp (s.setA 626 (undoM (s.A 626) c n m))) := by
  have hne : ¬ s.A 626 3 = 0 := by rw [hc]; exact nI_ne0 (by omega) (by omega)
  have hs1 : s.A 626 3 - 1 = nI c := by rw [hc, nI_pred]
  have hxc : (108 : Int32) + 72 * nI c = nI (108 + 72 * c) := by rw [show (108 : Int32) = nI 108 from rfl, show (72 : Int32) = nI 72 from rfl, nI_mul, nI_add]
  refine Run.of rfl (Nat.le_of_ble_eq_true rfl) rfl ?_
  refine AW.aload_n dX2_undo_0 rfl rfl ?_
  refine AW.get ci2 0 (by decide) q1351 dX2_undo_1 gM rfl rfl ?_
  refine AW.iconst (v := 3) dX2_undo_4 (by decide) rfl ?_
  refine AW.iald dX2_undo_5 g626 (vp_in_iff.mpr (by decide)) (j := 3) (by decide) rfl ?_
  refine AW.if_ne (tgt := 11) dX2_undo_6 (by decide) rfl (fun _ => ?_) (fun c_ => by first | exact absurd c_ hne | exact absurd hne c_ | exact absurd c_ (not_not_intro hne) | exact Bool.noConfusion (c_.symm.trans hne))
  refine AW.aload_n dX2_undo_11 rfl rfl ?_
  refine AW.get ci2 0 (by decide) q1351 dX2_undo_12 gM rfl rfl ?_
  refine AW.iconst (v := 3) dX2_undo_15 (by decide) rfl ?_
  refine AW.dup2 dX2_undo_16 rfl rfl rfl ?_
  refine AW.iald dX2_undo_17 g626 (vp_in_iff.mpr (by decide)) (j := 3) (by decide) rfl ?_
  refine AW.iconst (v := 1) dX2_undo_18 (by decide) rfl ?_
  refine AW.isub dX2_undo_19 rfl ?_
  refine AW.iast dX2_undo_20 (by decide) g626 (vp_in_iff.mpr (by decide)) (j := 3) (by decide) s626 rfl ?_
  refine AW.bipush (v := 108) dX2_undo_21 (by decide) rfl ?_
  refine AW.bipush (v := 72) dX2_undo_23 (by decide) rfl ?_
  refine AW.aload_n dX2_undo_25 rfl rfl ?_
  refine AW.get ci2 0 (by decide) q1351 dX2_undo_26 gM rfl rfl ?_
  refine AW.iconst (v := 3) dX2_undo_29 (by decide) rfl ?_
  refine AW.iald dX2_undo_30 g626 (vp_in_iff.mpr (by decide)) (j := 3) (by decide) rfl ?_
  refine AW.imul dX2_undo_31 rfl ?_
  refine AW.iadd dX2_undo_32 rfl ?_
  refine AW.istore_n (i := 1) dX2_undo_33 rfl rfl (Nat.le_of_ble_eq_true rfl) rfl rfl ?_
  refine AW.iconst (v := 0) dX2_undo_34 (by decide) rfl ?_
  refine AW.istore_n (i := 2) dX2_undo_35 rfl rfl (Nat.le_of_ble_eq_true rfl) rfl rfl ?_
  refine AW.hp (h2 := (hp (s.setA 626 (mv (up (s.A 626) 3 (nI c)) 8 (fun j => s.A 626 (108 + 72 * c + 1 + j)) 0)))) (by rw [mv_0, hs1]) ?_
  refine AW.ls (ls' := [some (.ref 625), some (.int (nI (108 + 72 * c))), some (.int (nI 0)), none]) (by rw [setA_at, up_eq, hs1, hxc]; rfl) ?_
  refine loopUp (P := fun k => AW 3 mX2_undo (hp (s.setA 626 (mv (up (s.A 626) 3 (nI c)) 8 (fun j => s.A 626 (108 + 72 * c + 1 + j)) k))) 36 [some (.ref 625), some (.int (nI (108 + 72 * c))), some (.int (nI k)), none] [] (.inl (some (.int (nI c)))) (hp (s.setA 626 (undoM (s.A 626) c n m)))) 3 ?_ ?_ 0 (by first | exact Nat.zero_le _ | omega)
  · refine AW.iload_n dX2_undo_36 rfl rfl ?_
    refine AW.iconst (v := 3) dX2_undo_37 (by decide) rfl ?_
    refine AW.icmp_ge (tgt := 66) dX2_undo_38 (by decide) rfl (fun _ => ?_) (fun c_ => by first | exact absurd c_ (by decide) | exact absurd (by decide) c_ | exact absurd c_ (not_not_intro (by decide)) | exact Bool.noConfusion (c_.symm.trans (by decide)))
    refine AW.iconst (v := 0) dX2_undo_66 (by decide) rfl ?_
    refine AW.istore_n (i := 2) dX2_undo_67 rfl rfl (Nat.le_of_ble_eq_true rfl) rfl rfl ?_
    refine loopUp (P := fun h => AW 3 mX2_undo (hp (s.setA 626 (undoH (108 + 72 * c) n (mv (up (s.A 626) 3 (nI c)) 8 (fun j => s.A 626 (108 + 72 * c + 1 + j)) 3) h))) 68 [some (.ref 625), some (.int (nI (108 + 72 * c))), some (.int (nI h)), none] [] (.inl (some (.int (nI c)))) (hp (s.setA 626 (undoM (s.A 626) c n m)))) m ?_ ?_ 0 (by first | exact Nat.zero_le _ | omega)
    · refine AW.iload_n dX2_undo_68 rfl rfl ?_
      refine AW.aload_n dX2_undo_69 rfl rfl ?_
      refine AW.get ci2 0 (by decide) q1351 dX2_undo_70 gM rfl rfl ?_
      refine AW.iconst (v := 0) dX2_undo_73 (by decide) rfl ?_
      refine AW.iald dX2_undo_74 g626 (vp_in_iff.mpr (by decide)) (j := 0) (by decide) rfl ?_
      refine AW.icmp_ge (tgt := 142) dX2_undo_75 (by decide) rfl (fun _ => ?_) (fun c_ => by first | exact absurd c_ (by rw [setA_at, undoH_out (by omega), mv_out (by omega), up_ne (by omega), hm]; exact Int32.le_refl _) | exact absurd (by rw [setA_at, undoH_out (by omega), mv_out (by omega), up_ne (by omega), hm]; exact Int32.le_refl _) c_ | exact absurd c_ (not_not_intro (by rw [setA_at, undoH_out (by omega), mv_out (by omega), up_ne (by omega), hm]; exact Int32.le_refl _)) | exact Bool.noConfusion (c_.symm.trans (by rw [setA_at, undoH_out (by omega), mv_out (by omega), up_ne (by omega), hm]; exact Int32.le_refl _)))
      refine AW.iconst (v := 0) dX2_undo_142 (by decide) rfl ?_
      refine AW.istore_n (i := 2) dX2_undo_143 rfl rfl (Nat.le_of_ble_eq_true rfl) rfl rfl ?_
      refine AW.hp (h2 := (hp (s.setA 626 (mv (undoH (108 + 72 * c) n (mv (up (s.A 626) 3 (nI c)) 8 (fun j => s.A 626 (108 + 72 * c + 1 + j)) 3) m) 2268 (fun j => s.A 626 (108 + 72 * c + 32 + j)) 0)))) (by rw [mv_0]) ?_
      refine loopUp (P := fun k => AW 3 mX2_undo (hp (s.setA 626 (mv (undoH (108 + 72 * c) n (mv (up (s.A 626) 3 (nI c)) 8 (fun j => s.A 626 (108 + 72 * c + 1 + j)) 3) m) 2268 (fun j => s.A 626 (108 + 72 * c + 32 + j)) k))) 144 [some (.ref 625), some (.int (nI (108 + 72 * c))), some (.int (nI k)), none] [] (.inl (some (.int (nI c)))) (hp (s.setA 626 (undoM (s.A 626) c n m)))) 40 ?_ ?_ 0 (by first | exact Nat.zero_le _ | omega)
      · refine AW.iload_n dX2_undo_144 rfl rfl ?_
        refine AW.bipush (v := 40) dX2_undo_145 (by decide) rfl ?_
        refine AW.icmp_ge (tgt := 177) dX2_undo_147 (by decide) rfl (fun _ => ?_) (fun c_ => by first | exact absurd c_ (by decide) | exact absurd (by decide) c_ | exact absurd c_ (not_not_intro (by decide)) | exact Bool.noConfusion (c_.symm.trans (by decide)))
        refine AW.aload_n dX2_undo_177 rfl rfl ?_
        refine AW.get ci2 0 (by decide) q1351 dX2_undo_178 gM rfl rfl ?_
        refine AW.iconst (v := 3) dX2_undo_181 (by decide) rfl ?_
        refine AW.iald dX2_undo_182 g626 (vp_in_iff.mpr (by decide)) (j := 3) (by decide) rfl ?_
        exact AW.iretE dX2_undo_183 rfl rfl (by rw [setA_at, mv_out (by omega), undoH_out (by omega), mv_out (by omega), up_eq]) rfl
      · intro k hk ihk
        refine AW.iload_n dX2_undo_144 rfl rfl ?_
        refine AW.bipush (v := 40) dX2_undo_145 (by decide) rfl ?_
        refine AW.icmp_ge (tgt := 177) dX2_undo_147 (by decide) rfl (fun c_ => by first | exact absurd c_ (nle_lit 40 rfl hk (by decide)) | exact absurd (nle_lit 40 rfl hk (by decide)) c_ | exact Bool.noConfusion (c_.symm.trans (nle_lit 40 rfl hk (by decide)))) (fun _ => ?_)
        refine AW.aload_n dX2_undo_150 rfl rfl ?_
        refine AW.get ci2 0 (by decide) q1351 dX2_undo_151 gM rfl rfl ?_
        refine AW.sipush (v := 2268) dX2_undo_154 (by decide) rfl ?_
        refine AW.iload_n dX2_undo_157 rfl rfl ?_
        refine AW.iadd dX2_undo_158 rfl ?_
        refine AW.aload_n dX2_undo_159 rfl rfl ?_
        refine AW.get ci2 0 (by decide) q1351 dX2_undo_160 gM rfl rfl ?_
        refine AW.iload_n dX2_undo_163 rfl rfl ?_
        refine AW.bipush (v := 32) dX2_undo_164 (by decide) rfl ?_
        refine AW.iadd dX2_undo_166 rfl ?_
        refine AW.iload_n dX2_undo_167 rfl rfl ?_
        refine AW.iadd dX2_undo_168 rfl ?_
        refine AW.iald dX2_undo_169 g626 (by rw [show nI (108 + 72 * c) + 32 + nI k = nI (108 + 72 * c + 32 + k) by rw [show (32 : Int32) = nI 32 from rfl, nI_add, nI_add]]; exact in0 _ (by omega) (by decide)) (j := 108 + 72 * c + 32 + k) (by rw [show nI (108 + 72 * c) + 32 + nI k = nI (108 + 72 * c + 32 + k) by rw [show (32 : Int32) = nI 32 from rfl, nI_add, nI_add]]; exact cI_nI (by omega)) rfl ?_
        refine AW.iast dX2_undo_170 (by decide) g626 (in1 2268 k (by omega) (by decide)) (j := 2268 + k) (at1 2268 k (by omega)) s626 rfl ?_
        refine AW.iinc (v := 1) dX2_undo_171 rfl (by decide) rfl rfl rfl ?_
        refine AW.goto (tgt := 144) dX2_undo_174 (by decide) ?_
        exact AW.hp (by rw [setA_at, setA_setA, mv_out (by omega), undoH_out (by omega), mv_out (by omega), up_ne (by omega)]; exact congrArg (fun q => hp (s.setA 626 q)) mv_s) (AW.ls (by rw [nI_succ k]; rfl) ihk)
    · intro h hh ihh
      have hxx : (undoH (108 + 72 * c) n (mv (up (s.A 626) 3 (nI c)) 8 (fun j => s.A 626 (108 + 72 * c + 1 + j)) 3) h) (108 + 72 * c) = nI n := by rw [undoH_out (by omega), mv_out (by omega), up_ne (by omega), hx]
      refine AW.iload_n dX2_undo_68 rfl rfl ?_
      refine AW.aload_n dX2_undo_69 rfl rfl ?_
      refine AW.get ci2 0 (by decide) q1351 dX2_undo_70 gM rfl rfl ?_
      refine AW.iconst (v := 0) dX2_undo_73 (by decide) rfl ?_
      refine AW.iald dX2_undo_74 g626 (vp_in_iff.mpr (by decide)) (j := 0) (by decide) rfl ?_
      refine AW.icmp_ge (tgt := 142) dX2_undo_75 (by decide) rfl (fun c_ => by first | exact absurd c_ (by rw [setA_at, undoH_out (by omega), mv_out (by omega), up_ne (by omega), hm, Int32.le_iff_toInt_le, nI_t (by omega), nI_t (by omega)]; omega) | exact absurd (by rw [setA_at, undoH_out (by omega), mv_out (by omega), up_ne (by omega), hm, Int32.le_iff_toInt_le, nI_t (by omega), nI_t (by omega)]; omega) c_ | exact Bool.noConfusion (c_.symm.trans (by rw [setA_at, undoH_out (by omega), mv_out (by omega), up_ne (by omega), hm, Int32.le_iff_toInt_le, nI_t (by omega), nI_t (by omega)]; omega))) (fun _ => ?_)
      refine AW.iload_n dX2_undo_78 rfl rfl ?_
      refine AW.aload_n dX2_undo_79 rfl rfl ?_
      refine AW.get ci2 0 (by decide) q1351 dX2_undo_80 gM rfl rfl ?_
      refine AW.iload_n dX2_undo_83 rfl rfl ?_
      refine AW.iald dX2_undo_84 g626 (in0 (108 + 72 * c) (by omega) (by decide)) (j := 108 + 72 * c) (cI_nI (by omega)) rfl ?_
      refine AW.icmp_lt (tgt := 93) dX2_undo_85 (by decide) rfl (fun c8 => ?_) (fun c8 => ?_)
      · refine AW.iconst (v := 0) dX2_undo_93 (by decide) rfl ?_
        refine AW.istore_n (i := 3) dX2_undo_94 rfl rfl (Nat.le_of_ble_eq_true rfl) rfl rfl ?_
        have h8 : h < n := by rw [setA_at, hxx, Int32.lt_iff_toInt_lt, nI_t (by omega), nI_t (by omega)] at c8; omega
        refine AW.hp (h2 := (hp (s.setA 626 (mv (undoH (108 + 72 * c) n (mv (up (s.A 626) 3 (nI c)) 8 (fun j => s.A 626 (108 + 72 * c + 1 + j)) 3) h) (12 + 8 * h) (fun j => (mv (up (s.A 626) 3 (nI c)) 8 (fun j => s.A 626 (108 + 72 * c + 1 + j)) 3) (108 + 72 * c + 4 + 4 * h + j)) 0)))) (by rw [mv_0]) ?_
        refine loopUp (P := fun k => AW 3 mX2_undo (hp (s.setA 626 (mv (undoH (108 + 72 * c) n (mv (up (s.A 626) 3 (nI c)) 8 (fun j => s.A 626 (108 + 72 * c + 1 + j)) 3) h) (12 + 8 * h) (fun j => (mv (up (s.A 626) 3 (nI c)) 8 (fun j => s.A 626 (108 + 72 * c + 1 + j)) 3) (108 + 72 * c + 4 + 4 * h + j)) k))) 95 [some (.ref 625), some (.int (nI (108 + 72 * c))), some (.int (nI h)), some (.int (nI k))] [] (.inl (some (.int (nI c)))) (hp (s.setA 626 (undoM (s.A 626) c n m)))) 4 ?_ ?_ 0 (by first | exact Nat.zero_le _ | omega)
        · refine AW.iload_n dX2_undo_95 rfl rfl ?_
          refine AW.iconst (v := 4) dX2_undo_96 (by decide) rfl ?_
          refine AW.icmp_ge (tgt := 136) dX2_undo_97 (by decide) rfl (fun _ => ?_) (fun c_ => by first | exact absurd c_ (by decide) | exact absurd (by decide) c_ | exact absurd c_ (not_not_intro (by decide)) | exact Bool.noConfusion (c_.symm.trans (by decide)))
          refine AW.iinc (v := 1) dX2_undo_136 rfl (by decide) rfl rfl rfl ?_
          refine AW.goto (tgt := 68) dX2_undo_139 (by decide) ?_
          have eh : (undoH (108 + 72 * c) n (mv (up (s.A 626) 3 (nI c)) 8 (fun j => s.A 626 (108 + 72 * c + 1 + j)) 3) (h + 1)) = (mv (undoH (108 + 72 * c) n (mv (up (s.A 626) 3 (nI c)) 8 (fun j => s.A 626 (108 + 72 * c + 1 + j)) 3) h) (12 + 8 * h) (fun j => (mv (up (s.A 626) 3 (nI c)) 8 (fun j => s.A 626 (108 + 72 * c + 1 + j)) 3) (108 + 72 * c + 4 + 4 * h + j)) 4) := if_pos h8
          exact AW.fg 3 rfl (AW.ls (by rw [nI_succ h]; rfl) (AW.hp (by rw [eh]) ihh))
        · intro k hk ihk
          have hxk : nI (108 + 72 * c) + 4 + 4 * nI h + nI k = nI (108 + 72 * c + 4 + 4 * h + k) := by rw [show (4 : Int32) = nI 4 from rfl, nI_mul, nI_add, nI_add, nI_add]
          refine AW.iload_n dX2_undo_95 rfl rfl ?_
          refine AW.iconst (v := 4) dX2_undo_96 (by decide) rfl ?_
          refine AW.icmp_ge (tgt := 136) dX2_undo_97 (by decide) rfl (fun c_ => by first | exact absurd c_ (nle_lit 4 rfl hk (by decide)) | exact absurd (nle_lit 4 rfl hk (by decide)) c_ | exact Bool.noConfusion (c_.symm.trans (nle_lit 4 rfl hk (by decide)))) (fun _ => ?_)
          refine AW.iload_n dX2_undo_100 rfl rfl ?_
          refine AW.aload_n dX2_undo_101 rfl rfl ?_
          refine AW.get ci2 0 (by decide) q1351 dX2_undo_102 gM rfl rfl ?_
          refine AW.iload_n dX2_undo_105 rfl rfl ?_
          refine AW.iald dX2_undo_106 g626 (in0 (108 + 72 * c) (by omega) (by decide)) (j := 108 + 72 * c) (cI_nI (by omega)) rfl ?_
          refine AW.icmp_ge (tgt := 136) dX2_undo_107 (by decide) rfl (fun c_ => by first | exact absurd c_ (by rw [setA_at, mv_out (by omega), hxx, Int32.le_iff_toInt_le, nI_t (by omega), nI_t (by omega)]; omega) | exact absurd (by rw [setA_at, mv_out (by omega), hxx, Int32.le_iff_toInt_le, nI_t (by omega), nI_t (by omega)]; omega) c_ | exact Bool.noConfusion (c_.symm.trans (by rw [setA_at, mv_out (by omega), hxx, Int32.le_iff_toInt_le, nI_t (by omega), nI_t (by omega)]; omega))) (fun _ => ?_)
          refine AW.aload_n dX2_undo_110 rfl rfl ?_
          refine AW.iload_n dX2_undo_111 rfl rfl ?_
          refine AW.iload_n dX2_undo_112 rfl rfl ?_
          refine AW.aload_n dX2_undo_113 rfl rfl ?_
          refine AW.get ci2 0 (by decide) q1351 dX2_undo_114 gM rfl rfl ?_
          refine AW.iload_n dX2_undo_117 rfl rfl ?_
          refine AW.iconst (v := 4) dX2_undo_118 (by decide) rfl ?_
          refine AW.iadd dX2_undo_119 rfl ?_
          refine AW.iconst (v := 4) dX2_undo_120 (by decide) rfl ?_
          refine AW.iload_n dX2_undo_121 rfl rfl ?_
          refine AW.imul dX2_undo_122 rfl ?_
          refine AW.iadd dX2_undo_123 rfl ?_
          refine AW.iload_n dX2_undo_124 rfl rfl ?_
          refine AW.iadd dX2_undo_125 rfl ?_
          refine AW.iald dX2_undo_126 g626 (by rw [hxk]; exact in0 _ (by omega) (by decide)) (j := 108 + 72 * c + 4 + 4 * h + k) (by rw [hxk]; exact cI_nI (by omega)) rfl ?_
          refine AW.callV (Y := mX2_put) (n := 3) (r_X2_put (s := s.setA 626 _) (nI h) (nI k) _ (in3 12 8 h k (by omega) (by decide))) (by decide) (by decide) rfl gM q1469 q1471 qs61 q141 q1472 dX2_undo_127 (by decide +kernel) rfl rfl (Nat.le_of_ble_eq_true rfl) rfl ?_
          refine AW.iinc (v := 1) dX2_undo_130 rfl (by decide) rfl rfl rfl ?_
          refine AW.goto (tgt := 95) dX2_undo_133 (by decide) ?_
          exact AW.hp (by rw [setA_at, setA_setA, show cI (12 + 8 * nI h + nI k) = 12 + 8 * h + k from at3 12 8 h k (by omega), mv_out (by omega), undoH_out (by omega)]; exact congrArg (fun q => hp (s.setA 626 q)) mv_s) (AW.ls (by rw [nI_succ k]; rfl) ihk)
      · refine AW.aload_n dX2_undo_88 rfl rfl ?_
        refine AW.iload_n dX2_undo_89 rfl rfl ?_
        refine AW.callV (Y := mX2_begin) (n := 1) (r_X2_begin (s := s.setA 626 _) h (by omega)) (by decide) (by decide) rfl gM q1473 q1475 qs62 q141 q1476 dX2_undo_90 (by decide +kernel) rfl rfl (Nat.le_of_ble_eq_true rfl) rfl ?_
        refine AW.iconst (v := 0) dX2_undo_93 (by decide) rfl ?_
        refine AW.istore_n (i := 3) dX2_undo_94 rfl rfl (Nat.le_of_ble_eq_true rfl) rfl rfl ?_
        refine AW.iload_n dX2_undo_95 rfl rfl ?_
        refine AW.iconst (v := 4) dX2_undo_96 (by decide) rfl ?_
        refine AW.icmp_ge (tgt := 136) dX2_undo_97 (by decide) rfl (fun c_ => by first | exact absurd c_ (by decide) | exact absurd (by decide) c_ | exact Bool.noConfusion (c_.symm.trans (by decide))) (fun _ => ?_)
        refine AW.iload_n dX2_undo_100 rfl rfl ?_
        refine AW.aload_n dX2_undo_101 rfl rfl ?_
        refine AW.get ci2 0 (by decide) q1351 dX2_undo_102 gM rfl rfl ?_
        refine AW.iload_n dX2_undo_105 rfl rfl ?_
        refine AW.iald dX2_undo_106 g626 (in0 (108 + 72 * c) (by omega) (by decide)) (j := 108 + 72 * c) (cI_nI (by omega)) rfl ?_
        refine AW.icmp_ge (tgt := 136) dX2_undo_107 (by decide) rfl (fun _ => ?_) (fun c_ => by first | exact absurd c_ (by rw [setA_setA, setA_at, setA_at, beginM_out (by omega), hxx]; rw [setA_at, hxx] at c8; exact Int32.not_lt.mp c8) | exact absurd (by rw [setA_setA, setA_at, setA_at, beginM_out (by omega), hxx]; rw [setA_at, hxx] at c8; exact Int32.not_lt.mp c8) c_ | exact absurd c_ (not_not_intro (by rw [setA_setA, setA_at, setA_at, beginM_out (by omega), hxx]; rw [setA_at, hxx] at c8; exact Int32.not_lt.mp c8)) | exact Bool.noConfusion (c_.symm.trans (by rw [setA_setA, setA_at, setA_at, beginM_out (by omega), hxx]; rw [setA_at, hxx] at c8; exact Int32.not_lt.mp c8)))
        refine AW.iinc (v := 1) dX2_undo_136 rfl (by decide) rfl rfl rfl ?_
        refine AW.goto (tgt := 68) dX2_undo_139 (by decide) ?_
        have h8 : ¬ h < n := by rw [setA_at, hxx, Int32.lt_iff_toInt_lt, nI_t (by omega), nI_t (by omega)] at c8; omega
        have eh : (undoH (108 + 72 * c) n (mv (up (s.A 626) 3 (nI c)) 8 (fun j => s.A 626 (108 + 72 * c + 1 + j)) 3) (h + 1)) = beginM ((undoH (108 + 72 * c) n (mv (up (s.A 626) 3 (nI c)) 8 (fun j => s.A 626 (108 + 72 * c + 1 + j)) 3) h)) h := if_neg h8
        exact AW.fg 3 rfl (AW.ls (by rw [nI_succ h]; rfl) (AW.hp (by rw [setA_setA, setA_at, eh]) ihh))
  · intro k hk ihk
    refine AW.iload_n dX2_undo_36 rfl rfl ?_
    refine AW.iconst (v := 3) dX2_undo_37 (by decide) rfl ?_
    refine AW.icmp_ge (tgt := 66) dX2_undo_38 (by decide) rfl (fun c_ => by first | exact absurd c_ (nle_lit 3 rfl hk (by decide)) | exact absurd (nle_lit 3 rfl hk (by decide)) c_ | exact Bool.noConfusion (c_.symm.trans (nle_lit 3 rfl hk (by decide)))) (fun _ => ?_)
    refine AW.aload_n dX2_undo_41 rfl rfl ?_
    refine AW.get ci2 0 (by decide) q1351 dX2_undo_42 gM rfl rfl ?_
    refine AW.bipush (v := 8) dX2_undo_45 (by decide) rfl ?_
    refine AW.iload_n dX2_undo_47 rfl rfl ?_
    refine AW.iadd dX2_undo_48 rfl ?_
    refine AW.aload_n dX2_undo_49 rfl rfl ?_
    refine AW.get ci2 0 (by decide) q1351 dX2_undo_50 gM rfl rfl ?_
    refine AW.iload_n dX2_undo_53 rfl rfl ?_
    refine AW.iconst (v := 1) dX2_undo_54 (by decide) rfl ?_
    refine AW.iadd dX2_undo_55 rfl ?_
    refine AW.iload_n dX2_undo_56 rfl rfl ?_
    refine AW.iadd dX2_undo_57 rfl ?_
    refine AW.iald dX2_undo_58 g626 (by rw [show nI (108 + 72 * c) + 1 + nI k = nI (108 + 72 * c + 1 + k) by rw [nI_1, nI_add]]; exact in0 _ (by omega) (by decide)) (j := 108 + 72 * c + 1 + k) (by rw [show nI (108 + 72 * c) + 1 + nI k = nI (108 + 72 * c + 1 + k) by rw [nI_1, nI_add]]; exact cI_nI (by omega)) rfl ?_
    refine AW.iast dX2_undo_59 (by decide) g626 (in1 8 k (by omega) (by decide)) (j := 8 + k) (at1 8 k (by omega)) s626 rfl ?_
    refine AW.iinc (v := 1) dX2_undo_60 rfl (by decide) rfl rfl rfl ?_
    refine AW.goto (tgt := 36) dX2_undo_63 (by decide) ?_
    exact AW.hp (by rw [setA_at, setA_setA, mv_out (by omega), up_ne (by omega)]; exact congrArg (fun q => hp (s.setA 626 q)) mv_s) (AW.ls (by rw [nI_succ k]; rfl) ihk)
theorem r_X2_hat_f {s : Sg} (hn : (vwM (s.A 626)).ok) (h : Int32) (hc : (vwM (s.A 626)).draws h = false) : Run 5 mX2_hat [.ref 625, .int h] (hp s) (.inl (some (.int (-1)))) (hp s) := by
  refine Run.of rfl (Nat.le_of_ble_eq_true rfl) rfl ?_
  refine AW.aload_n dX2_hat_0 rfl rfl ?_
  refine AW.iload_n dX2_hat_1 rfl rfl ?_
  refine AW.callV (Y := mX2_canDraw) (n := 1) (r_X2_canDraw hn _) (by decide) (by decide) rfl gM q1737 q1739 qs104 q141 q1740 dX2_hat_2 (by decide +kernel) rfl rfl (Nat.le_of_ble_eq_true rfl) rfl ?_
  refine AW.if_neB (tgt := 10) dX2_hat_5 (by decide) rfl (fun c_ => by first | exact absurd c_ hc | exact absurd hc c_ | exact Bool.noConfusion (c_.symm.trans hc)) (fun _ => ?_)
  refine AW.iconst (v := (-1)) dX2_hat_8 (by decide) rfl ?_
  exact AW.iretE dX2_hat_9 rfl rfl rfl rfl
theorem r_X2_hat_t {s : Sg} (hn : (vwM (s.A 626)).ok) (h : Int32) (hc : (vwM (s.A 626)).draws h = true) (c : Nat) (h3 : s.A 626 3 = nI c) (h30 : c ≤ 30) (hi : vp_in (12 + 8 * h + 0) 2308) : Run 5 mX2_hat [.ref 625, .int h] (hp s) (.inl (some (.int ((hatR h 20 (keepM (s.A 626) c)).1)))) (hp (s.setA 626 (hatR h 20 (keepM (s.A 626) c)).2)) := by
  refine Run.of rfl (Nat.le_of_ble_eq_true rfl) rfl ?_
  refine AW.aload_n dX2_hat_0 rfl rfl ?_
  refine AW.iload_n dX2_hat_1 rfl rfl ?_
  refine AW.callV (Y := mX2_canDraw) (n := 1) (r_X2_canDraw hn _) (by decide) (by decide) rfl gM q1737 q1739 qs104 q141 q1740 dX2_hat_2 (by decide +kernel) rfl rfl (Nat.le_of_ble_eq_true rfl) rfl ?_
  refine AW.if_neB (tgt := 10) dX2_hat_5 (by decide) rfl (fun _ => ?_) (fun c_ => by first | exact absurd c_ hc | exact absurd hc c_ | exact absurd c_ (not_not_intro hc) | exact Bool.noConfusion (c_.symm.trans hc))
  refine AW.aload_n dX2_hat_10 rfl rfl ?_
  refine AW.callV (Y := mX2_keep) (n := 0) (r_X2_keep c h3 h30) (by decide) (by decide) rfl gM q1657 q1659 qs93 q141 q1660 dX2_hat_11 (by decide +kernel) rfl rfl (Nat.le_of_ble_eq_true rfl) rfl ?_
  refine AW.aload_n dX2_hat_14 rfl rfl ?_
  refine AW.iload_n dX2_hat_15 rfl rfl ?_
  refine AW.callV (Y := mX2_hatNow) (n := 1) (r_X2_hatNow (s := s.setA 626 _) h hi) (by decide) (by decide) rfl gM q1741 q1743 qs105 q141 q1744 dX2_hat_16 (by decide +kernel) rfl rfl (Nat.le_of_ble_eq_true rfl) rfl ?_
  exact AW.iretE dX2_hat_19 rfl rfl (by rw [setA_at]) (by rw [setA_at, setA_setA])
theorem r_X2_forget_f {s : Sg} (hn : (vwM (s.A 626)).ok) (dt h : Int32) (hc : (vwM (s.A 626)).forgets dt h = false) : Run 5 mX2_forget [.ref 625, .int dt, .int h] (hp s) (.inl (some (.int (b2i false)))) (hp s) := by
  refine Run.of rfl (Nat.le_of_ble_eq_true rfl) rfl ?_
  refine AW.aload_n dX2_forget_0 rfl rfl ?_
  refine AW.iload_n dX2_forget_1 rfl rfl ?_
  refine AW.iload_n dX2_forget_2 rfl rfl ?_
  refine AW.callV (Y := mX2_canForget) (n := 2) (r_X2_canForget hn _ _) (by decide) (by decide) rfl gM q1756 q1758 qs107 q141 q1759 dX2_forget_3 (by decide +kernel) rfl rfl (Nat.le_of_ble_eq_true rfl) rfl ?_
  refine AW.if_neB (tgt := 11) dX2_forget_6 (by decide) rfl (fun c_ => by first | exact absurd c_ hc | exact absurd hc c_ | exact Bool.noConfusion (c_.symm.trans hc)) (fun _ => ?_)
  refine AW.iconst (v := 0) dX2_forget_9 (by decide) rfl ?_
  exact AW.bretE dX2_forget_10 rfl rfl rfl rfl
theorem r_X2_forget_t {s : Sg} (hn : (vwM (s.A 626)).ok) (dt h : Int32) (hc : (vwM (s.A 626)).forgets dt h = true) (c : Nat) (h3 : s.A 626 3 = nI c) (h30 : c ≤ 30) (hi : vp_in (12 + 8 * h + 0) 2308) : Run 5 mX2_forget [.ref 625, .int dt, .int h] (hp s) (.inl (some (.int (b2i true)))) (hp (s.setA 626 (ptM (keepM (s.A 626) c) h 0 (gtM (keepM (s.A 626) c) h 0 &&& (bit dt ^^^ -1))))) := by
  refine Run.of rfl (Nat.le_of_ble_eq_true rfl) rfl ?_
  refine AW.aload_n dX2_forget_0 rfl rfl ?_
  refine AW.iload_n dX2_forget_1 rfl rfl ?_
  refine AW.iload_n dX2_forget_2 rfl rfl ?_
  refine AW.callV (Y := mX2_canForget) (n := 2) (r_X2_canForget hn _ _) (by decide) (by decide) rfl gM q1756 q1758 qs107 q141 q1759 dX2_forget_3 (by decide +kernel) rfl rfl (Nat.le_of_ble_eq_true rfl) rfl ?_
  refine AW.if_neB (tgt := 11) dX2_forget_6 (by decide) rfl (fun _ => ?_) (fun c_ => by first | exact absurd c_ hc | exact absurd hc c_ | exact absurd c_ (not_not_intro hc) | exact Bool.noConfusion (c_.symm.trans hc))
  refine AW.aload_n dX2_forget_11 rfl rfl ?_
  refine AW.callV (Y := mX2_keep) (n := 0) (r_X2_keep c h3 h30) (by decide) (by decide) rfl gM q1657 q1659 qs93 q141 q1660 dX2_forget_12 (by decide +kernel) rfl rfl (Nat.le_of_ble_eq_true rfl) rfl ?_
  refine AW.aload_n dX2_forget_15 rfl rfl ?_
  refine AW.iload_n dX2_forget_16 rfl rfl ?_
  refine AW.iload_n dX2_forget_17 rfl rfl ?_
  refine AW.callV (Y := mX2_forgetNow) (n := 2) (r_X2_forgetNow (s := s.setA 626 _) dt h hi) (by decide) (by decide) rfl gM q1760 q1762 qs108 q141 q1763 dX2_forget_18 (by decide +kernel) rfl rfl (Nat.le_of_ble_eq_true rfl) rfl ?_
  refine AW.iconst (v := 1) dX2_forget_21 (by decide) rfl ?_
  exact AW.bretE dX2_forget_22 rfl rfl rfl (by rw [setA_at, setA_setA]; rfl)
theorem r_X2_house_f {s : Sg} (d1 d2 d3 pu fr : Int32) (hb : okH (s.A 626 0) d1 d2 d3 pu fr = false) : Run 3 mX2_house [.ref 625, .int d1, .int d2, .int d3, .int pu, .int fr] (hp s) (.inl (some (.int (-1)))) (hp s) := by
  refine Run.of rfl (Nat.le_of_ble_eq_true rfl) rfl ?_
  refine AW.iload_n dX2_house_0 rfl rfl ?_
  refine AW.iconst (v := (-1)) dX2_house_1 (by decide) rfl ?_
  refine AW.bipush (v := 19) dX2_house_2 (by decide) rfl ?_
  refine AW.callS (Y := mX2_isIn) (n := 3) (r_X2_isIn _ _ _) (by decide) (by decide) q1466 q1467 q141 q1468 dX2_house_4 (by decide +kernel) rfl rfl (Nat.le_of_ble_eq_true rfl) rfl ?_
  refine AW.if_eqB (tgt := 53) dX2_house_7 (by decide) rfl (fun c1 => ?_) (fun c1 => ?_)
  · refine AW.iconst (v := (-1)) dX2_house_53 (by decide) rfl ?_
    exact AW.iretE dX2_house_54 rfl rfl rfl rfl
  · refine AW.iload_n dX2_house_10 rfl rfl ?_
    refine AW.iconst (v := (-1)) dX2_house_11 (by decide) rfl ?_
    refine AW.bipush (v := 19) dX2_house_12 (by decide) rfl ?_
    refine AW.callS (Y := mX2_isIn) (n := 3) (r_X2_isIn _ _ _) (by decide) (by decide) q1466 q1467 q141 q1468 dX2_house_14 (by decide +kernel) rfl rfl (Nat.le_of_ble_eq_true rfl) rfl ?_
    refine AW.if_eqB (tgt := 53) dX2_house_17 (by decide) rfl (fun c2 => ?_) (fun c2 => ?_)
    · refine AW.iconst (v := (-1)) dX2_house_53 (by decide) rfl ?_
      exact AW.iretE dX2_house_54 rfl rfl rfl rfl
    · refine AW.iload_n dX2_house_20 rfl rfl ?_
      refine AW.iconst (v := (-1)) dX2_house_21 (by decide) rfl ?_
      refine AW.bipush (v := 19) dX2_house_22 (by decide) rfl ?_
      refine AW.callS (Y := mX2_isIn) (n := 3) (r_X2_isIn _ _ _) (by decide) (by decide) q1466 q1467 q141 q1468 dX2_house_24 (by decide +kernel) rfl rfl (Nat.le_of_ble_eq_true rfl) rfl ?_
      refine AW.if_eqB (tgt := 53) dX2_house_27 (by decide) rfl (fun c3 => ?_) (fun c3 => ?_)
      · refine AW.iconst (v := (-1)) dX2_house_53 (by decide) rfl ?_
        exact AW.iretE dX2_house_54 rfl rfl rfl rfl
      · refine AW.iload_n dX2_house_30 rfl rfl ?_
        refine AW.if_lt (tgt := 44) dX2_house_31 (by decide) rfl (fun c4 => ?_) (fun c4 => ?_)
        · refine AW.iload_n dX2_house_44 rfl rfl ?_
          refine AW.if_lt (tgt := 55) dX2_house_45 (by decide) rfl (fun c7 => ?_) (fun c7 => ?_)
          · refine AW.iload dX2_house_55 rfl rfl ?_
            refine AW.iconst (v := 0) dX2_house_57 (by decide) rfl ?_
            refine AW.sipush (v := 9999) dX2_house_58 (by decide) rfl ?_
            refine AW.callS (Y := mX2_isIn) (n := 3) (r_X2_isIn _ _ _) (by decide) (by decide) q1466 q1467 q141 q1468 dX2_house_61 (by decide +kernel) rfl rfl (Nat.le_of_ble_eq_true rfl) rfl ?_
            refine AW.if_eqB (tgt := 89) dX2_house_64 (by decide) rfl (fun c9 => ?_) (fun c9 => ?_)
            · refine AW.iconst (v := (-1)) dX2_house_89 (by decide) rfl ?_
              exact AW.iretE dX2_house_90 rfl rfl rfl rfl
            · refine AW.iload dX2_house_67 rfl rfl ?_
              refine AW.iconst (v := 0) dX2_house_69 (by decide) rfl ?_
              refine AW.bipush (v := 99) dX2_house_70 (by decide) rfl ?_
              refine AW.callS (Y := mX2_isIn) (n := 3) (r_X2_isIn _ _ _) (by decide) (by decide) q1466 q1467 q141 q1468 dX2_house_72 (by decide +kernel) rfl rfl (Nat.le_of_ble_eq_true rfl) rfl ?_
              refine AW.if_eqB (tgt := 89) dX2_house_75 (by decide) rfl (fun c10 => ?_) (fun c10 => ?_)
              · refine AW.iconst (v := (-1)) dX2_house_89 (by decide) rfl ?_
                exact AW.iretE dX2_house_90 rfl rfl rfl rfl
              · refine AW.aload_n dX2_house_78 rfl rfl ?_
                refine AW.get ci2 0 (by decide) q1351 dX2_house_79 gM rfl rfl ?_
                refine AW.iconst (v := 0) dX2_house_82 (by decide) rfl ?_
                refine AW.iald dX2_house_83 g626 (vp_in_iff.mpr (by decide)) (j := 0) (by decide) rfl ?_
                refine AW.bipush (v := 7) dX2_house_84 (by decide) rfl ?_
                refine AW.icmp_ne (tgt := 91) dX2_house_86 (by decide) rfl (fun c11 => ?_) (fun c11 => ?_)
                · exfalso
                  revert hb
                  (try have c4 := Int32.not_le.mpr c4)
                  (try have c4 := Int32.not_lt.mp c4)
                  (try have c7 := Int32.not_le.mpr c7)
                  (try have c7 := Int32.not_lt.mp c7)
                  simp [okH, okD, *]
                · refine AW.iconst (v := (-1)) dX2_house_89 (by decide) rfl ?_
                  exact AW.iretE dX2_house_90 rfl rfl rfl rfl
          · refine AW.iload_n dX2_house_48 rfl rfl ?_
            refine AW.iload_n dX2_house_49 rfl rfl ?_
            refine AW.icmp_ne (tgt := 55) dX2_house_50 (by decide) rfl (fun c8 => ?_) (fun c8 => ?_)
            · refine AW.iload dX2_house_55 rfl rfl ?_
              refine AW.iconst (v := 0) dX2_house_57 (by decide) rfl ?_
              refine AW.sipush (v := 9999) dX2_house_58 (by decide) rfl ?_
              refine AW.callS (Y := mX2_isIn) (n := 3) (r_X2_isIn _ _ _) (by decide) (by decide) q1466 q1467 q141 q1468 dX2_house_61 (by decide +kernel) rfl rfl (Nat.le_of_ble_eq_true rfl) rfl ?_
              refine AW.if_eqB (tgt := 89) dX2_house_64 (by decide) rfl (fun c9 => ?_) (fun c9 => ?_)
              · refine AW.iconst (v := (-1)) dX2_house_89 (by decide) rfl ?_
                exact AW.iretE dX2_house_90 rfl rfl rfl rfl
              · refine AW.iload dX2_house_67 rfl rfl ?_
                refine AW.iconst (v := 0) dX2_house_69 (by decide) rfl ?_
                refine AW.bipush (v := 99) dX2_house_70 (by decide) rfl ?_
                refine AW.callS (Y := mX2_isIn) (n := 3) (r_X2_isIn _ _ _) (by decide) (by decide) q1466 q1467 q141 q1468 dX2_house_72 (by decide +kernel) rfl rfl (Nat.le_of_ble_eq_true rfl) rfl ?_
                refine AW.if_eqB (tgt := 89) dX2_house_75 (by decide) rfl (fun c10 => ?_) (fun c10 => ?_)
                · refine AW.iconst (v := (-1)) dX2_house_89 (by decide) rfl ?_
                  exact AW.iretE dX2_house_90 rfl rfl rfl rfl
                · refine AW.aload_n dX2_house_78 rfl rfl ?_
                  refine AW.get ci2 0 (by decide) q1351 dX2_house_79 gM rfl rfl ?_
                  refine AW.iconst (v := 0) dX2_house_82 (by decide) rfl ?_
                  refine AW.iald dX2_house_83 g626 (vp_in_iff.mpr (by decide)) (j := 0) (by decide) rfl ?_
                  refine AW.bipush (v := 7) dX2_house_84 (by decide) rfl ?_
                  refine AW.icmp_ne (tgt := 91) dX2_house_86 (by decide) rfl (fun c11 => ?_) (fun c11 => ?_)
                  · exfalso
                    revert hb
                    (try have c4 := Int32.not_le.mpr c4)
                    (try have c4 := Int32.not_lt.mp c4)
                    (try have c7 := Int32.not_le.mpr c7)
                    (try have c7 := Int32.not_lt.mp c7)
                    simp [okH, okD, *]
                  · refine AW.iconst (v := (-1)) dX2_house_89 (by decide) rfl ?_
                    exact AW.iretE dX2_house_90 rfl rfl rfl rfl
            · refine AW.iconst (v := (-1)) dX2_house_53 (by decide) rfl ?_
              exact AW.iretE dX2_house_54 rfl rfl rfl rfl
        · refine AW.iload_n dX2_house_34 rfl rfl ?_
          refine AW.iload_n dX2_house_35 rfl rfl ?_
          refine AW.icmp_eq (tgt := 53) dX2_house_36 (by decide) rfl (fun c5 => ?_) (fun c5 => ?_)
          · refine AW.iconst (v := (-1)) dX2_house_53 (by decide) rfl ?_
            exact AW.iretE dX2_house_54 rfl rfl rfl rfl
          · refine AW.iload_n dX2_house_39 rfl rfl ?_
            refine AW.iload_n dX2_house_40 rfl rfl ?_
            refine AW.icmp_eq (tgt := 53) dX2_house_41 (by decide) rfl (fun c6 => ?_) (fun c6 => ?_)
            · refine AW.iconst (v := (-1)) dX2_house_53 (by decide) rfl ?_
              exact AW.iretE dX2_house_54 rfl rfl rfl rfl
            · refine AW.iload_n dX2_house_44 rfl rfl ?_
              refine AW.if_lt (tgt := 55) dX2_house_45 (by decide) rfl (fun c7 => ?_) (fun c7 => ?_)
              · refine AW.iload dX2_house_55 rfl rfl ?_
                refine AW.iconst (v := 0) dX2_house_57 (by decide) rfl ?_
                refine AW.sipush (v := 9999) dX2_house_58 (by decide) rfl ?_
                refine AW.callS (Y := mX2_isIn) (n := 3) (r_X2_isIn _ _ _) (by decide) (by decide) q1466 q1467 q141 q1468 dX2_house_61 (by decide +kernel) rfl rfl (Nat.le_of_ble_eq_true rfl) rfl ?_
                refine AW.if_eqB (tgt := 89) dX2_house_64 (by decide) rfl (fun c9 => ?_) (fun c9 => ?_)
                · refine AW.iconst (v := (-1)) dX2_house_89 (by decide) rfl ?_
                  exact AW.iretE dX2_house_90 rfl rfl rfl rfl
                · refine AW.iload dX2_house_67 rfl rfl ?_
                  refine AW.iconst (v := 0) dX2_house_69 (by decide) rfl ?_
                  refine AW.bipush (v := 99) dX2_house_70 (by decide) rfl ?_
                  refine AW.callS (Y := mX2_isIn) (n := 3) (r_X2_isIn _ _ _) (by decide) (by decide) q1466 q1467 q141 q1468 dX2_house_72 (by decide +kernel) rfl rfl (Nat.le_of_ble_eq_true rfl) rfl ?_
                  refine AW.if_eqB (tgt := 89) dX2_house_75 (by decide) rfl (fun c10 => ?_) (fun c10 => ?_)
                  · refine AW.iconst (v := (-1)) dX2_house_89 (by decide) rfl ?_
                    exact AW.iretE dX2_house_90 rfl rfl rfl rfl
                  · refine AW.aload_n dX2_house_78 rfl rfl ?_
                    refine AW.get ci2 0 (by decide) q1351 dX2_house_79 gM rfl rfl ?_
                    refine AW.iconst (v := 0) dX2_house_82 (by decide) rfl ?_
                    refine AW.iald dX2_house_83 g626 (vp_in_iff.mpr (by decide)) (j := 0) (by decide) rfl ?_
                    refine AW.bipush (v := 7) dX2_house_84 (by decide) rfl ?_
                    refine AW.icmp_ne (tgt := 91) dX2_house_86 (by decide) rfl (fun c11 => ?_) (fun c11 => ?_)
                    · exfalso
                      revert hb
                      (try have c4 := Int32.not_le.mpr c4)
                      (try have c4 := Int32.not_lt.mp c4)
                      (try have c7 := Int32.not_le.mpr c7)
                      (try have c7 := Int32.not_lt.mp c7)
                      simp [okH, okD, *]
                    · refine AW.iconst (v := (-1)) dX2_house_89 (by decide) rfl ?_
                      exact AW.iretE dX2_house_90 rfl rfl rfl rfl
              · refine AW.iload_n dX2_house_48 rfl rfl ?_
                refine AW.iload_n dX2_house_49 rfl rfl ?_
                refine AW.icmp_ne (tgt := 55) dX2_house_50 (by decide) rfl (fun c8 => ?_) (fun c8 => ?_)
                · refine AW.iload dX2_house_55 rfl rfl ?_
                  refine AW.iconst (v := 0) dX2_house_57 (by decide) rfl ?_
                  refine AW.sipush (v := 9999) dX2_house_58 (by decide) rfl ?_
                  refine AW.callS (Y := mX2_isIn) (n := 3) (r_X2_isIn _ _ _) (by decide) (by decide) q1466 q1467 q141 q1468 dX2_house_61 (by decide +kernel) rfl rfl (Nat.le_of_ble_eq_true rfl) rfl ?_
                  refine AW.if_eqB (tgt := 89) dX2_house_64 (by decide) rfl (fun c9 => ?_) (fun c9 => ?_)
                  · refine AW.iconst (v := (-1)) dX2_house_89 (by decide) rfl ?_
                    exact AW.iretE dX2_house_90 rfl rfl rfl rfl
                  · refine AW.iload dX2_house_67 rfl rfl ?_
                    refine AW.iconst (v := 0) dX2_house_69 (by decide) rfl ?_
                    refine AW.bipush (v := 99) dX2_house_70 (by decide) rfl ?_
                    refine AW.callS (Y := mX2_isIn) (n := 3) (r_X2_isIn _ _ _) (by decide) (by decide) q1466 q1467 q141 q1468 dX2_house_72 (by decide +kernel) rfl rfl (Nat.le_of_ble_eq_true rfl) rfl ?_
                    refine AW.if_eqB (tgt := 89) dX2_house_75 (by decide) rfl (fun c10 => ?_) (fun c10 => ?_)
                    · refine AW.iconst (v := (-1)) dX2_house_89 (by decide) rfl ?_
                      exact AW.iretE dX2_house_90 rfl rfl rfl rfl
                    · refine AW.aload_n dX2_house_78 rfl rfl ?_
                      refine AW.get ci2 0 (by decide) q1351 dX2_house_79 gM rfl rfl ?_
                      refine AW.iconst (v := 0) dX2_house_82 (by decide) rfl ?_
                      refine AW.iald dX2_house_83 g626 (vp_in_iff.mpr (by decide)) (j := 0) (by decide) rfl ?_
                      refine AW.bipush (v := 7) dX2_house_84 (by decide) rfl ?_
                      refine AW.icmp_ne (tgt := 91) dX2_house_86 (by decide) rfl (fun c11 => ?_) (fun c11 => ?_)
                      · exfalso
                        revert hb
                        (try have c4 := Int32.not_le.mpr c4)
                        (try have c4 := Int32.not_lt.mp c4)
                        (try have c7 := Int32.not_le.mpr c7)
                        (try have c7 := Int32.not_lt.mp c7)
                        simp [okH, okD, *]
                      · refine AW.iconst (v := (-1)) dX2_house_89 (by decide) rfl ?_
                        exact AW.iretE dX2_house_90 rfl rfl rfl rfl
                · refine AW.iconst (v := (-1)) dX2_house_53 (by decide) rfl ?_
                  exact AW.iretE dX2_house_54 rfl rfl rfl rfl
theorem house_tail {s : Sg} (n : Nat) (hn0 : s.A 626 0 = nI n) (hn7 : n < 7) (d1 d2 d3 pu fr : Int32) : AW 3 mX2_house (hp s) 91 [some (.ref 625), some (.int (d1)), some (.int (d2)), some (.int (d3)), some (.int (pu)), some (.int (fr)), none] [] (.inl (some (.int (nI n)))) (hp (s.setA 626 (houseM (s.A 626) n d1 d2 d3 pu fr))) := by
  refine AW.aload_n dX2_house_91 rfl rfl ?_
  refine AW.get ci2 0 (by decide) q1351 dX2_house_92 gM rfl rfl ?_
  refine AW.iconst (v := 0) dX2_house_95 (by decide) rfl ?_
  refine AW.iald dX2_house_96 g626 (vp_in_iff.mpr (by decide)) (j := 0) (by decide) rfl ?_
  refine AW.istore dX2_house_97 rfl (Nat.le_of_ble_eq_true rfl) rfl rfl ?_
  refine AW.ls (ls' := [some (.ref 625), some (.int d1), some (.int d2), some (.int d3), some (.int pu), some (.int fr), some (.int (nI n))]) (by rw [hn0]; rfl) ?_
  refine AW.aload_n dX2_house_99 rfl rfl ?_
  refine AW.iload dX2_house_100 rfl rfl ?_
  refine AW.iconst (v := 4) dX2_house_102 (by decide) rfl ?_
  refine AW.iload_n dX2_house_103 rfl rfl ?_
  refine AW.if_ge (tgt := 111) dX2_house_104 (by decide) rfl (fun e1 => ?_) (fun e1 => ?_)
  · refine AW.iconst (v := 1) dX2_house_111 (by decide) rfl ?_
    refine AW.iload_n dX2_house_112 rfl rfl ?_
    refine AW.ishl dX2_house_113 rfl ?_
    refine AW.iload_n dX2_house_114 rfl rfl ?_
    refine AW.if_ge (tgt := 122) dX2_house_115 (by decide) rfl (fun e2 => ?_) (fun e2 => ?_)
    · refine AW.iconst (v := 1) dX2_house_122 (by decide) rfl ?_
      refine AW.iload_n dX2_house_123 rfl rfl ?_
      refine AW.ishl dX2_house_124 rfl ?_
      refine AW.ior dX2_house_125 rfl ?_
      refine AW.iload_n dX2_house_126 rfl rfl ?_
      refine AW.if_ge (tgt := 134) dX2_house_127 (by decide) rfl (fun e3 => ?_) (fun e3 => ?_)
      · refine AW.iconst (v := 1) dX2_house_134 (by decide) rfl ?_
        refine AW.iload_n dX2_house_135 rfl rfl ?_
        refine AW.ishl dX2_house_136 rfl ?_
        refine AW.ior dX2_house_137 rfl ?_
        refine AW.callV (Y := mX2_put) (n := 3) (r_X2_put (nI n) 4 _ (in3 12 8 n 4 (by omega) (by decide))) (by decide) (by decide) rfl gM q1469 q1471 qs61 q141 q1472 dX2_house_138 (by decide +kernel) rfl rfl (Nat.le_of_ble_eq_true rfl) rfl ?_
        refine AW.aload_n dX2_house_141 rfl rfl ?_
        refine AW.iload dX2_house_142 rfl rfl ?_
        refine AW.iconst (v := 5) dX2_house_144 (by decide) rfl ?_
        refine AW.iload dX2_house_145 rfl rfl ?_
        refine AW.callV (Y := mX2_put) (n := 3) (r_X2_put (s := s.setA 626 _) (nI n) 5 _ (in3 12 8 n 5 (by omega) (by decide))) (by decide) (by decide) rfl gM q1469 q1471 qs61 q141 q1472 dX2_house_147 (by decide +kernel) rfl rfl (Nat.le_of_ble_eq_true rfl) rfl ?_
        refine AW.aload_n dX2_house_150 rfl rfl ?_
        refine AW.iload dX2_house_151 rfl rfl ?_
        refine AW.bipush (v := 6) dX2_house_153 (by decide) rfl ?_
        refine AW.iload dX2_house_155 rfl rfl ?_
        refine AW.callV (Y := mX2_put) (n := 3) (r_X2_put (s := (s.setA 626 _).setA 626 _) (nI n) 6 _ (in3 12 8 n 6 (by omega) (by decide))) (by decide) (by decide) rfl gM q1469 q1471 qs61 q141 q1472 dX2_house_157 (by decide +kernel) rfl rfl (Nat.le_of_ble_eq_true rfl) rfl ?_
        refine AW.aload_n dX2_house_160 rfl rfl ?_
        refine AW.iload dX2_house_161 rfl rfl ?_
        refine AW.callV (Y := mX2_begin) (n := 1) (r_X2_begin (s := ((s.setA 626 _).setA 626 _).setA 626 _) n (by omega)) (by decide) (by decide) rfl gM q1473 q1475 qs62 q141 q1476 dX2_house_163 (by decide +kernel) rfl rfl (Nat.le_of_ble_eq_true rfl) rfl ?_
        refine AW.aload_n dX2_house_166 rfl rfl ?_
        refine AW.get ci2 0 (by decide) q1351 dX2_house_167 gM rfl rfl ?_
        refine AW.iconst (v := 0) dX2_house_170 (by decide) rfl ?_
        refine AW.dup2 dX2_house_171 rfl rfl rfl ?_
        refine AW.iald dX2_house_172 g626 (vp_in_iff.mpr (by decide)) (j := 0) (by decide) rfl ?_
        refine AW.iconst (v := 1) dX2_house_173 (by decide) rfl ?_
        refine AW.iadd dX2_house_174 rfl ?_
        refine AW.iast dX2_house_175 (by decide) g626 (vp_in_iff.mpr (by decide)) (j := 0) (by decide) s626 rfl ?_
        refine AW.iload dX2_house_176 rfl rfl ?_
        exact AW.iretE dX2_house_178 rfl rfl rfl (by (try have g1 := Int32.not_lt.mpr e1); (try have g1 := Int32.not_le.mp e1); (try have g2 := Int32.not_lt.mpr e2); (try have g2 := Int32.not_le.mp e2); (try have g3 := Int32.not_lt.mpr e3); (try have g3 := Int32.not_le.mp e3); simp only [setA_at, setA_setA]; rw [beginM_out (by omega), up_ne (by rw [show cI (12 + 8 * nI n + 6) = 12 + 8 * n + 6 from at3 12 8 n 6 (by omega)]; omega), up_ne (by rw [show cI (12 + 8 * nI n + 5) = 12 + 8 * n + 5 from at3 12 8 n 5 (by omega)]; omega), up_ne (by rw [show cI (12 + 8 * nI n + 4) = 12 + 8 * n + 4 from at3 12 8 n 4 (by omega)]; omega), hn0, nI_1]; unfold houseM telI; simp only [g1, g2, g3, if_true, if_false]; rw [show cI (12 + 8 * nI n + 4) = 12 + 8 * n + 4 from at3 12 8 n 4 (by omega), show cI (12 + 8 * nI n + 5) = 12 + 8 * n + 5 from at3 12 8 n 5 (by omega), show cI (12 + 8 * nI n + 6) = 12 + 8 * n + 6 from at3 12 8 n 6 (by omega)]; (try rfl))
      · refine AW.iconst (v := 0) dX2_house_130 (by decide) rfl ?_
        refine AW.goto (tgt := 137) dX2_house_131 (by decide) ?_
        refine AW.ior dX2_house_137 rfl ?_
        refine AW.callV (Y := mX2_put) (n := 3) (r_X2_put (nI n) 4 _ (in3 12 8 n 4 (by omega) (by decide))) (by decide) (by decide) rfl gM q1469 q1471 qs61 q141 q1472 dX2_house_138 (by decide +kernel) rfl rfl (Nat.le_of_ble_eq_true rfl) rfl ?_
        refine AW.aload_n dX2_house_141 rfl rfl ?_
        refine AW.iload dX2_house_142 rfl rfl ?_
        refine AW.iconst (v := 5) dX2_house_144 (by decide) rfl ?_
        refine AW.iload dX2_house_145 rfl rfl ?_
        refine AW.callV (Y := mX2_put) (n := 3) (r_X2_put (s := s.setA 626 _) (nI n) 5 _ (in3 12 8 n 5 (by omega) (by decide))) (by decide) (by decide) rfl gM q1469 q1471 qs61 q141 q1472 dX2_house_147 (by decide +kernel) rfl rfl (Nat.le_of_ble_eq_true rfl) rfl ?_
        refine AW.aload_n dX2_house_150 rfl rfl ?_
        refine AW.iload dX2_house_151 rfl rfl ?_
        refine AW.bipush (v := 6) dX2_house_153 (by decide) rfl ?_
        refine AW.iload dX2_house_155 rfl rfl ?_
        refine AW.callV (Y := mX2_put) (n := 3) (r_X2_put (s := (s.setA 626 _).setA 626 _) (nI n) 6 _ (in3 12 8 n 6 (by omega) (by decide))) (by decide) (by decide) rfl gM q1469 q1471 qs61 q141 q1472 dX2_house_157 (by decide +kernel) rfl rfl (Nat.le_of_ble_eq_true rfl) rfl ?_
        refine AW.aload_n dX2_house_160 rfl rfl ?_
        refine AW.iload dX2_house_161 rfl rfl ?_
        refine AW.callV (Y := mX2_begin) (n := 1) (r_X2_begin (s := ((s.setA 626 _).setA 626 _).setA 626 _) n (by omega)) (by decide) (by decide) rfl gM q1473 q1475 qs62 q141 q1476 dX2_house_163 (by decide +kernel) rfl rfl (Nat.le_of_ble_eq_true rfl) rfl ?_
        refine AW.aload_n dX2_house_166 rfl rfl ?_
        refine AW.get ci2 0 (by decide) q1351 dX2_house_167 gM rfl rfl ?_
        refine AW.iconst (v := 0) dX2_house_170 (by decide) rfl ?_
        refine AW.dup2 dX2_house_171 rfl rfl rfl ?_
        refine AW.iald dX2_house_172 g626 (vp_in_iff.mpr (by decide)) (j := 0) (by decide) rfl ?_
        refine AW.iconst (v := 1) dX2_house_173 (by decide) rfl ?_
        refine AW.iadd dX2_house_174 rfl ?_
        refine AW.iast dX2_house_175 (by decide) g626 (vp_in_iff.mpr (by decide)) (j := 0) (by decide) s626 rfl ?_
        refine AW.iload dX2_house_176 rfl rfl ?_
        exact AW.iretE dX2_house_178 rfl rfl rfl (by (try have g1 := Int32.not_lt.mpr e1); (try have g1 := Int32.not_le.mp e1); (try have g2 := Int32.not_lt.mpr e2); (try have g2 := Int32.not_le.mp e2); (try have g3 := Int32.not_lt.mpr e3); (try have g3 := Int32.not_le.mp e3); simp only [setA_at, setA_setA]; rw [beginM_out (by omega), up_ne (by rw [show cI (12 + 8 * nI n + 6) = 12 + 8 * n + 6 from at3 12 8 n 6 (by omega)]; omega), up_ne (by rw [show cI (12 + 8 * nI n + 5) = 12 + 8 * n + 5 from at3 12 8 n 5 (by omega)]; omega), up_ne (by rw [show cI (12 + 8 * nI n + 4) = 12 + 8 * n + 4 from at3 12 8 n 4 (by omega)]; omega), hn0, nI_1]; unfold houseM telI; simp only [g1, g2, g3, if_true, if_false]; rw [show cI (12 + 8 * nI n + 4) = 12 + 8 * n + 4 from at3 12 8 n 4 (by omega), show cI (12 + 8 * nI n + 5) = 12 + 8 * n + 5 from at3 12 8 n 5 (by omega), show cI (12 + 8 * nI n + 6) = 12 + 8 * n + 6 from at3 12 8 n 6 (by omega)]; (try rfl))
    · refine AW.iconst (v := 0) dX2_house_118 (by decide) rfl ?_
      refine AW.goto (tgt := 125) dX2_house_119 (by decide) ?_
      refine AW.ior dX2_house_125 rfl ?_
      refine AW.iload_n dX2_house_126 rfl rfl ?_
      refine AW.if_ge (tgt := 134) dX2_house_127 (by decide) rfl (fun e3 => ?_) (fun e3 => ?_)
      · refine AW.iconst (v := 1) dX2_house_134 (by decide) rfl ?_
        refine AW.iload_n dX2_house_135 rfl rfl ?_
        refine AW.ishl dX2_house_136 rfl ?_
        refine AW.ior dX2_house_137 rfl ?_
        refine AW.callV (Y := mX2_put) (n := 3) (r_X2_put (nI n) 4 _ (in3 12 8 n 4 (by omega) (by decide))) (by decide) (by decide) rfl gM q1469 q1471 qs61 q141 q1472 dX2_house_138 (by decide +kernel) rfl rfl (Nat.le_of_ble_eq_true rfl) rfl ?_
        refine AW.aload_n dX2_house_141 rfl rfl ?_
        refine AW.iload dX2_house_142 rfl rfl ?_
        refine AW.iconst (v := 5) dX2_house_144 (by decide) rfl ?_
        refine AW.iload dX2_house_145 rfl rfl ?_
        refine AW.callV (Y := mX2_put) (n := 3) (r_X2_put (s := s.setA 626 _) (nI n) 5 _ (in3 12 8 n 5 (by omega) (by decide))) (by decide) (by decide) rfl gM q1469 q1471 qs61 q141 q1472 dX2_house_147 (by decide +kernel) rfl rfl (Nat.le_of_ble_eq_true rfl) rfl ?_
        refine AW.aload_n dX2_house_150 rfl rfl ?_
        refine AW.iload dX2_house_151 rfl rfl ?_
        refine AW.bipush (v := 6) dX2_house_153 (by decide) rfl ?_
        refine AW.iload dX2_house_155 rfl rfl ?_
        refine AW.callV (Y := mX2_put) (n := 3) (r_X2_put (s := (s.setA 626 _).setA 626 _) (nI n) 6 _ (in3 12 8 n 6 (by omega) (by decide))) (by decide) (by decide) rfl gM q1469 q1471 qs61 q141 q1472 dX2_house_157 (by decide +kernel) rfl rfl (Nat.le_of_ble_eq_true rfl) rfl ?_
        refine AW.aload_n dX2_house_160 rfl rfl ?_
        refine AW.iload dX2_house_161 rfl rfl ?_
        refine AW.callV (Y := mX2_begin) (n := 1) (r_X2_begin (s := ((s.setA 626 _).setA 626 _).setA 626 _) n (by omega)) (by decide) (by decide) rfl gM q1473 q1475 qs62 q141 q1476 dX2_house_163 (by decide +kernel) rfl rfl (Nat.le_of_ble_eq_true rfl) rfl ?_
        refine AW.aload_n dX2_house_166 rfl rfl ?_
        refine AW.get ci2 0 (by decide) q1351 dX2_house_167 gM rfl rfl ?_
        refine AW.iconst (v := 0) dX2_house_170 (by decide) rfl ?_
        refine AW.dup2 dX2_house_171 rfl rfl rfl ?_
        refine AW.iald dX2_house_172 g626 (vp_in_iff.mpr (by decide)) (j := 0) (by decide) rfl ?_
        refine AW.iconst (v := 1) dX2_house_173 (by decide) rfl ?_
        refine AW.iadd dX2_house_174 rfl ?_
        refine AW.iast dX2_house_175 (by decide) g626 (vp_in_iff.mpr (by decide)) (j := 0) (by decide) s626 rfl ?_
        refine AW.iload dX2_house_176 rfl rfl ?_
        exact AW.iretE dX2_house_178 rfl rfl rfl (by (try have g1 := Int32.not_lt.mpr e1); (try have g1 := Int32.not_le.mp e1); (try have g2 := Int32.not_lt.mpr e2); (try have g2 := Int32.not_le.mp e2); (try have g3 := Int32.not_lt.mpr e3); (try have g3 := Int32.not_le.mp e3); simp only [setA_at, setA_setA]; rw [beginM_out (by omega), up_ne (by rw [show cI (12 + 8 * nI n + 6) = 12 + 8 * n + 6 from at3 12 8 n 6 (by omega)]; omega), up_ne (by rw [show cI (12 + 8 * nI n + 5) = 12 + 8 * n + 5 from at3 12 8 n 5 (by omega)]; omega), up_ne (by rw [show cI (12 + 8 * nI n + 4) = 12 + 8 * n + 4 from at3 12 8 n 4 (by omega)]; omega), hn0, nI_1]; unfold houseM telI; simp only [g1, g2, g3, if_true, if_false]; rw [show cI (12 + 8 * nI n + 4) = 12 + 8 * n + 4 from at3 12 8 n 4 (by omega), show cI (12 + 8 * nI n + 5) = 12 + 8 * n + 5 from at3 12 8 n 5 (by omega), show cI (12 + 8 * nI n + 6) = 12 + 8 * n + 6 from at3 12 8 n 6 (by omega)]; (try rfl))
      · refine AW.iconst (v := 0) dX2_house_130 (by decide) rfl ?_
        refine AW.goto (tgt := 137) dX2_house_131 (by decide) ?_
        refine AW.ior dX2_house_137 rfl ?_
        refine AW.callV (Y := mX2_put) (n := 3) (r_X2_put (nI n) 4 _ (in3 12 8 n 4 (by omega) (by decide))) (by decide) (by decide) rfl gM q1469 q1471 qs61 q141 q1472 dX2_house_138 (by decide +kernel) rfl rfl (Nat.le_of_ble_eq_true rfl) rfl ?_
        refine AW.aload_n dX2_house_141 rfl rfl ?_
        refine AW.iload dX2_house_142 rfl rfl ?_
        refine AW.iconst (v := 5) dX2_house_144 (by decide) rfl ?_
        refine AW.iload dX2_house_145 rfl rfl ?_
        refine AW.callV (Y := mX2_put) (n := 3) (r_X2_put (s := s.setA 626 _) (nI n) 5 _ (in3 12 8 n 5 (by omega) (by decide))) (by decide) (by decide) rfl gM q1469 q1471 qs61 q141 q1472 dX2_house_147 (by decide +kernel) rfl rfl (Nat.le_of_ble_eq_true rfl) rfl ?_
        refine AW.aload_n dX2_house_150 rfl rfl ?_
        refine AW.iload dX2_house_151 rfl rfl ?_
        refine AW.bipush (v := 6) dX2_house_153 (by decide) rfl ?_
        refine AW.iload dX2_house_155 rfl rfl ?_
        refine AW.callV (Y := mX2_put) (n := 3) (r_X2_put (s := (s.setA 626 _).setA 626 _) (nI n) 6 _ (in3 12 8 n 6 (by omega) (by decide))) (by decide) (by decide) rfl gM q1469 q1471 qs61 q141 q1472 dX2_house_157 (by decide +kernel) rfl rfl (Nat.le_of_ble_eq_true rfl) rfl ?_
        refine AW.aload_n dX2_house_160 rfl rfl ?_
        refine AW.iload dX2_house_161 rfl rfl ?_
        refine AW.callV (Y := mX2_begin) (n := 1) (r_X2_begin (s := ((s.setA 626 _).setA 626 _).setA 626 _) n (by omega)) (by decide) (by decide) rfl gM q1473 q1475 qs62 q141 q1476 dX2_house_163 (by decide +kernel) rfl rfl (Nat.le_of_ble_eq_true rfl) rfl ?_
        refine AW.aload_n dX2_house_166 rfl rfl ?_
        refine AW.get ci2 0 (by decide) q1351 dX2_house_167 gM rfl rfl ?_
        refine AW.iconst (v := 0) dX2_house_170 (by decide) rfl ?_
        refine AW.dup2 dX2_house_171 rfl rfl rfl ?_
        refine AW.iald dX2_house_172 g626 (vp_in_iff.mpr (by decide)) (j := 0) (by decide) rfl ?_
        refine AW.iconst (v := 1) dX2_house_173 (by decide) rfl ?_
        refine AW.iadd dX2_house_174 rfl ?_
        refine AW.iast dX2_house_175 (by decide) g626 (vp_in_iff.mpr (by decide)) (j := 0) (by decide) s626 rfl ?_
        refine AW.iload dX2_house_176 rfl rfl ?_
        exact AW.iretE dX2_house_178 rfl rfl rfl (by (try have g1 := Int32.not_lt.mpr e1); (try have g1 := Int32.not_le.mp e1); (try have g2 := Int32.not_lt.mpr e2); (try have g2 := Int32.not_le.mp e2); (try have g3 := Int32.not_lt.mpr e3); (try have g3 := Int32.not_le.mp e3); simp only [setA_at, setA_setA]; rw [beginM_out (by omega), up_ne (by rw [show cI (12 + 8 * nI n + 6) = 12 + 8 * n + 6 from at3 12 8 n 6 (by omega)]; omega), up_ne (by rw [show cI (12 + 8 * nI n + 5) = 12 + 8 * n + 5 from at3 12 8 n 5 (by omega)]; omega), up_ne (by rw [show cI (12 + 8 * nI n + 4) = 12 + 8 * n + 4 from at3 12 8 n 4 (by omega)]; omega), hn0, nI_1]; unfold houseM telI; simp only [g1, g2, g3, if_true, if_false]; rw [show cI (12 + 8 * nI n + 4) = 12 + 8 * n + 4 from at3 12 8 n 4 (by omega), show cI (12 + 8 * nI n + 5) = 12 + 8 * n + 5 from at3 12 8 n 5 (by omega), show cI (12 + 8 * nI n + 6) = 12 + 8 * n + 6 from at3 12 8 n 6 (by omega)]; (try rfl))
  · refine AW.iconst (v := 0) dX2_house_107 (by decide) rfl ?_
    refine AW.goto (tgt := 114) dX2_house_108 (by decide) ?_
    refine AW.iload_n dX2_house_114 rfl rfl ?_
    refine AW.if_ge (tgt := 122) dX2_house_115 (by decide) rfl (fun e2 => ?_) (fun e2 => ?_)
    · refine AW.iconst (v := 1) dX2_house_122 (by decide) rfl ?_
      refine AW.iload_n dX2_house_123 rfl rfl ?_
      refine AW.ishl dX2_house_124 rfl ?_
      refine AW.ior dX2_house_125 rfl ?_
      refine AW.iload_n dX2_house_126 rfl rfl ?_
      refine AW.if_ge (tgt := 134) dX2_house_127 (by decide) rfl (fun e3 => ?_) (fun e3 => ?_)
      · refine AW.iconst (v := 1) dX2_house_134 (by decide) rfl ?_
        refine AW.iload_n dX2_house_135 rfl rfl ?_
        refine AW.ishl dX2_house_136 rfl ?_
        refine AW.ior dX2_house_137 rfl ?_
        refine AW.callV (Y := mX2_put) (n := 3) (r_X2_put (nI n) 4 _ (in3 12 8 n 4 (by omega) (by decide))) (by decide) (by decide) rfl gM q1469 q1471 qs61 q141 q1472 dX2_house_138 (by decide +kernel) rfl rfl (Nat.le_of_ble_eq_true rfl) rfl ?_
        refine AW.aload_n dX2_house_141 rfl rfl ?_
        refine AW.iload dX2_house_142 rfl rfl ?_
        refine AW.iconst (v := 5) dX2_house_144 (by decide) rfl ?_
        refine AW.iload dX2_house_145 rfl rfl ?_
        refine AW.callV (Y := mX2_put) (n := 3) (r_X2_put (s := s.setA 626 _) (nI n) 5 _ (in3 12 8 n 5 (by omega) (by decide))) (by decide) (by decide) rfl gM q1469 q1471 qs61 q141 q1472 dX2_house_147 (by decide +kernel) rfl rfl (Nat.le_of_ble_eq_true rfl) rfl ?_
        refine AW.aload_n dX2_house_150 rfl rfl ?_
        refine AW.iload dX2_house_151 rfl rfl ?_
        refine AW.bipush (v := 6) dX2_house_153 (by decide) rfl ?_
        refine AW.iload dX2_house_155 rfl rfl ?_
        refine AW.callV (Y := mX2_put) (n := 3) (r_X2_put (s := (s.setA 626 _).setA 626 _) (nI n) 6 _ (in3 12 8 n 6 (by omega) (by decide))) (by decide) (by decide) rfl gM q1469 q1471 qs61 q141 q1472 dX2_house_157 (by decide +kernel) rfl rfl (Nat.le_of_ble_eq_true rfl) rfl ?_
        refine AW.aload_n dX2_house_160 rfl rfl ?_
        refine AW.iload dX2_house_161 rfl rfl ?_
        refine AW.callV (Y := mX2_begin) (n := 1) (r_X2_begin (s := ((s.setA 626 _).setA 626 _).setA 626 _) n (by omega)) (by decide) (by decide) rfl gM q1473 q1475 qs62 q141 q1476 dX2_house_163 (by decide +kernel) rfl rfl (Nat.le_of_ble_eq_true rfl) rfl ?_
        refine AW.aload_n dX2_house_166 rfl rfl ?_
        refine AW.get ci2 0 (by decide) q1351 dX2_house_167 gM rfl rfl ?_
        refine AW.iconst (v := 0) dX2_house_170 (by decide) rfl ?_
        refine AW.dup2 dX2_house_171 rfl rfl rfl ?_
        refine AW.iald dX2_house_172 g626 (vp_in_iff.mpr (by decide)) (j := 0) (by decide) rfl ?_
        refine AW.iconst (v := 1) dX2_house_173 (by decide) rfl ?_
        refine AW.iadd dX2_house_174 rfl ?_
        refine AW.iast dX2_house_175 (by decide) g626 (vp_in_iff.mpr (by decide)) (j := 0) (by decide) s626 rfl ?_
        refine AW.iload dX2_house_176 rfl rfl ?_
        exact AW.iretE dX2_house_178 rfl rfl rfl (by (try have g1 := Int32.not_lt.mpr e1); (try have g1 := Int32.not_le.mp e1); (try have g2 := Int32.not_lt.mpr e2); (try have g2 := Int32.not_le.mp e2); (try have g3 := Int32.not_lt.mpr e3); (try have g3 := Int32.not_le.mp e3); simp only [setA_at, setA_setA]; rw [beginM_out (by omega), up_ne (by rw [show cI (12 + 8 * nI n + 6) = 12 + 8 * n + 6 from at3 12 8 n 6 (by omega)]; omega), up_ne (by rw [show cI (12 + 8 * nI n + 5) = 12 + 8 * n + 5 from at3 12 8 n 5 (by omega)]; omega), up_ne (by rw [show cI (12 + 8 * nI n + 4) = 12 + 8 * n + 4 from at3 12 8 n 4 (by omega)]; omega), hn0, nI_1]; unfold houseM telI; simp only [g1, g2, g3, if_true, if_false]; rw [show cI (12 + 8 * nI n + 4) = 12 + 8 * n + 4 from at3 12 8 n 4 (by omega), show cI (12 + 8 * nI n + 5) = 12 + 8 * n + 5 from at3 12 8 n 5 (by omega), show cI (12 + 8 * nI n + 6) = 12 + 8 * n + 6 from at3 12 8 n 6 (by omega)]; (try rfl))
      · refine AW.iconst (v := 0) dX2_house_130 (by decide) rfl ?_
        refine AW.goto (tgt := 137) dX2_house_131 (by decide) ?_
        refine AW.ior dX2_house_137 rfl ?_
        refine AW.callV (Y := mX2_put) (n := 3) (r_X2_put (nI n) 4 _ (in3 12 8 n 4 (by omega) (by decide))) (by decide) (by decide) rfl gM q1469 q1471 qs61 q141 q1472 dX2_house_138 (by decide +kernel) rfl rfl (Nat.le_of_ble_eq_true rfl) rfl ?_
        refine AW.aload_n dX2_house_141 rfl rfl ?_
        refine AW.iload dX2_house_142 rfl rfl ?_
        refine AW.iconst (v := 5) dX2_house_144 (by decide) rfl ?_
        refine AW.iload dX2_house_145 rfl rfl ?_
        refine AW.callV (Y := mX2_put) (n := 3) (r_X2_put (s := s.setA 626 _) (nI n) 5 _ (in3 12 8 n 5 (by omega) (by decide))) (by decide) (by decide) rfl gM q1469 q1471 qs61 q141 q1472 dX2_house_147 (by decide +kernel) rfl rfl (Nat.le_of_ble_eq_true rfl) rfl ?_
        refine AW.aload_n dX2_house_150 rfl rfl ?_
        refine AW.iload dX2_house_151 rfl rfl ?_
        refine AW.bipush (v := 6) dX2_house_153 (by decide) rfl ?_
        refine AW.iload dX2_house_155 rfl rfl ?_
        refine AW.callV (Y := mX2_put) (n := 3) (r_X2_put (s := (s.setA 626 _).setA 626 _) (nI n) 6 _ (in3 12 8 n 6 (by omega) (by decide))) (by decide) (by decide) rfl gM q1469 q1471 qs61 q141 q1472 dX2_house_157 (by decide +kernel) rfl rfl (Nat.le_of_ble_eq_true rfl) rfl ?_
        refine AW.aload_n dX2_house_160 rfl rfl ?_
        refine AW.iload dX2_house_161 rfl rfl ?_
        refine AW.callV (Y := mX2_begin) (n := 1) (r_X2_begin (s := ((s.setA 626 _).setA 626 _).setA 626 _) n (by omega)) (by decide) (by decide) rfl gM q1473 q1475 qs62 q141 q1476 dX2_house_163 (by decide +kernel) rfl rfl (Nat.le_of_ble_eq_true rfl) rfl ?_
        refine AW.aload_n dX2_house_166 rfl rfl ?_
        refine AW.get ci2 0 (by decide) q1351 dX2_house_167 gM rfl rfl ?_
        refine AW.iconst (v := 0) dX2_house_170 (by decide) rfl ?_
        refine AW.dup2 dX2_house_171 rfl rfl rfl ?_
        refine AW.iald dX2_house_172 g626 (vp_in_iff.mpr (by decide)) (j := 0) (by decide) rfl ?_
        refine AW.iconst (v := 1) dX2_house_173 (by decide) rfl ?_
        refine AW.iadd dX2_house_174 rfl ?_
        refine AW.iast dX2_house_175 (by decide) g626 (vp_in_iff.mpr (by decide)) (j := 0) (by decide) s626 rfl ?_
        refine AW.iload dX2_house_176 rfl rfl ?_
        exact AW.iretE dX2_house_178 rfl rfl rfl (by (try have g1 := Int32.not_lt.mpr e1); (try have g1 := Int32.not_le.mp e1); (try have g2 := Int32.not_lt.mpr e2); (try have g2 := Int32.not_le.mp e2); (try have g3 := Int32.not_lt.mpr e3); (try have g3 := Int32.not_le.mp e3); simp only [setA_at, setA_setA]; rw [beginM_out (by omega), up_ne (by rw [show cI (12 + 8 * nI n + 6) = 12 + 8 * n + 6 from at3 12 8 n 6 (by omega)]; omega), up_ne (by rw [show cI (12 + 8 * nI n + 5) = 12 + 8 * n + 5 from at3 12 8 n 5 (by omega)]; omega), up_ne (by rw [show cI (12 + 8 * nI n + 4) = 12 + 8 * n + 4 from at3 12 8 n 4 (by omega)]; omega), hn0, nI_1]; unfold houseM telI; simp only [g1, g2, g3, if_true, if_false]; rw [show cI (12 + 8 * nI n + 4) = 12 + 8 * n + 4 from at3 12 8 n 4 (by omega), show cI (12 + 8 * nI n + 5) = 12 + 8 * n + 5 from at3 12 8 n 5 (by omega), show cI (12 + 8 * nI n + 6) = 12 + 8 * n + 6 from at3 12 8 n 6 (by omega)]; (try rfl))
    · refine AW.iconst (v := 0) dX2_house_118 (by decide) rfl ?_
      refine AW.goto (tgt := 125) dX2_house_119 (by decide) ?_
      refine AW.ior dX2_house_125 rfl ?_
      refine AW.iload_n dX2_house_126 rfl rfl ?_
      refine AW.if_ge (tgt := 134) dX2_house_127 (by decide) rfl (fun e3 => ?_) (fun e3 => ?_)
      · refine AW.iconst (v := 1) dX2_house_134 (by decide) rfl ?_
        refine AW.iload_n dX2_house_135 rfl rfl ?_
        refine AW.ishl dX2_house_136 rfl ?_
        refine AW.ior dX2_house_137 rfl ?_
        refine AW.callV (Y := mX2_put) (n := 3) (r_X2_put (nI n) 4 _ (in3 12 8 n 4 (by omega) (by decide))) (by decide) (by decide) rfl gM q1469 q1471 qs61 q141 q1472 dX2_house_138 (by decide +kernel) rfl rfl (Nat.le_of_ble_eq_true rfl) rfl ?_
        refine AW.aload_n dX2_house_141 rfl rfl ?_
        refine AW.iload dX2_house_142 rfl rfl ?_
        refine AW.iconst (v := 5) dX2_house_144 (by decide) rfl ?_
        refine AW.iload dX2_house_145 rfl rfl ?_
        refine AW.callV (Y := mX2_put) (n := 3) (r_X2_put (s := s.setA 626 _) (nI n) 5 _ (in3 12 8 n 5 (by omega) (by decide))) (by decide) (by decide) rfl gM q1469 q1471 qs61 q141 q1472 dX2_house_147 (by decide +kernel) rfl rfl (Nat.le_of_ble_eq_true rfl) rfl ?_
        refine AW.aload_n dX2_house_150 rfl rfl ?_
        refine AW.iload dX2_house_151 rfl rfl ?_
        refine AW.bipush (v := 6) dX2_house_153 (by decide) rfl ?_
        refine AW.iload dX2_house_155 rfl rfl ?_
        refine AW.callV (Y := mX2_put) (n := 3) (r_X2_put (s := (s.setA 626 _).setA 626 _) (nI n) 6 _ (in3 12 8 n 6 (by omega) (by decide))) (by decide) (by decide) rfl gM q1469 q1471 qs61 q141 q1472 dX2_house_157 (by decide +kernel) rfl rfl (Nat.le_of_ble_eq_true rfl) rfl ?_
        refine AW.aload_n dX2_house_160 rfl rfl ?_
        refine AW.iload dX2_house_161 rfl rfl ?_
        refine AW.callV (Y := mX2_begin) (n := 1) (r_X2_begin (s := ((s.setA 626 _).setA 626 _).setA 626 _) n (by omega)) (by decide) (by decide) rfl gM q1473 q1475 qs62 q141 q1476 dX2_house_163 (by decide +kernel) rfl rfl (Nat.le_of_ble_eq_true rfl) rfl ?_
        refine AW.aload_n dX2_house_166 rfl rfl ?_
        refine AW.get ci2 0 (by decide) q1351 dX2_house_167 gM rfl rfl ?_
        refine AW.iconst (v := 0) dX2_house_170 (by decide) rfl ?_
        refine AW.dup2 dX2_house_171 rfl rfl rfl ?_
        refine AW.iald dX2_house_172 g626 (vp_in_iff.mpr (by decide)) (j := 0) (by decide) rfl ?_
        refine AW.iconst (v := 1) dX2_house_173 (by decide) rfl ?_
        refine AW.iadd dX2_house_174 rfl ?_
        refine AW.iast dX2_house_175 (by decide) g626 (vp_in_iff.mpr (by decide)) (j := 0) (by decide) s626 rfl ?_
        refine AW.iload dX2_house_176 rfl rfl ?_
        exact AW.iretE dX2_house_178 rfl rfl rfl (by (try have g1 := Int32.not_lt.mpr e1); (try have g1 := Int32.not_le.mp e1); (try have g2 := Int32.not_lt.mpr e2); (try have g2 := Int32.not_le.mp e2); (try have g3 := Int32.not_lt.mpr e3); (try have g3 := Int32.not_le.mp e3); simp only [setA_at, setA_setA]; rw [beginM_out (by omega), up_ne (by rw [show cI (12 + 8 * nI n + 6) = 12 + 8 * n + 6 from at3 12 8 n 6 (by omega)]; omega), up_ne (by rw [show cI (12 + 8 * nI n + 5) = 12 + 8 * n + 5 from at3 12 8 n 5 (by omega)]; omega), up_ne (by rw [show cI (12 + 8 * nI n + 4) = 12 + 8 * n + 4 from at3 12 8 n 4 (by omega)]; omega), hn0, nI_1]; unfold houseM telI; simp only [g1, g2, g3, if_true, if_false]; rw [show cI (12 + 8 * nI n + 4) = 12 + 8 * n + 4 from at3 12 8 n 4 (by omega), show cI (12 + 8 * nI n + 5) = 12 + 8 * n + 5 from at3 12 8 n 5 (by omega), show cI (12 + 8 * nI n + 6) = 12 + 8 * n + 6 from at3 12 8 n 6 (by omega)]; (try rfl))
      · refine AW.iconst (v := 0) dX2_house_130 (by decide) rfl ?_
        refine AW.goto (tgt := 137) dX2_house_131 (by decide) ?_
        refine AW.ior dX2_house_137 rfl ?_
        refine AW.callV (Y := mX2_put) (n := 3) (r_X2_put (nI n) 4 _ (in3 12 8 n 4 (by omega) (by decide))) (by decide) (by decide) rfl gM q1469 q1471 qs61 q141 q1472 dX2_house_138 (by decide +kernel) rfl rfl (Nat.le_of_ble_eq_true rfl) rfl ?_
        refine AW.aload_n dX2_house_141 rfl rfl ?_
        refine AW.iload dX2_house_142 rfl rfl ?_
        refine AW.iconst (v := 5) dX2_house_144 (by decide) rfl ?_
        refine AW.iload dX2_house_145 rfl rfl ?_
        refine AW.callV (Y := mX2_put) (n := 3) (r_X2_put (s := s.setA 626 _) (nI n) 5 _ (in3 12 8 n 5 (by omega) (by decide))) (by decide) (by decide) rfl gM q1469 q1471 qs61 q141 q1472 dX2_house_147 (by decide +kernel) rfl rfl (Nat.le_of_ble_eq_true rfl) rfl ?_
        refine AW.aload_n dX2_house_150 rfl rfl ?_
        refine AW.iload dX2_house_151 rfl rfl ?_
        refine AW.bipush (v := 6) dX2_house_153 (by decide) rfl ?_
        refine AW.iload dX2_house_155 rfl rfl ?_
        refine AW.callV (Y := mX2_put) (n := 3) (r_X2_put (s := (s.setA 626 _).setA 626 _) (nI n) 6 _ (in3 12 8 n 6 (by omega) (by decide))) (by decide) (by decide) rfl gM q1469 q1471 qs61 q141 q1472 dX2_house_157 (by decide +kernel) rfl rfl (Nat.le_of_ble_eq_true rfl) rfl ?_
        refine AW.aload_n dX2_house_160 rfl rfl ?_
        refine AW.iload dX2_house_161 rfl rfl ?_
        refine AW.callV (Y := mX2_begin) (n := 1) (r_X2_begin (s := ((s.setA 626 _).setA 626 _).setA 626 _) n (by omega)) (by decide) (by decide) rfl gM q1473 q1475 qs62 q141 q1476 dX2_house_163 (by decide +kernel) rfl rfl (Nat.le_of_ble_eq_true rfl) rfl ?_
        refine AW.aload_n dX2_house_166 rfl rfl ?_
        refine AW.get ci2 0 (by decide) q1351 dX2_house_167 gM rfl rfl ?_
        refine AW.iconst (v := 0) dX2_house_170 (by decide) rfl ?_
        refine AW.dup2 dX2_house_171 rfl rfl rfl ?_
        refine AW.iald dX2_house_172 g626 (vp_in_iff.mpr (by decide)) (j := 0) (by decide) rfl ?_
        refine AW.iconst (v := 1) dX2_house_173 (by decide) rfl ?_
        refine AW.iadd dX2_house_174 rfl ?_
        refine AW.iast dX2_house_175 (by decide) g626 (vp_in_iff.mpr (by decide)) (j := 0) (by decide) s626 rfl ?_
        refine AW.iload dX2_house_176 rfl rfl ?_
        exact AW.iretE dX2_house_178 rfl rfl rfl (by (try have g1 := Int32.not_lt.mpr e1); (try have g1 := Int32.not_le.mp e1); (try have g2 := Int32.not_lt.mpr e2); (try have g2 := Int32.not_le.mp e2); (try have g3 := Int32.not_lt.mpr e3); (try have g3 := Int32.not_le.mp e3); simp only [setA_at, setA_setA]; rw [beginM_out (by omega), up_ne (by rw [show cI (12 + 8 * nI n + 6) = 12 + 8 * n + 6 from at3 12 8 n 6 (by omega)]; omega), up_ne (by rw [show cI (12 + 8 * nI n + 5) = 12 + 8 * n + 5 from at3 12 8 n 5 (by omega)]; omega), up_ne (by rw [show cI (12 + 8 * nI n + 4) = 12 + 8 * n + 4 from at3 12 8 n 4 (by omega)]; omega), hn0, nI_1]; unfold houseM telI; simp only [g1, g2, g3, if_true, if_false]; rw [show cI (12 + 8 * nI n + 4) = 12 + 8 * n + 4 from at3 12 8 n 4 (by omega), show cI (12 + 8 * nI n + 5) = 12 + 8 * n + 5 from at3 12 8 n 5 (by omega), show cI (12 + 8 * nI n + 6) = 12 + 8 * n + 6 from at3 12 8 n 6 (by omega)]; (try rfl))
theorem r_X2_house_t {s : Sg} (d1 d2 d3 pu fr : Int32) (n : Nat) (hn0 : s.A 626 0 = nI n) (hn7 : n < 7) (hb : okH (s.A 626 0) d1 d2 d3 pu fr = true) : Run 3 mX2_house [.ref 625, .int d1, .int d2, .int d3, .int pu, .int fr] (hp s) (.inl (some (.int (nI n)))) (hp (s.setA 626 (houseM (s.A 626) n d1 d2 d3 pu fr))) := by
  simp only [okH, okD, Bool.and_eq_true, Bool.not_eq_true', decide_eq_false_iff_not, Bool.and_eq_false_iff, Bool.or_eq_false_iff] at hb
  obtain ⟨⟨⟨⟨⟨⟨⟨q1, q2⟩, q3⟩, q4⟩, q5⟩, q6⟩, q7⟩, q8⟩ := hb
  refine Run.of rfl (Nat.le_of_ble_eq_true rfl) rfl ?_
  refine AW.iload_n dX2_house_0 rfl rfl ?_
  refine AW.iconst (v := (-1)) dX2_house_1 (by decide) rfl ?_
  refine AW.bipush (v := 19) dX2_house_2 (by decide) rfl ?_
  refine AW.callS (Y := mX2_isIn) (n := 3) (r_X2_isIn _ _ _) (by decide) (by decide) q1466 q1467 q141 q1468 dX2_house_4 (by decide +kernel) rfl rfl (Nat.le_of_ble_eq_true rfl) rfl ?_
  refine AW.if_eqB (tgt := 53) dX2_house_7 (by decide) rfl (fun c_ => by first | exact absurd c_ q1 | exact absurd q1 c_ | exact Bool.noConfusion (c_.symm.trans q1)) (fun _ => ?_)
  refine AW.iload_n dX2_house_10 rfl rfl ?_
  refine AW.iconst (v := (-1)) dX2_house_11 (by decide) rfl ?_
  refine AW.bipush (v := 19) dX2_house_12 (by decide) rfl ?_
  refine AW.callS (Y := mX2_isIn) (n := 3) (r_X2_isIn _ _ _) (by decide) (by decide) q1466 q1467 q141 q1468 dX2_house_14 (by decide +kernel) rfl rfl (Nat.le_of_ble_eq_true rfl) rfl ?_
  refine AW.if_eqB (tgt := 53) dX2_house_17 (by decide) rfl (fun c_ => by first | exact absurd c_ q2 | exact absurd q2 c_ | exact Bool.noConfusion (c_.symm.trans q2)) (fun _ => ?_)
  refine AW.iload_n dX2_house_20 rfl rfl ?_
  refine AW.iconst (v := (-1)) dX2_house_21 (by decide) rfl ?_
  refine AW.bipush (v := 19) dX2_house_22 (by decide) rfl ?_
  refine AW.callS (Y := mX2_isIn) (n := 3) (r_X2_isIn _ _ _) (by decide) (by decide) q1466 q1467 q141 q1468 dX2_house_24 (by decide +kernel) rfl rfl (Nat.le_of_ble_eq_true rfl) rfl ?_
  refine AW.if_eqB (tgt := 53) dX2_house_27 (by decide) rfl (fun c_ => by first | exact absurd c_ q3 | exact absurd q3 c_ | exact Bool.noConfusion (c_.symm.trans q3)) (fun _ => ?_)
  refine AW.iload_n dX2_house_30 rfl rfl ?_
  refine AW.if_lt (tgt := 44) dX2_house_31 (by decide) rfl (fun c4 => ?_) (fun c4 => ?_)
  · refine AW.iload_n dX2_house_44 rfl rfl ?_
    refine AW.if_lt (tgt := 55) dX2_house_45 (by decide) rfl (fun c7 => ?_) (fun c7 => ?_)
    · refine AW.iload dX2_house_55 rfl rfl ?_
      refine AW.iconst (v := 0) dX2_house_57 (by decide) rfl ?_
      refine AW.sipush (v := 9999) dX2_house_58 (by decide) rfl ?_
      refine AW.callS (Y := mX2_isIn) (n := 3) (r_X2_isIn _ _ _) (by decide) (by decide) q1466 q1467 q141 q1468 dX2_house_61 (by decide +kernel) rfl rfl (Nat.le_of_ble_eq_true rfl) rfl ?_
      refine AW.if_eqB (tgt := 89) dX2_house_64 (by decide) rfl (fun c_ => by first | exact absurd c_ q6 | exact absurd q6 c_ | exact Bool.noConfusion (c_.symm.trans q6)) (fun _ => ?_)
      refine AW.iload dX2_house_67 rfl rfl ?_
      refine AW.iconst (v := 0) dX2_house_69 (by decide) rfl ?_
      refine AW.bipush (v := 99) dX2_house_70 (by decide) rfl ?_
      refine AW.callS (Y := mX2_isIn) (n := 3) (r_X2_isIn _ _ _) (by decide) (by decide) q1466 q1467 q141 q1468 dX2_house_72 (by decide +kernel) rfl rfl (Nat.le_of_ble_eq_true rfl) rfl ?_
      refine AW.if_eqB (tgt := 89) dX2_house_75 (by decide) rfl (fun c_ => by first | exact absurd c_ q7 | exact absurd q7 c_ | exact Bool.noConfusion (c_.symm.trans q7)) (fun _ => ?_)
      refine AW.aload_n dX2_house_78 rfl rfl ?_
      refine AW.get ci2 0 (by decide) q1351 dX2_house_79 gM rfl rfl ?_
      refine AW.iconst (v := 0) dX2_house_82 (by decide) rfl ?_
      refine AW.iald dX2_house_83 g626 (vp_in_iff.mpr (by decide)) (j := 0) (by decide) rfl ?_
      refine AW.bipush (v := 7) dX2_house_84 (by decide) rfl ?_
      refine AW.icmp_ne (tgt := 91) dX2_house_86 (by decide) rfl (fun _ => ?_) (fun c_ => by first | exact absurd c_ q8 | exact absurd q8 c_ | exact absurd c_ (not_not_intro q8) | exact Bool.noConfusion (c_.symm.trans q8))
      exact house_tail n hn0 hn7 d1 d2 d3 pu fr
    · refine AW.iload_n dX2_house_48 rfl rfl ?_
      refine AW.iload_n dX2_house_49 rfl rfl ?_
      refine AW.icmp_ne (tgt := 55) dX2_house_50 (by decide) rfl (fun _ => ?_) (fun c_ => by first | exact absurd c_ (q5.resolve_left (fun q => q (Int32.not_lt.mp c7))) | exact absurd (q5.resolve_left (fun q => q (Int32.not_lt.mp c7))) c_ | exact absurd c_ (not_not_intro (q5.resolve_left (fun q => q (Int32.not_lt.mp c7)))) | exact Bool.noConfusion (c_.symm.trans (q5.resolve_left (fun q => q (Int32.not_lt.mp c7)))))
      refine AW.iload dX2_house_55 rfl rfl ?_
      refine AW.iconst (v := 0) dX2_house_57 (by decide) rfl ?_
      refine AW.sipush (v := 9999) dX2_house_58 (by decide) rfl ?_
      refine AW.callS (Y := mX2_isIn) (n := 3) (r_X2_isIn _ _ _) (by decide) (by decide) q1466 q1467 q141 q1468 dX2_house_61 (by decide +kernel) rfl rfl (Nat.le_of_ble_eq_true rfl) rfl ?_
      refine AW.if_eqB (tgt := 89) dX2_house_64 (by decide) rfl (fun c_ => by first | exact absurd c_ q6 | exact absurd q6 c_ | exact Bool.noConfusion (c_.symm.trans q6)) (fun _ => ?_)
      refine AW.iload dX2_house_67 rfl rfl ?_
      refine AW.iconst (v := 0) dX2_house_69 (by decide) rfl ?_
      refine AW.bipush (v := 99) dX2_house_70 (by decide) rfl ?_
      refine AW.callS (Y := mX2_isIn) (n := 3) (r_X2_isIn _ _ _) (by decide) (by decide) q1466 q1467 q141 q1468 dX2_house_72 (by decide +kernel) rfl rfl (Nat.le_of_ble_eq_true rfl) rfl ?_
      refine AW.if_eqB (tgt := 89) dX2_house_75 (by decide) rfl (fun c_ => by first | exact absurd c_ q7 | exact absurd q7 c_ | exact Bool.noConfusion (c_.symm.trans q7)) (fun _ => ?_)
      refine AW.aload_n dX2_house_78 rfl rfl ?_
      refine AW.get ci2 0 (by decide) q1351 dX2_house_79 gM rfl rfl ?_
      refine AW.iconst (v := 0) dX2_house_82 (by decide) rfl ?_
      refine AW.iald dX2_house_83 g626 (vp_in_iff.mpr (by decide)) (j := 0) (by decide) rfl ?_
      refine AW.bipush (v := 7) dX2_house_84 (by decide) rfl ?_
      refine AW.icmp_ne (tgt := 91) dX2_house_86 (by decide) rfl (fun _ => ?_) (fun c_ => by first | exact absurd c_ q8 | exact absurd q8 c_ | exact absurd c_ (not_not_intro q8) | exact Bool.noConfusion (c_.symm.trans q8))
      exact house_tail n hn0 hn7 d1 d2 d3 pu fr
  · refine AW.iload_n dX2_house_34 rfl rfl ?_
    refine AW.iload_n dX2_house_35 rfl rfl ?_
    refine AW.icmp_eq (tgt := 53) dX2_house_36 (by decide) rfl (fun c_ => by first | exact absurd c_ (q4.resolve_left (fun q => q (Int32.not_lt.mp c4))).1 | exact absurd (q4.resolve_left (fun q => q (Int32.not_lt.mp c4))).1 c_ | exact Bool.noConfusion (c_.symm.trans (q4.resolve_left (fun q => q (Int32.not_lt.mp c4))).1)) (fun _ => ?_)
    refine AW.iload_n dX2_house_39 rfl rfl ?_
    refine AW.iload_n dX2_house_40 rfl rfl ?_
    refine AW.icmp_eq (tgt := 53) dX2_house_41 (by decide) rfl (fun c_ => by first | exact absurd c_ (q4.resolve_left (fun q => q (Int32.not_lt.mp c4))).2 | exact absurd (q4.resolve_left (fun q => q (Int32.not_lt.mp c4))).2 c_ | exact Bool.noConfusion (c_.symm.trans (q4.resolve_left (fun q => q (Int32.not_lt.mp c4))).2)) (fun _ => ?_)
    refine AW.iload_n dX2_house_44 rfl rfl ?_
    refine AW.if_lt (tgt := 55) dX2_house_45 (by decide) rfl (fun c7 => ?_) (fun c7 => ?_)
    · refine AW.iload dX2_house_55 rfl rfl ?_
      refine AW.iconst (v := 0) dX2_house_57 (by decide) rfl ?_
      refine AW.sipush (v := 9999) dX2_house_58 (by decide) rfl ?_
      refine AW.callS (Y := mX2_isIn) (n := 3) (r_X2_isIn _ _ _) (by decide) (by decide) q1466 q1467 q141 q1468 dX2_house_61 (by decide +kernel) rfl rfl (Nat.le_of_ble_eq_true rfl) rfl ?_
      refine AW.if_eqB (tgt := 89) dX2_house_64 (by decide) rfl (fun c_ => by first | exact absurd c_ q6 | exact absurd q6 c_ | exact Bool.noConfusion (c_.symm.trans q6)) (fun _ => ?_)
      refine AW.iload dX2_house_67 rfl rfl ?_
      refine AW.iconst (v := 0) dX2_house_69 (by decide) rfl ?_
      refine AW.bipush (v := 99) dX2_house_70 (by decide) rfl ?_
      refine AW.callS (Y := mX2_isIn) (n := 3) (r_X2_isIn _ _ _) (by decide) (by decide) q1466 q1467 q141 q1468 dX2_house_72 (by decide +kernel) rfl rfl (Nat.le_of_ble_eq_true rfl) rfl ?_
      refine AW.if_eqB (tgt := 89) dX2_house_75 (by decide) rfl (fun c_ => by first | exact absurd c_ q7 | exact absurd q7 c_ | exact Bool.noConfusion (c_.symm.trans q7)) (fun _ => ?_)
      refine AW.aload_n dX2_house_78 rfl rfl ?_
      refine AW.get ci2 0 (by decide) q1351 dX2_house_79 gM rfl rfl ?_
      refine AW.iconst (v := 0) dX2_house_82 (by decide) rfl ?_
      refine AW.iald dX2_house_83 g626 (vp_in_iff.mpr (by decide)) (j := 0) (by decide) rfl ?_
      refine AW.bipush (v := 7) dX2_house_84 (by decide) rfl ?_
      refine AW.icmp_ne (tgt := 91) dX2_house_86 (by decide) rfl (fun _ => ?_) (fun c_ => by first | exact absurd c_ q8 | exact absurd q8 c_ | exact absurd c_ (not_not_intro q8) | exact Bool.noConfusion (c_.symm.trans q8))
      exact house_tail n hn0 hn7 d1 d2 d3 pu fr
    · refine AW.iload_n dX2_house_48 rfl rfl ?_
      refine AW.iload_n dX2_house_49 rfl rfl ?_
      refine AW.icmp_ne (tgt := 55) dX2_house_50 (by decide) rfl (fun _ => ?_) (fun c_ => by first | exact absurd c_ (q5.resolve_left (fun q => q (Int32.not_lt.mp c7))) | exact absurd (q5.resolve_left (fun q => q (Int32.not_lt.mp c7))) c_ | exact absurd c_ (not_not_intro (q5.resolve_left (fun q => q (Int32.not_lt.mp c7)))) | exact Bool.noConfusion (c_.symm.trans (q5.resolve_left (fun q => q (Int32.not_lt.mp c7)))))
      refine AW.iload dX2_house_55 rfl rfl ?_
      refine AW.iconst (v := 0) dX2_house_57 (by decide) rfl ?_
      refine AW.sipush (v := 9999) dX2_house_58 (by decide) rfl ?_
      refine AW.callS (Y := mX2_isIn) (n := 3) (r_X2_isIn _ _ _) (by decide) (by decide) q1466 q1467 q141 q1468 dX2_house_61 (by decide +kernel) rfl rfl (Nat.le_of_ble_eq_true rfl) rfl ?_
      refine AW.if_eqB (tgt := 89) dX2_house_64 (by decide) rfl (fun c_ => by first | exact absurd c_ q6 | exact absurd q6 c_ | exact Bool.noConfusion (c_.symm.trans q6)) (fun _ => ?_)
      refine AW.iload dX2_house_67 rfl rfl ?_
      refine AW.iconst (v := 0) dX2_house_69 (by decide) rfl ?_
      refine AW.bipush (v := 99) dX2_house_70 (by decide) rfl ?_
      refine AW.callS (Y := mX2_isIn) (n := 3) (r_X2_isIn _ _ _) (by decide) (by decide) q1466 q1467 q141 q1468 dX2_house_72 (by decide +kernel) rfl rfl (Nat.le_of_ble_eq_true rfl) rfl ?_
      refine AW.if_eqB (tgt := 89) dX2_house_75 (by decide) rfl (fun c_ => by first | exact absurd c_ q7 | exact absurd q7 c_ | exact Bool.noConfusion (c_.symm.trans q7)) (fun _ => ?_)
      refine AW.aload_n dX2_house_78 rfl rfl ?_
      refine AW.get ci2 0 (by decide) q1351 dX2_house_79 gM rfl rfl ?_
      refine AW.iconst (v := 0) dX2_house_82 (by decide) rfl ?_
      refine AW.iald dX2_house_83 g626 (vp_in_iff.mpr (by decide)) (j := 0) (by decide) rfl ?_
      refine AW.bipush (v := 7) dX2_house_84 (by decide) rfl ?_
      refine AW.icmp_ne (tgt := 91) dX2_house_86 (by decide) rfl (fun _ => ?_) (fun c_ => by first | exact absurd c_ q8 | exact absurd q8 c_ | exact absurd c_ (not_not_intro q8) | exact Bool.noConfusion (c_.symm.trans q8))
      exact house_tail n hn0 hn7 d1 d2 d3 pu fr
