/-! MODEL 19: the sets a house may have (printed by tools/m19.py) -/
set_option maxRecDepth 100000
section GSL
variable {s : Sg} {W O : Int32} {q : Cq}
theorem gl626 : (hp (sl s W O q)).g 626 = some (ia 2308 (s.A 626)) := by rw [g626, sl_A (by decide)]
theorem gl635 : (hp (sl s W O q)).g 635 = some (ia 20 q.2.2) := by rw [g635, sl_635]
theorem sl635 {f : Nat → Int32} : (hp (sl s W O q)).set 635 (ia 20 f) = hp (sl s W O (q.1, q.2.1, f)) := by rw [s635, sl_s635]
theorem sl25 {x : Int32} : (hp (sl s W O q)).set 625 (.inr (2, (mfl (sl s W O q)).set 25 (.int x))) = hp (sl s x O q) := by rw [sM25, sl_s25]
theorem sl26 {x : Int32} : (hp (sl s W O q)).set 625 (.inr (2, (mfl (sl s W O q)).set 26 (.int x))) = hp (sl s W x q) := by rw [sM26, sl_s26]
theorem sl27 {x : Int32} : (hp (sl s W O q)).set 625 (.inr (2, (mfl (sl s W O q)).set 27 (.int x))) = hp (sl s W O (x, q.2)) := by rw [sM27, sl_s27]
theorem sl28 {x : Int32} : (hp (sl s W O q)).set 625 (.inr (2, (mfl (sl s W O q)).set 28 (.int x))) = hp (sl s W O (q.1, x, q.2.2)) := by rw [sM28, sl_s28]
end GSL
theorem r_X2_note {s : Sg} {W O : Int32} {q : Cq} (d z : Int32) : Run 1 mX2_note [.ref 625, .int d, .int z] (hp (sl s W O q)) (.inl none) (hp (sl s (noteP (W, O) d z).1 (noteP (W, O) d z).2 q)) := by
  refine Run.of rfl (Nat.le_of_ble_eq_true rfl) rfl ?_
  refine AW.iload_n dX2_note_0 rfl rfl ?_
  refine AW.iconst (v := 1) dX2_note_1 (by decide) rfl ?_
  refine AW.icmp_ne (tgt := 20) dX2_note_2 (by decide) rfl (fun c => ?_) (fun c => ?_)
  · refine AW.aload_n dX2_note_20 rfl rfl ?_
    refine AW.dup dX2_note_21 rfl rfl ?_
    refine AW.get ci2 26 (by decide) q1377 dX2_note_22 gM rfl rfl ?_
    refine AW.iconst (v := 1) dX2_note_25 (by decide) rfl ?_
    refine AW.iload_n dX2_note_26 rfl rfl ?_
    refine AW.ishl dX2_note_27 rfl ?_
    refine AW.ior dX2_note_28 rfl ?_
    refine AW.put ci2 26 (by decide) q1377 dX2_note_29 (by decide) gM rfl (fun _ => rfl) (fun _ => rfl) (Nat.le_of_ble_eq_true rfl) sl26 rfl ?_
    have e : noteP (W, O) d z = (W, O ||| bit d) := if_neg c
    rw [e]
    exact AW.vretE dX2_note_32 rfl rfl (by rw [sl_26]; rfl)
  · refine AW.aload_n dX2_note_5 rfl rfl ?_
    refine AW.dup dX2_note_6 rfl rfl ?_
    refine AW.get ci2 25 (by decide) q1376 dX2_note_7 gM rfl rfl ?_
    refine AW.iconst (v := 1) dX2_note_10 (by decide) rfl ?_
    refine AW.iload_n dX2_note_11 rfl rfl ?_
    refine AW.ishl dX2_note_12 rfl ?_
    refine AW.ior dX2_note_13 rfl ?_
    refine AW.put ci2 25 (by decide) q1376 dX2_note_14 (by decide) gM rfl (fun _ => rfl) (fun _ => rfl) (Nat.le_of_ble_eq_true rfl) sl25 rfl ?_
    refine AW.goto (tgt := 32) dX2_note_17 (by decide) ?_
    have e : noteP (W, O) d z = (W ||| bit d, O) := if_pos c
    rw [e]
    exact AW.vretE dX2_note_32 rfl rfl (by rw [sl_25]; rfl)
theorem r_X2_count {s : Sg} {W O : Int32} {q : Cq} (x : Int32) : Run 1 mX2_count [.ref 625, .int x] (hp (sl s W O q)) (.inl none) (hp (sl s W O (cntS W O q x))) := by
  refine Run.of rfl (Nat.le_of_ble_eq_true rfl) rfl ?_
  refine AW.aload_n dX2_count_0 rfl rfl ?_
  refine AW.get ci2 25 (by decide) q1376 dX2_count_1 gM rfl rfl ?_
  refine AW.iload_n dX2_count_4 rfl rfl ?_
  refine AW.iconst (v := (-1)) dX2_count_5 (by decide) rfl ?_
  refine AW.ixor dX2_count_6 rfl ?_
  refine AW.iand dX2_count_7 rfl ?_
  refine AW.if_ne (tgt := 20) dX2_count_8 (by decide) rfl (fun c8 => ?_) (fun c8 => ?_)
  · have e : cntS W O q x = q := if_neg (by rw [sl_25] at c8; (rw [show okS W O x = false from by unfold okS; rw [decide_eq_false c8]; rfl]; decide))
    rw [e]
    exact AW.vretE dX2_count_20 rfl rfl rfl
  · refine AW.aload_n dX2_count_11 rfl rfl ?_
    refine AW.get ci2 26 (by decide) q1377 dX2_count_12 gM rfl rfl ?_
    refine AW.iload_n dX2_count_15 rfl rfl ?_
    refine AW.iand dX2_count_16 rfl ?_
    refine AW.if_eq (tgt := 21) dX2_count_17 (by decide) rfl (fun c17 => ?_) (fun c17 => ?_)
    · refine AW.aload_n dX2_count_21 rfl rfl ?_
      refine AW.dup dX2_count_22 rfl rfl ?_
      refine AW.get ci2 27 (by decide) q1378 dX2_count_23 gM rfl rfl ?_
      refine AW.iconst (v := 1) dX2_count_26 (by decide) rfl ?_
      refine AW.iadd dX2_count_27 rfl ?_
      refine AW.put ci2 27 (by decide) q1378 dX2_count_28 (by decide) gM rfl (fun _ => rfl) (fun _ => rfl) (Nat.le_of_ble_eq_true rfl) sl27 rfl ?_
      refine AW.aload_n dX2_count_31 rfl rfl ?_
      refine AW.dup dX2_count_32 rfl rfl ?_
      refine AW.get ci2 28 (by decide) q1379 dX2_count_33 gM rfl rfl ?_
      refine AW.iload_n dX2_count_36 rfl rfl ?_
      refine AW.iand dX2_count_37 rfl ?_
      refine AW.put ci2 28 (by decide) q1379 dX2_count_38 (by decide) gM rfl (fun _ => rfl) (fun _ => rfl) (Nat.le_of_ble_eq_true rfl) sl28 rfl ?_
      refine AW.iconst (v := 0) dX2_count_41 (by decide) rfl ?_
      refine AW.istore_n (i := 2) dX2_count_42 rfl rfl (Nat.le_of_ble_eq_true rfl) rfl rfl ?_
      have c9 : W &&& (x ^^^ -1) = 0 := by rw [sl_25] at c8; first | exact c8 | exact Classical.not_not.mp c8
      have c10 : O &&& x = 0 := by rw [sl_26] at c17; first | exact c17 | exact Classical.not_not.mp c17
      have e : cntS W O q x = (q.1 + 1, q.2.1 &&& x, addW q.2.2 x 20) := if_pos (by unfold okS; rw [decide_eq_true c9, decide_eq_true c10]; rfl)
      rw [e]
      refine AW.hp (h2 := (hp (sl s W O (q.1 + 1, q.2.1 &&& x, addW q.2.2 x 0)))) (by rw [addW_0, sl_27, sl_28]) ?_
      refine loopUp (P := fun k => AW 1 mX2_count (hp (sl s W O (q.1 + 1, q.2.1 &&& x, addW q.2.2 x k))) 43 [some (.ref 625), some (.int (x)), some (.int (nI k))] [] (.inl none) (hp (sl s W O (q.1 + 1, q.2.1 &&& x, addW q.2.2 x 20)))) 20 ?_ ?_ 0 (by first | exact Nat.zero_le _ | omega)
      · refine AW.iload_n dX2_count_43 rfl rfl ?_
        refine AW.bipush (v := 20) dX2_count_44 (by decide) rfl ?_
        refine AW.icmp_ge (tgt := 69) dX2_count_46 (by decide) rfl (fun _ => ?_) (fun c_ => by first | exact absurd c_ (by decide) | exact absurd (by decide) c_ | exact absurd c_ (not_not_intro (by decide)) | exact Bool.noConfusion (c_.symm.trans (by decide)))
        exact AW.vretE dX2_count_69 rfl rfl rfl
      · intro k hk ihk
        refine AW.iload_n dX2_count_43 rfl rfl ?_
        refine AW.bipush (v := 20) dX2_count_44 (by decide) rfl ?_
        refine AW.icmp_ge (tgt := 69) dX2_count_46 (by decide) rfl (fun c_ => by first | exact absurd c_ (nI_nle20' hk) | exact absurd (nI_nle20' hk) c_ | exact Bool.noConfusion (c_.symm.trans (nI_nle20' hk))) (fun _ => ?_)
        refine AW.aload_n dX2_count_49 rfl rfl ?_
        refine AW.get ci2 29 (by decide) q1380 dX2_count_50 gM rfl rfl ?_
        refine AW.iload_n dX2_count_53 rfl rfl ?_
        refine AW.dup2 dX2_count_54 rfl rfl rfl ?_
        refine AW.iald dX2_count_55 gl635 (in0 k (by omega) (by decide)) (j := k) (cI_nI (by omega)) rfl ?_
        refine AW.iload_n dX2_count_56 rfl rfl ?_
        refine AW.iload_n dX2_count_57 rfl rfl ?_
        refine AW.ishr dX2_count_58 rfl ?_
        refine AW.iconst (v := 1) dX2_count_59 (by decide) rfl ?_
        refine AW.iand dX2_count_60 rfl ?_
        refine AW.iadd dX2_count_61 rfl ?_
        refine AW.iast dX2_count_62 (by decide) gl635 (in0 k (by omega) (by decide)) (j := k) (cI_nI (by omega)) sl635 rfl ?_
        refine AW.iinc (v := 1) dX2_count_63 rfl (by decide) rfl rfl rfl ?_
        refine AW.goto (tgt := 43) dX2_count_66 (by decide) ?_
        exact AW.hp (by rw [addW_s]) (AW.ls (by rw [nI_succ k]; rfl) ihk)
    · have e : cntS W O q x = q := if_neg (by rw [sl_25] at c8; (rw [sl_26] at c17; rw [show okS W O x = false from by unfold okS; rw [decide_eq_false c17, Bool.and_false]]; decide))
      rw [e]
      exact AW.vretE dX2_count_20 rfl rfl rfl
theorem lay_1 {s : Sg} {W O : Int32} {q : Cq} (h : Int32) : AW 2 mX2_laySets (hp (sl s W O q)) 154 [some (.ref 625), some (.int (h)), some (.int (1)), none, none, none] [] (.inl none) (hp (sl s W O (sets1 W O q))) := by
  refine AW.iconst (v := 0) dX2_laySets_154 (by decide) rfl ?_
  refine AW.istore_n (i := 3) dX2_laySets_155 rfl rfl (Nat.le_of_ble_eq_true rfl) rfl rfl ?_
  refine loopUp (P := fun k => AW 2 mX2_laySets (hp (sl s W O (foldUp (fun q x => cntS W O q (bit (nI x))) q 0 k))) 156 [some (.ref 625), some (.int (h)), some (.int (1)), some (.int (nI k)), none, none] [] (.inl none) (hp (sl s W O (sets1 W O q)))) 20 ?_ ?_ 0 (by first | exact Nat.zero_le _ | omega)
  · refine AW.iload_n dX2_laySets_156 rfl rfl ?_
    refine AW.bipush (v := 20) dX2_laySets_157 (by decide) rfl ?_
    refine AW.icmp_ge (tgt := 261) dX2_laySets_159 (by decide) rfl (fun _ => ?_) (fun c_ => by first | exact absurd c_ (by decide) | exact absurd (by decide) c_ | exact absurd c_ (not_not_intro (by decide)) | exact Bool.noConfusion (c_.symm.trans (by decide)))
    exact AW.vretE dX2_laySets_261 rfl rfl rfl
  · intro k hk ihk
    refine AW.iload_n dX2_laySets_156 rfl rfl ?_
    refine AW.bipush (v := 20) dX2_laySets_157 (by decide) rfl ?_
    refine AW.icmp_ge (tgt := 261) dX2_laySets_159 (by decide) rfl (fun c_ => by first | exact absurd c_ (nI_nle20' hk) | exact absurd (nI_nle20' hk) c_ | exact Bool.noConfusion (c_.symm.trans (nI_nle20' hk))) (fun _ => ?_)
    refine AW.iload_n dX2_laySets_162 rfl rfl ?_
    refine AW.iconst (v := 1) dX2_laySets_163 (by decide) rfl ?_
    refine AW.icmp_ne (tgt := 174) dX2_laySets_164 (by decide) rfl (fun c_ => by first | exact absurd c_ (fun w => w rfl) | exact absurd (fun w => w rfl) c_ | exact Bool.noConfusion (c_.symm.trans (fun w => w rfl))) (fun _ => ?_)
    refine AW.aload_n dX2_laySets_167 rfl rfl ?_
    refine AW.iconst (v := 1) dX2_laySets_168 (by decide) rfl ?_
    refine AW.iload_n dX2_laySets_169 rfl rfl ?_
    refine AW.ishl dX2_laySets_170 rfl ?_
    refine AW.callV (Y := mX2_count) (n := 1) (r_X2_count _) (by decide) (by decide) rfl gM q1906 q1908 qs125 q141 q1909 dX2_laySets_171 (by decide +kernel) rfl rfl (Nat.le_of_ble_eq_true rfl) rfl ?_
    refine AW.iload_n dX2_laySets_174 rfl rfl ?_
    refine AW.iconst (v := 1) dX2_laySets_175 (by decide) rfl ?_
    refine AW.iadd dX2_laySets_176 rfl ?_
    refine AW.istore dX2_laySets_177 rfl (Nat.le_of_ble_eq_true rfl) rfl rfl ?_
    refine AW.iload dX2_laySets_179 rfl rfl ?_
    refine AW.bipush (v := 20) dX2_laySets_181 (by decide) rfl ?_
    refine AW.icmp_ge (tgt := 255) dX2_laySets_183 (by decide) rfl (fun c183 => ?_) (fun c183 => ?_)
    · refine AW.iinc (v := 1) dX2_laySets_255 rfl (by decide) rfl rfl rfl ?_
      refine AW.goto (tgt := 156) dX2_laySets_258 (by decide) ?_
      exact AW.fg 4 rfl (AW.ls (by rw [nI_succ k]; rfl) (AW.hp (by show hp (sl s W O (cntS W O (foldUp (fun q x => cntS W O q (bit (nI x))) q 0 k) (bit (nI k)))) = hp (sl s W O (cntS W O (foldUp (fun q x => cntS W O q (bit (nI x))) q 0 k) (bit (nI (0 + k))))); rw [Nat.zero_add]) ihk))
    · refine AW.iload_n dX2_laySets_186 rfl rfl ?_
      refine AW.iconst (v := 1) dX2_laySets_187 (by decide) rfl ?_
      refine AW.icmp_le (tgt := 255) dX2_laySets_188 (by decide) rfl (fun _ => ?_) (fun c_ => by first | exact absurd c_ (by decide) | exact absurd (by decide) c_ | exact absurd c_ (not_not_intro (by decide)) | exact Bool.noConfusion (c_.symm.trans (by decide)))
      refine AW.iinc (v := 1) dX2_laySets_255 rfl (by decide) rfl rfl rfl ?_
      refine AW.goto (tgt := 156) dX2_laySets_258 (by decide) ?_
      exact AW.fg 4 rfl (AW.ls (by rw [nI_succ k]; rfl) (AW.hp (by show hp (sl s W O (cntS W O (foldUp (fun q x => cntS W O q (bit (nI x))) q 0 k) (bit (nI k)))) = hp (sl s W O (cntS W O (foldUp (fun q x => cntS W O q (bit (nI x))) q 0 k) (bit (nI (0 + k))))); rw [Nat.zero_add]) ihk))
theorem lay_2 {s : Sg} {W O : Int32} {q : Cq} (h : Int32) : AW 2 mX2_laySets (hp (sl s W O q)) 154 [some (.ref 625), some (.int (h)), some (.int (2)), none, none, none] [] (.inl none) (hp (sl s W O (sets2 W O q))) := by
  refine AW.iconst (v := 0) dX2_laySets_154 (by decide) rfl ?_
  refine AW.istore_n (i := 3) dX2_laySets_155 rfl rfl (Nat.le_of_ble_eq_true rfl) rfl rfl ?_
  refine loopUp (P := fun k => AW 2 mX2_laySets (hp (sl s W O (foldUp (fun q x => (foldUp (fun q y => cntS W O q (bit (nI x) ||| bit (nI y))) q (x + 1) (19 - x))) q 0 k))) 156 [some (.ref 625), some (.int (h)), some (.int (2)), some (.int (nI k)), none, none] [] (.inl none) (hp (sl s W O (sets2 W O q)))) 20 ?_ ?_ 0 (by first | exact Nat.zero_le _ | omega)
  · refine AW.iload_n dX2_laySets_156 rfl rfl ?_
    refine AW.bipush (v := 20) dX2_laySets_157 (by decide) rfl ?_
    refine AW.icmp_ge (tgt := 261) dX2_laySets_159 (by decide) rfl (fun _ => ?_) (fun c_ => by first | exact absurd c_ (by decide) | exact absurd (by decide) c_ | exact absurd c_ (not_not_intro (by decide)) | exact Bool.noConfusion (c_.symm.trans (by decide)))
    exact AW.vretE dX2_laySets_261 rfl rfl rfl
  · intro k hk ihk
    refine AW.iload_n dX2_laySets_156 rfl rfl ?_
    refine AW.bipush (v := 20) dX2_laySets_157 (by decide) rfl ?_
    refine AW.icmp_ge (tgt := 261) dX2_laySets_159 (by decide) rfl (fun c_ => by first | exact absurd c_ (nI_nle20' hk) | exact absurd (nI_nle20' hk) c_ | exact Bool.noConfusion (c_.symm.trans (nI_nle20' hk))) (fun _ => ?_)
    refine AW.iload_n dX2_laySets_162 rfl rfl ?_
    refine AW.iconst (v := 1) dX2_laySets_163 (by decide) rfl ?_
    refine AW.icmp_ne (tgt := 174) dX2_laySets_164 (by decide) rfl (fun _ => ?_) (fun c_ => by first | exact absurd c_ (by decide) | exact absurd (by decide) c_ | exact absurd c_ (not_not_intro (by decide)) | exact Bool.noConfusion (c_.symm.trans (by decide)))
    refine AW.iload_n dX2_laySets_174 rfl rfl ?_
    refine AW.iconst (v := 1) dX2_laySets_175 (by decide) rfl ?_
    refine AW.iadd dX2_laySets_176 rfl ?_
    refine AW.istore dX2_laySets_177 rfl (Nat.le_of_ble_eq_true rfl) rfl rfl ?_
    refine AW.ls (ls' := [some (.ref 625), some (.int (h)), some (.int (2)), some (.int (nI k)), some (.int (nI (k + 1 + 0))), none]) (by rw [Nat.add_zero, nI_succ k]; rfl) ?_
    refine loopUp (P := fun j => AW 2 mX2_laySets (hp (sl s W O (foldUp (fun q y => cntS W O q (bit (nI k) ||| bit (nI y))) (foldUp (fun q x => (foldUp (fun q y => cntS W O q (bit (nI x) ||| bit (nI y))) q (x + 1) (19 - x))) q 0 k) (k + 1) j))) 179 [some (.ref 625), some (.int (h)), some (.int (2)), some (.int (nI k)), some (.int (nI (k + 1 + j))), none] [] (.inl none) (hp (sl s W O (sets2 W O q)))) (19 - k) ?_ ?_ 0 (by first | exact Nat.zero_le _ | omega)
    · refine AW.iload dX2_laySets_179 rfl rfl ?_
      refine AW.bipush (v := 20) dX2_laySets_181 (by decide) rfl ?_
      refine AW.icmp_ge (tgt := 255) dX2_laySets_183 (by decide) rfl (fun _ => ?_) (fun c_ => by first | exact absurd c_ (by rw [show k + 1 + (19 - k) = 20 by omega]; decide) | exact absurd (by rw [show k + 1 + (19 - k) = 20 by omega]; decide) c_ | exact absurd c_ (not_not_intro (by rw [show k + 1 + (19 - k) = 20 by omega]; decide)) | exact Bool.noConfusion (c_.symm.trans (by rw [show k + 1 + (19 - k) = 20 by omega]; decide)))
      refine AW.iinc (v := 1) dX2_laySets_255 rfl (by decide) rfl rfl rfl ?_
      refine AW.goto (tgt := 156) dX2_laySets_258 (by decide) ?_
      exact AW.fg 4 rfl (AW.fg 5 rfl (AW.ls (by rw [nI_succ k]; rfl) (AW.hp (by show hp (sl s W O (foldUp (fun q y => cntS W O q (bit (nI k) ||| bit (nI y))) (foldUp (fun q x => (foldUp (fun q y => cntS W O q (bit (nI x) ||| bit (nI y))) q (x + 1) (19 - x))) q 0 k) (k + 1) (19 - k))) = hp (sl s W O (foldUp (fun q y => cntS W O q (bit (nI (0 + k)) ||| bit (nI y))) (foldUp (fun q x => (foldUp (fun q y => cntS W O q (bit (nI x) ||| bit (nI y))) q (x + 1) (19 - x))) q 0 k) ((0 + k) + 1) (19 - (0 + k)))); rw [Nat.zero_add]) ihk)))
    · intro j hj ihj
      refine AW.iload dX2_laySets_179 rfl rfl ?_
      refine AW.bipush (v := 20) dX2_laySets_181 (by decide) rfl ?_
      refine AW.icmp_ge (tgt := 255) dX2_laySets_183 (by decide) rfl (fun c_ => by first | exact absurd c_ (nI_nle20' (by omega)) | exact absurd (nI_nle20' (by omega)) c_ | exact Bool.noConfusion (c_.symm.trans (nI_nle20' (by omega)))) (fun _ => ?_)
      refine AW.iload_n dX2_laySets_186 rfl rfl ?_
      refine AW.iconst (v := 1) dX2_laySets_187 (by decide) rfl ?_
      refine AW.icmp_le (tgt := 255) dX2_laySets_188 (by decide) rfl (fun c_ => by first | exact absurd c_ (by decide) | exact absurd (by decide) c_ | exact Bool.noConfusion (c_.symm.trans (by decide))) (fun _ => ?_)
      refine AW.iload_n dX2_laySets_191 rfl rfl ?_
      refine AW.iconst (v := 2) dX2_laySets_192 (by decide) rfl ?_
      refine AW.icmp_ne (tgt := 208) dX2_laySets_193 (by decide) rfl (fun c_ => by first | exact absurd c_ (fun w => w rfl) | exact absurd (fun w => w rfl) c_ | exact Bool.noConfusion (c_.symm.trans (fun w => w rfl))) (fun _ => ?_)
      refine AW.aload_n dX2_laySets_196 rfl rfl ?_
      refine AW.iconst (v := 1) dX2_laySets_197 (by decide) rfl ?_
      refine AW.iload_n dX2_laySets_198 rfl rfl ?_
      refine AW.ishl dX2_laySets_199 rfl ?_
      refine AW.iconst (v := 1) dX2_laySets_200 (by decide) rfl ?_
      refine AW.iload dX2_laySets_201 rfl rfl ?_
      refine AW.ishl dX2_laySets_203 rfl ?_
      refine AW.ior dX2_laySets_204 rfl ?_
      refine AW.callV (Y := mX2_count) (n := 1) (r_X2_count _) (by decide) (by decide) rfl gM q1906 q1908 qs125 q141 q1909 dX2_laySets_205 (by decide +kernel) rfl rfl (Nat.le_of_ble_eq_true rfl) rfl ?_
      refine AW.iload dX2_laySets_208 rfl rfl ?_
      refine AW.iconst (v := 1) dX2_laySets_210 (by decide) rfl ?_
      refine AW.iadd dX2_laySets_211 rfl ?_
      refine AW.istore dX2_laySets_212 rfl (Nat.le_of_ble_eq_true rfl) rfl rfl ?_
      refine AW.iload dX2_laySets_214 rfl rfl ?_
      refine AW.bipush (v := 20) dX2_laySets_216 (by decide) rfl ?_
      refine AW.icmp_ge (tgt := 249) dX2_laySets_218 (by decide) rfl (fun c218 => ?_) (fun c218 => ?_)
      · refine AW.iinc (v := 1) dX2_laySets_249 rfl (by decide) rfl rfl rfl ?_
        refine AW.goto (tgt := 179) dX2_laySets_252 (by decide) ?_
        exact AW.fg 5 rfl (AW.ls (by rw [← Nat.add_assoc, nI_succ (k + 1 + j)]; rfl) (AW.hp rfl ihj))
      · refine AW.iload_n dX2_laySets_221 rfl rfl ?_
        refine AW.iconst (v := 3) dX2_laySets_222 (by decide) rfl ?_
        refine AW.icmp_ne (tgt := 249) dX2_laySets_223 (by decide) rfl (fun _ => ?_) (fun c_ => by first | exact absurd c_ (by decide) | exact absurd (by decide) c_ | exact absurd c_ (not_not_intro (by decide)) | exact Bool.noConfusion (c_.symm.trans (by decide)))
        refine AW.iinc (v := 1) dX2_laySets_249 rfl (by decide) rfl rfl rfl ?_
        refine AW.goto (tgt := 179) dX2_laySets_252 (by decide) ?_
        exact AW.fg 5 rfl (AW.ls (by rw [← Nat.add_assoc, nI_succ (k + 1 + j)]; rfl) (AW.hp rfl ihj))
theorem lay_3 {s : Sg} {W O : Int32} {q : Cq} (h : Int32) : AW 2 mX2_laySets (hp (sl s W O q)) 154 [some (.ref 625), some (.int (h)), some (.int (3)), none, none, none] [] (.inl none) (hp (sl s W O (sets3 W O q))) := by
  refine AW.iconst (v := 0) dX2_laySets_154 (by decide) rfl ?_
  refine AW.istore_n (i := 3) dX2_laySets_155 rfl rfl (Nat.le_of_ble_eq_true rfl) rfl rfl ?_
  refine loopUp (P := fun k => AW 2 mX2_laySets (hp (sl s W O (foldUp (fun q x => (foldUp (fun q y => (foldUp (fun q u => cntS W O q (bit (nI x) ||| bit (nI y) ||| bit (nI u))) q (y + 1) (19 - y))) q (x + 1) (19 - x))) q 0 k))) 156 [some (.ref 625), some (.int (h)), some (.int (3)), some (.int (nI k)), none, none] [] (.inl none) (hp (sl s W O (sets3 W O q)))) 20 ?_ ?_ 0 (by first | exact Nat.zero_le _ | omega)
  · refine AW.iload_n dX2_laySets_156 rfl rfl ?_
    refine AW.bipush (v := 20) dX2_laySets_157 (by decide) rfl ?_
    refine AW.icmp_ge (tgt := 261) dX2_laySets_159 (by decide) rfl (fun _ => ?_) (fun c_ => by first | exact absurd c_ (by decide) | exact absurd (by decide) c_ | exact absurd c_ (not_not_intro (by decide)) | exact Bool.noConfusion (c_.symm.trans (by decide)))
    exact AW.vretE dX2_laySets_261 rfl rfl rfl
  · intro k hk ihk
    refine AW.iload_n dX2_laySets_156 rfl rfl ?_
    refine AW.bipush (v := 20) dX2_laySets_157 (by decide) rfl ?_
    refine AW.icmp_ge (tgt := 261) dX2_laySets_159 (by decide) rfl (fun c_ => by first | exact absurd c_ (nI_nle20' hk) | exact absurd (nI_nle20' hk) c_ | exact Bool.noConfusion (c_.symm.trans (nI_nle20' hk))) (fun _ => ?_)
    refine AW.iload_n dX2_laySets_162 rfl rfl ?_
    refine AW.iconst (v := 1) dX2_laySets_163 (by decide) rfl ?_
    refine AW.icmp_ne (tgt := 174) dX2_laySets_164 (by decide) rfl (fun _ => ?_) (fun c_ => by first | exact absurd c_ (by decide) | exact absurd (by decide) c_ | exact absurd c_ (not_not_intro (by decide)) | exact Bool.noConfusion (c_.symm.trans (by decide)))
    refine AW.iload_n dX2_laySets_174 rfl rfl ?_
    refine AW.iconst (v := 1) dX2_laySets_175 (by decide) rfl ?_
    refine AW.iadd dX2_laySets_176 rfl ?_
    refine AW.istore dX2_laySets_177 rfl (Nat.le_of_ble_eq_true rfl) rfl rfl ?_
    refine AW.ls (ls' := [some (.ref 625), some (.int (h)), some (.int (3)), some (.int (nI k)), some (.int (nI (k + 1 + 0))), none]) (by rw [Nat.add_zero, nI_succ k]; rfl) ?_
    refine loopUp (P := fun j => AW 2 mX2_laySets (hp (sl s W O (foldUp (fun q y => (foldUp (fun q u => cntS W O q (bit (nI k) ||| bit (nI y) ||| bit (nI u))) q (y + 1) (19 - y))) (foldUp (fun q x => (foldUp (fun q y => (foldUp (fun q u => cntS W O q (bit (nI x) ||| bit (nI y) ||| bit (nI u))) q (y + 1) (19 - y))) q (x + 1) (19 - x))) q 0 k) (k + 1) j))) 179 [some (.ref 625), some (.int (h)), some (.int (3)), some (.int (nI k)), some (.int (nI (k + 1 + j))), none] [] (.inl none) (hp (sl s W O (sets3 W O q)))) (19 - k) ?_ ?_ 0 (by first | exact Nat.zero_le _ | omega)
    · refine AW.iload dX2_laySets_179 rfl rfl ?_
      refine AW.bipush (v := 20) dX2_laySets_181 (by decide) rfl ?_
      refine AW.icmp_ge (tgt := 255) dX2_laySets_183 (by decide) rfl (fun _ => ?_) (fun c_ => by first | exact absurd c_ (by rw [show k + 1 + (19 - k) = 20 by omega]; decide) | exact absurd (by rw [show k + 1 + (19 - k) = 20 by omega]; decide) c_ | exact absurd c_ (not_not_intro (by rw [show k + 1 + (19 - k) = 20 by omega]; decide)) | exact Bool.noConfusion (c_.symm.trans (by rw [show k + 1 + (19 - k) = 20 by omega]; decide)))
      refine AW.iinc (v := 1) dX2_laySets_255 rfl (by decide) rfl rfl rfl ?_
      refine AW.goto (tgt := 156) dX2_laySets_258 (by decide) ?_
      exact AW.fg 4 rfl (AW.fg 5 rfl (AW.ls (by rw [nI_succ k]; rfl) (AW.hp (by show hp (sl s W O (foldUp (fun q y => (foldUp (fun q u => cntS W O q (bit (nI k) ||| bit (nI y) ||| bit (nI u))) q (y + 1) (19 - y))) (foldUp (fun q x => (foldUp (fun q y => (foldUp (fun q u => cntS W O q (bit (nI x) ||| bit (nI y) ||| bit (nI u))) q (y + 1) (19 - y))) q (x + 1) (19 - x))) q 0 k) (k + 1) (19 - k))) = hp (sl s W O (foldUp (fun q y => (foldUp (fun q u => cntS W O q (bit (nI (0 + k)) ||| bit (nI y) ||| bit (nI u))) q (y + 1) (19 - y))) (foldUp (fun q x => (foldUp (fun q y => (foldUp (fun q u => cntS W O q (bit (nI x) ||| bit (nI y) ||| bit (nI u))) q (y + 1) (19 - y))) q (x + 1) (19 - x))) q 0 k) ((0 + k) + 1) (19 - (0 + k)))); rw [Nat.zero_add]) ihk)))
    · intro j hj ihj
      refine AW.iload dX2_laySets_179 rfl rfl ?_
      refine AW.bipush (v := 20) dX2_laySets_181 (by decide) rfl ?_
      refine AW.icmp_ge (tgt := 255) dX2_laySets_183 (by decide) rfl (fun c_ => by first | exact absurd c_ (nI_nle20' (by omega)) | exact absurd (nI_nle20' (by omega)) c_ | exact Bool.noConfusion (c_.symm.trans (nI_nle20' (by omega)))) (fun _ => ?_)
      refine AW.iload_n dX2_laySets_186 rfl rfl ?_
      refine AW.iconst (v := 1) dX2_laySets_187 (by decide) rfl ?_
      refine AW.icmp_le (tgt := 255) dX2_laySets_188 (by decide) rfl (fun c_ => by first | exact absurd c_ (by decide) | exact absurd (by decide) c_ | exact Bool.noConfusion (c_.symm.trans (by decide))) (fun _ => ?_)
      refine AW.iload_n dX2_laySets_191 rfl rfl ?_
      refine AW.iconst (v := 2) dX2_laySets_192 (by decide) rfl ?_
      refine AW.icmp_ne (tgt := 208) dX2_laySets_193 (by decide) rfl (fun _ => ?_) (fun c_ => by first | exact absurd c_ (by decide) | exact absurd (by decide) c_ | exact absurd c_ (not_not_intro (by decide)) | exact Bool.noConfusion (c_.symm.trans (by decide)))
      refine AW.iload dX2_laySets_208 rfl rfl ?_
      refine AW.iconst (v := 1) dX2_laySets_210 (by decide) rfl ?_
      refine AW.iadd dX2_laySets_211 rfl ?_
      refine AW.istore dX2_laySets_212 rfl (Nat.le_of_ble_eq_true rfl) rfl rfl ?_
      refine AW.ls (ls' := [some (.ref 625), some (.int (h)), some (.int (3)), some (.int (nI k)), some (.int (nI (k + 1 + j))), some (.int (nI (k + 1 + j + 1 + 0)))]) (by rw [Nat.add_zero, nI_succ (k + 1 + j)]; rfl) ?_
      refine loopUp (P := fun i => AW 2 mX2_laySets (hp (sl s W O (foldUp (fun q u => cntS W O q (bit (nI k) ||| bit (nI (k + 1 + j)) ||| bit (nI u))) (foldUp (fun q y => (foldUp (fun q u => cntS W O q (bit (nI k) ||| bit (nI y) ||| bit (nI u))) q (y + 1) (19 - y))) (foldUp (fun q x => (foldUp (fun q y => (foldUp (fun q u => cntS W O q (bit (nI x) ||| bit (nI y) ||| bit (nI u))) q (y + 1) (19 - y))) q (x + 1) (19 - x))) q 0 k) (k + 1) j) ((k + 1 + j) + 1) i))) 214 [some (.ref 625), some (.int (h)), some (.int (3)), some (.int (nI k)), some (.int (nI (k + 1 + j))), some (.int (nI (k + 1 + j + 1 + i)))] [] (.inl none) (hp (sl s W O (sets3 W O q)))) (19 - (k + 1 + j)) ?_ ?_ 0 (by first | exact Nat.zero_le _ | omega)
      · refine AW.iload dX2_laySets_214 rfl rfl ?_
        refine AW.bipush (v := 20) dX2_laySets_216 (by decide) rfl ?_
        refine AW.icmp_ge (tgt := 249) dX2_laySets_218 (by decide) rfl (fun _ => ?_) (fun c_ => by first | exact absurd c_ (by rw [show k + 1 + j + 1 + (19 - (k + 1 + j)) = 20 by omega]; decide) | exact absurd (by rw [show k + 1 + j + 1 + (19 - (k + 1 + j)) = 20 by omega]; decide) c_ | exact absurd c_ (not_not_intro (by rw [show k + 1 + j + 1 + (19 - (k + 1 + j)) = 20 by omega]; decide)) | exact Bool.noConfusion (c_.symm.trans (by rw [show k + 1 + j + 1 + (19 - (k + 1 + j)) = 20 by omega]; decide)))
        refine AW.iinc (v := 1) dX2_laySets_249 rfl (by decide) rfl rfl rfl ?_
        refine AW.goto (tgt := 179) dX2_laySets_252 (by decide) ?_
        exact AW.fg 5 rfl (AW.ls (by rw [← Nat.add_assoc, nI_succ (k + 1 + j)]; rfl) (AW.hp rfl ihj))
      · intro i hi ihi
        refine AW.iload dX2_laySets_214 rfl rfl ?_
        refine AW.bipush (v := 20) dX2_laySets_216 (by decide) rfl ?_
        refine AW.icmp_ge (tgt := 249) dX2_laySets_218 (by decide) rfl (fun c_ => by first | exact absurd c_ (nI_nle20' (by omega)) | exact absurd (nI_nle20' (by omega)) c_ | exact Bool.noConfusion (c_.symm.trans (nI_nle20' (by omega)))) (fun _ => ?_)
        refine AW.iload_n dX2_laySets_221 rfl rfl ?_
        refine AW.iconst (v := 3) dX2_laySets_222 (by decide) rfl ?_
        refine AW.icmp_ne (tgt := 249) dX2_laySets_223 (by decide) rfl (fun c_ => by first | exact absurd c_ (fun w => w rfl) | exact absurd (fun w => w rfl) c_ | exact Bool.noConfusion (c_.symm.trans (fun w => w rfl))) (fun _ => ?_)
        refine AW.aload_n dX2_laySets_226 rfl rfl ?_
        refine AW.iconst (v := 1) dX2_laySets_227 (by decide) rfl ?_
        refine AW.iload_n dX2_laySets_228 rfl rfl ?_
        refine AW.ishl dX2_laySets_229 rfl ?_
        refine AW.iconst (v := 1) dX2_laySets_230 (by decide) rfl ?_
        refine AW.iload dX2_laySets_231 rfl rfl ?_
        refine AW.ishl dX2_laySets_233 rfl ?_
        refine AW.ior dX2_laySets_234 rfl ?_
        refine AW.iconst (v := 1) dX2_laySets_235 (by decide) rfl ?_
        refine AW.iload dX2_laySets_236 rfl rfl ?_
        refine AW.ishl dX2_laySets_238 rfl ?_
        refine AW.ior dX2_laySets_239 rfl ?_
        refine AW.callV (Y := mX2_count) (n := 1) (r_X2_count _) (by decide) (by decide) rfl gM q1906 q1908 qs125 q141 q1909 dX2_laySets_240 (by decide +kernel) rfl rfl (Nat.le_of_ble_eq_true rfl) rfl ?_
        refine AW.iinc (v := 1) dX2_laySets_243 rfl (by decide) rfl rfl rfl ?_
        refine AW.goto (tgt := 214) dX2_laySets_246 (by decide) ?_
        exact AW.ls (by rw [← Nat.add_assoc, nI_succ (k + 1 + j + 1 + i)]; rfl) (AW.hp rfl ihi)
