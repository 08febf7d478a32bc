/-! SYSTEM 12: what a text is (objects that answer as functions), names, what a house earns (printed by tools/x12.py) -/
set_option maxRecDepth 100000
/-- an object of the heap that answers as a function of the names, whatever else the heap holds outside of its cells lo .. hi-1 -/
def FnO (x : MethodName) (lo hi : Nat) (b : AH) (d a : Nat) (G : (Nat → Int32) → Value) : Prop := 640 ≤ a ∧ (640 ≤ lo ∧ lo ≤ a ∧ a < hi ∧ hi ≤ 512 + b.n) ∧ ∃ (ci : Nat) (fs : List Value) (rC : vw_C) (Y : Mt), clL[ci]? = some rC ∧ b.g a = some (.inr (ci, fs)) ∧ (rC.1, x, Y.1) ∈ fwL ∧ Cond.instanceMethod Y.1 ∈ lw_all ∧ Cond.selects rC.1 x Y.1 ∈ lw_all ∧ Cond.initialized Y.1.cls ∈ lw_all ∧ Cond.code Y.1 Y.2.1 Y.2.2.1 Y.2.2.2 ∈ lw_all ∧ Y.2.2.1 ≤ 181 ∧ (Cond.castable rC.1 x.cls ∈ lw_tbl ∧ Cond.castable rC.1 "java/lang/Object" ∈ lw_tbl) ∧ ∀ (dd : Nat) (s : Sg), d ≤ dd → (∀ k, (k < 512 ∨ lo ≤ k ∧ k < hi) → s.b.g k = b.g k) → Run dd Y [.ref a, .ref 620] (hp s) (.inl (some (G (s.A 620)))) (hp s)
def SumO (lo hi : Nat) (b : AH) (d a : Nat) (F : SumF) : Prop := FnO yzSum lo hi b d a (fun N => .long (F N))
def AskO (lo hi : Nat) (b : AH) (d a : Nat) (F : AskF) : Prop := FnO yzAsk lo hi b d a (fun N => .int (b2i (F N)))
def SlotS (b : AH) (v : Value) (f : Option SumF) : Prop := match f with
  | none => v = .null
  | some F => ∃ a lo hi, v = .ref a ∧ SumO lo hi b 60 a F
def SlotA (b : AH) (v : Value) (f : Option AskF) : Prop := match f with
  | none => v = .null
  | some F => ∃ a lo hi, v = .ref a ∧ AskO lo hi b 60 a F
/-- a text of the system and its laws -/
def LawT (b : AH) (a : Nat) (L : Lw) : Prop := (a = 0 ∨ 640 ≤ a) ∧ a < 512 + b.n ∧ ∃ e l q c dd, b.g a = some (.inr (4, [e, l, q, c, dd])) ∧ SlotS b e L.1 ∧ SlotS b l L.2.1 ∧ SlotA b q L.2.2
theorem LawT.fx {b : AH} {a : Nat} {L : Lw} (h : LawT b a L) : isFx a = false := by
  rcases h.1 with h | h
  · subst h; rfl
  · exact nfx h
def nmS (b : Nat → Int32) (v : Vw) (h day : Int32) : Nat → Int32 := up (up (up (up (up (up (up (up b 0 day) 1 (day % 20)) 2 h) 3 (v.pu h)) 4 (v.fr h)) 5 (bcI (v.sh h))) 6 (v.openOn (day % 20))) 7 (v.beside h (day % 20))
theorem gS6 {s : Sg} {N : Nat → Int32} : (hp (s.setA 620 N)).g 620 = some (ia 8 N) := (hp_gI (s := s.setA 620 N) (k := 620) rfl).trans (congrArg (fun z => some (ia 8 z)) sA_eq)
theorem sS6 {s : Sg} {N f : Nat → Int32} : (hp (s.setA 620 N)).set 620 (ia 8 f) = hp (s.setA 620 f) := (hp_sI (s := s.setA 620 N) (k := 620) rfl).trans (congrArg hp setA_setA)
def earnS (L : Lw) (v : Vw) (N : Nat → Int32) (h day : Int32) : Int32 := heldI (match L.1 with
  | none => (1 + v.beside h (day % 20)).toInt64
  | some F => F (nmS N v h day)) 0 99
def loseS (L : Lw) (v : Vw) (N : Nat → Int32) (h day : Int32) : Int32 := heldI (match L.2.1 with
  | none => 2
  | some F => F (nmS N v h day)) 0 99
def letS (L : Lw) (v : Vw) (N : Nat → Int32) (h day : Int32) : Bool := match L.2.2 with
  | none => decide (v.fr h < 50)
  | some F => F (nmS N v h day)
theorem r_X0_names {s : Sg} {N : Nat → Int32} (hn : (vwS (s.A 514) (s.A 515)).ok) (h day : Int32) (hh : (vwS (s.A 514) (s.A 515)).hou h = true) : Run 5 mX0_names [.ref 512, .ref 515, .int h, .int day] (hp (s.setA 620 N)) (.inl none) (hp (s.setA 620 (nmS N (vwS (s.A 514) (s.A 515)) h day))) := by
  refine Run.of rfl (Nat.le_of_ble_eq_true rfl) rfl ?_
  refine AW.iload_n dX0_names_0 rfl rfl ?_
  refine AW.bipush (v := 20) dX0_names_1 (by decide) rfl ?_
  refine AW.irem dX0_names_3 (by decide) rfl ?_
  refine AW.istore dX0_names_4 rfl (Nat.le_of_ble_eq_true rfl) rfl rfl ?_
  refine AW.aload_n dX0_names_6 rfl rfl ?_
  refine AW.get ci0 6 (by decide) q235 dX0_names_7 gX rfl rfl ?_
  refine AW.iconst (v := 0) dX0_names_10 (by decide) rfl ?_
  refine AW.iload_n dX0_names_11 rfl rfl ?_
  refine AW.iast dX0_names_12 (by decide) gS6 (vp_in_iff.mpr (by decide)) (j := 0) (by decide) sS6 rfl ?_
  refine AW.aload_n dX0_names_13 rfl rfl ?_
  refine AW.get ci0 6 (by decide) q235 dX0_names_14 gX rfl rfl ?_
  refine AW.iconst (v := 1) dX0_names_17 (by decide) rfl ?_
  refine AW.iload dX0_names_18 rfl rfl ?_
  refine AW.iast dX0_names_20 (by decide) gS6 (vp_in_iff.mpr (by decide)) (j := 1) (by decide) sS6 rfl ?_
  refine AW.aload_n dX0_names_21 rfl rfl ?_
  refine AW.get ci0 6 (by decide) q235 dX0_names_22 gX rfl rfl ?_
  refine AW.iconst (v := 2) dX0_names_25 (by decide) rfl ?_
  refine AW.iload_n dX0_names_26 rfl rfl ?_
  refine AW.iast dX0_names_27 (by decide) gS6 (vp_in_iff.mpr (by decide)) (j := 2) (by decide) sS6 rfl ?_
  refine AW.aload_n dX0_names_28 rfl rfl ?_
  refine AW.get ci0 6 (by decide) q235 dX0_names_29 gX rfl rfl ?_
  refine AW.iconst (v := 3) dX0_names_32 (by decide) rfl ?_
  refine AW.aload_n dX0_names_33 rfl rfl ?_
  refine AW.bipush (v := 10) dX0_names_34 (by decide) rfl ?_
  refine AW.iload_n dX0_names_36 rfl rfl ?_
  refine AW.iadd dX0_names_37 rfl ?_
  refine AW.iald dX0_names_38 g515 (in_row (v := (vwS (s.A 514) (s.A 515))) hn hh (by decide) (by decide)) rfl rfl ?_
  refine AW.iast dX0_names_39 (by decide) gS6 (vp_in_iff.mpr (by decide)) (j := 3) (by decide) sS6 rfl ?_
  refine AW.aload_n dX0_names_40 rfl rfl ?_
  refine AW.get ci0 6 (by decide) q235 dX0_names_41 gX rfl rfl ?_
  refine AW.iconst (v := 4) dX0_names_44 (by decide) rfl ?_
  refine AW.aload_n dX0_names_45 rfl rfl ?_
  refine AW.bipush (v := 17) dX0_names_46 (by decide) rfl ?_
  refine AW.iload_n dX0_names_48 rfl rfl ?_
  refine AW.iadd dX0_names_49 rfl ?_
  refine AW.iald dX0_names_50 g515 (in_row (v := (vwS (s.A 514) (s.A 515))) hn hh (by decide) (by decide)) rfl rfl ?_
  refine AW.iast dX0_names_51 (by decide) gS6 (vp_in_iff.mpr (by decide)) (j := 4) (by decide) sS6 rfl ?_
  refine AW.aload_n dX0_names_52 rfl rfl ?_
  refine AW.get ci0 6 (by decide) q235 dX0_names_53 gX rfl rfl ?_
  refine AW.iconst (v := 5) dX0_names_56 (by decide) rfl ?_
  refine AW.aload_n dX0_names_57 rfl rfl ?_
  refine AW.iconst (v := 3) dX0_names_58 (by decide) rfl ?_
  refine AW.iload_n dX0_names_59 rfl rfl ?_
  refine AW.iadd dX0_names_60 rfl ?_
  refine AW.iald dX0_names_61 g515 (in_row (v := (vwS (s.A 514) (s.A 515))) hn hh (by decide) (by decide)) rfl rfl ?_
  refine AW.callS (Y := mJ12_bitCount) (n := 1) (r_J12_bitCount _) (by decide) (by decide) q881 q882 q162 q883 dX0_names_62 (by decide +kernel) rfl rfl (Nat.le_of_ble_eq_true rfl) rfl ?_
  refine AW.iast dX0_names_65 (by decide) gS6 (vp_in_iff.mpr (by decide)) (j := 5) (by decide) sS6 rfl ?_
  refine AW.aload_n dX0_names_66 rfl rfl ?_
  refine AW.get ci0 6 (by decide) q235 dX0_names_67 gX rfl rfl ?_
  refine AW.bipush (v := 6) dX0_names_70 (by decide) rfl ?_
  refine AW.aload_n dX0_names_72 rfl rfl ?_
  refine AW.aload_n dX0_names_73 rfl rfl ?_
  refine AW.iload dX0_names_74 rfl rfl ?_
  refine AW.callV (Y := mX0_openOn) (n := 2) (r_X0_openOn (s := s.setA 620 _) hn _) (by decide) (by decide) rfl gX q887 q889 qs28 q138 q890 dX0_names_76 (by decide +kernel) rfl rfl (Nat.le_of_ble_eq_true rfl) rfl ?_
  refine AW.iast dX0_names_79 (by decide) gS6 (vp_in_iff.mpr (by decide)) (j := 6) (by decide) sS6 rfl ?_
  refine AW.aload_n dX0_names_80 rfl rfl ?_
  refine AW.get ci0 6 (by decide) q235 dX0_names_81 gX rfl rfl ?_
  refine AW.bipush (v := 7) dX0_names_84 (by decide) rfl ?_
  refine AW.aload_n dX0_names_86 rfl rfl ?_
  refine AW.aload_n dX0_names_87 rfl rfl ?_
  refine AW.iload_n dX0_names_88 rfl rfl ?_
  refine AW.iload dX0_names_89 rfl rfl ?_
  refine AW.callV (Y := mX0_besideOf) (n := 3) (r_X0_besideOf (s := s.setA 620 _) hn _ _) (by decide) (by decide) rfl gX q899 q901 qs31 q138 q902 dX0_names_91 (by decide +kernel) rfl rfl (Nat.le_of_ble_eq_true rfl) rfl ?_
  refine AW.iast dX0_names_94 (by decide) gS6 (vp_in_iff.mpr (by decide)) (j := 7) (by decide) sS6 rfl ?_
  have e1 := vwS_sh hh
  have e2 := vwS_pu hh
  have e3 := vwS_fr hh
  exact AW.vretE dX0_names_95 rfl rfl (by unfold nmS; rw [e1, e2, e3]; rfl)
theorem r_X0_earnsBy {s : Sg} {N : Nat → Int32} (hn : (vwS (s.A 514) (s.A 515)).ok) {a : Nat} {L : Lw} (hL : LawT s.b a L) (h day : Int32) (hh : (vwS (s.A 514) (s.A 515)).hou h = true) : Run 62 mX0_earnsBy [.ref 512, .ref a, .ref 515, .int h, .int day] (hp (s.setA 620 N)) (.inl (some (.int (earnS L (vwS (s.A 514) (s.A 515)) N h day)))) (hp (s.setA 620 (nmS N (vwS (s.A 514) (s.A 515)) h day))) := by
  have hfx := hL.fx
  obtain ⟨-, -, e, l, q, c, dd, hg0, he, hl, hq⟩ := hL
  have hg : (hp (s.setA 620 (nmS N (vwS (s.A 514) (s.A 515)) h day))).g a = some (.inr (4, [e, l, q, c, dd])) := (hp_gb hfx).trans hg0
  obtain ⟨L1, L2, L3⟩ := L
  cases L1 with
  | none =>
    have e0 : e = .null := he
    subst e0
    refine Run.of rfl (Nat.le_of_ble_eq_true rfl) rfl ?_
    refine AW.aload_n dX0_earnsBy_0 rfl rfl ?_
    refine AW.aload_n dX0_earnsBy_1 rfl rfl ?_
    refine AW.iload_n dX0_earnsBy_2 rfl rfl ?_
    refine AW.iload dX0_earnsBy_3 rfl rfl ?_
    refine AW.callV (Y := mX0_names) (n := 3) (r_X0_names hn h day hh) (by decide) (by decide) rfl gX q877 q879 qs27 q138 q880 dX0_earnsBy_5 (by decide +kernel) rfl rfl (Nat.le_of_ble_eq_true rfl) rfl ?_
    refine AW.aload_n dX0_earnsBy_8 rfl rfl ?_
    refine AW.getN ci4 0 (by decide) q366 dX0_earnsBy_9 hg rfl rfl ?_
    refine AW.ifnonnullN dX0_earnsBy_12 rfl ?_
    refine AW.iconst (v := 1) dX0_earnsBy_15 (by decide) rfl ?_
    refine AW.aload_n dX0_earnsBy_16 rfl rfl ?_
    refine AW.get ci0 6 (by decide) q235 dX0_earnsBy_17 gX rfl rfl ?_
    refine AW.bipush (v := 7) dX0_earnsBy_20 (by decide) rfl ?_
    refine AW.iald dX0_earnsBy_22 gS6 (vp_in_iff.mpr (by decide)) (j := 7) (by decide) rfl ?_
    refine AW.iadd dX0_earnsBy_23 rfl ?_
    refine AW.i2l dX0_earnsBy_24 rfl ?_
    refine AW.goto (tgt := 41) dX0_earnsBy_25 (by decide) ?_
    refine AW.iconst (v := 0) dX0_earnsBy_41 (by decide) rfl ?_
    refine AW.bipush (v := 99) dX0_earnsBy_42 (by decide) rfl ?_
    refine AW.callS (Y := mX0_held) (n := 3) (r_X0_held _ _ _) (by decide) (by decide) q965 q966 q138 q967 dX0_earnsBy_44 (by decide +kernel) rfl rfl (Nat.le_of_ble_eq_true rfl) rfl ?_
    exact AW.iretE dX0_earnsBy_47 rfl rfl rfl rfl
  | some F =>
    obtain ⟨x, lo, hi, e0, x1, x2, ci, fs, rC, Y, y1, y2, y3, y4, y5, y6, y7, y8, -, y9⟩ := he
    subst e0
    have gx : (hp (s.setA 620 (nmS N (vwS (s.A 514) (s.A 515)) h day))).g x = some (.inr (ci, fs)) := (hp_gb (nfx x1)).trans y2
    refine Run.of rfl (Nat.le_of_ble_eq_true rfl) rfl ?_
    refine AW.aload_n dX0_earnsBy_0 rfl rfl ?_
    refine AW.aload_n dX0_earnsBy_1 rfl rfl ?_
    refine AW.iload_n dX0_earnsBy_2 rfl rfl ?_
    refine AW.iload dX0_earnsBy_3 rfl rfl ?_
    refine AW.callV (Y := mX0_names) (n := 3) (r_X0_names hn h day hh) (by decide) (by decide) rfl gX q877 q879 qs27 q138 q880 dX0_earnsBy_5 (by decide +kernel) rfl rfl (Nat.le_of_ble_eq_true rfl) rfl ?_
    refine AW.aload_n dX0_earnsBy_8 rfl rfl ?_
    refine AW.getN ci4 0 (by decide) q366 dX0_earnsBy_9 hg rfl rfl ?_
    refine AW.ifnonnull (tgt := 28) dX0_earnsBy_12 (by decide) ?_
    refine AW.aload_n dX0_earnsBy_28 rfl rfl ?_
    refine AW.getN ci4 0 (by decide) q366 dX0_earnsBy_29 hg rfl rfl ?_
    refine AW.aload_n dX0_earnsBy_32 rfl rfl ?_
    refine AW.get ci0 6 (by decide) q235 dX0_earnsBy_33 gX rfl rfl ?_
    refine AW.callF (Y := Y) (x := yzSum) (n := 1) (y9 60 (s.setA 620 (nmS N (vwS (s.A 514) (s.A 515)) h day)) (Nat.le_refl _) (fun _ _ => rfl)) (by decide) y8 y1 gx y3 q905 y4 y5 y6 y7 dX0_earnsBy_36 (by decide +kernel) rfl rfl (Nat.le_of_ble_eq_true rfl) rfl ?_
    refine AW.iconst (v := 0) dX0_earnsBy_41 (by decide) rfl ?_
    refine AW.bipush (v := 99) dX0_earnsBy_42 (by decide) rfl ?_
    refine AW.callS (Y := mX0_held) (n := 3) (r_X0_held _ _ _) (by decide) (by decide) q965 q966 q138 q967 dX0_earnsBy_44 (by decide +kernel) rfl rfl (Nat.le_of_ble_eq_true rfl) rfl ?_
    exact AW.iretE dX0_earnsBy_47 rfl rfl rfl rfl
theorem r_X0_losesBy {s : Sg} {N : Nat → Int32} (hn : (vwS (s.A 514) (s.A 515)).ok) {a : Nat} {L : Lw} (hL : LawT s.b a L) (h day : Int32) (hh : (vwS (s.A 514) (s.A 515)).hou h = true) : Run 62 mX0_losesBy [.ref 512, .ref a, .ref 515, .int h, .int day] (hp (s.setA 620 N)) (.inl (some (.int (loseS L (vwS (s.A 514) (s.A 515)) N h day)))) (hp (s.setA 620 (nmS N (vwS (s.A 514) (s.A 515)) h day))) := by
  have hfx := hL.fx
  obtain ⟨-, -, e, l, q, c, dd, hg0, he, hl, hq⟩ := hL
  have hg : (hp (s.setA 620 (nmS N (vwS (s.A 514) (s.A 515)) h day))).g a = some (.inr (4, [e, l, q, c, dd])) := (hp_gb hfx).trans hg0
  obtain ⟨L1, L2, L3⟩ := L
  cases L2 with
  | none =>
    have l0 : l = .null := hl
    subst l0
    refine Run.of rfl (Nat.le_of_ble_eq_true rfl) rfl ?_
    refine AW.aload_n dX0_losesBy_0 rfl rfl ?_
    refine AW.aload_n dX0_losesBy_1 rfl rfl ?_
    refine AW.iload_n dX0_losesBy_2 rfl rfl ?_
    refine AW.iload dX0_losesBy_3 rfl rfl ?_
    refine AW.callV (Y := mX0_names) (n := 3) (r_X0_names hn h day hh) (by decide) (by decide) rfl gX q877 q879 qs27 q138 q880 dX0_losesBy_5 (by decide +kernel) rfl rfl (Nat.le_of_ble_eq_true rfl) rfl ?_
    refine AW.aload_n dX0_losesBy_8 rfl rfl ?_
    refine AW.getN ci4 1 (by decide) q368 dX0_losesBy_9 hg rfl rfl ?_
    refine AW.ifnonnullN dX0_losesBy_12 rfl ?_
    refine AW.ldc2 dX0_losesBy_15 q903 rfl ?_
    refine AW.goto (tgt := 34) dX0_losesBy_18 (by decide) ?_
    refine AW.iconst (v := 0) dX0_losesBy_34 (by decide) rfl ?_
    refine AW.bipush (v := 99) dX0_losesBy_35 (by decide) rfl ?_
    refine AW.callS (Y := mX0_held) (n := 3) (r_X0_held _ _ _) (by decide) (by decide) q965 q966 q138 q967 dX0_losesBy_37 (by decide +kernel) rfl rfl (Nat.le_of_ble_eq_true rfl) rfl ?_
    exact AW.iretE dX0_losesBy_40 rfl rfl rfl rfl
  | some F =>
    obtain ⟨x, lo, hi, l0, x1, x2, ci, fs, rC, Y, y1, y2, y3, y4, y5, y6, y7, y8, -, y9⟩ := hl
    subst l0
    have gx : (hp (s.setA 620 (nmS N (vwS (s.A 514) (s.A 515)) h day))).g x = some (.inr (ci, fs)) := (hp_gb (nfx x1)).trans y2
    refine Run.of rfl (Nat.le_of_ble_eq_true rfl) rfl ?_
    refine AW.aload_n dX0_losesBy_0 rfl rfl ?_
    refine AW.aload_n dX0_losesBy_1 rfl rfl ?_
    refine AW.iload_n dX0_losesBy_2 rfl rfl ?_
    refine AW.iload dX0_losesBy_3 rfl rfl ?_
    refine AW.callV (Y := mX0_names) (n := 3) (r_X0_names hn h day hh) (by decide) (by decide) rfl gX q877 q879 qs27 q138 q880 dX0_losesBy_5 (by decide +kernel) rfl rfl (Nat.le_of_ble_eq_true rfl) rfl ?_
    refine AW.aload_n dX0_losesBy_8 rfl rfl ?_
    refine AW.getN ci4 1 (by decide) q368 dX0_losesBy_9 hg rfl rfl ?_
    refine AW.ifnonnull (tgt := 21) dX0_losesBy_12 (by decide) ?_
    refine AW.aload_n dX0_losesBy_21 rfl rfl ?_
    refine AW.getN ci4 1 (by decide) q368 dX0_losesBy_22 hg rfl rfl ?_
    refine AW.aload_n dX0_losesBy_25 rfl rfl ?_
    refine AW.get ci0 6 (by decide) q235 dX0_losesBy_26 gX rfl rfl ?_
    refine AW.callF (Y := Y) (x := yzSum) (n := 1) (y9 60 (s.setA 620 (nmS N (vwS (s.A 514) (s.A 515)) h day)) (Nat.le_refl _) (fun _ _ => rfl)) (by decide) y8 y1 gx y3 q905 y4 y5 y6 y7 dX0_losesBy_29 (by decide +kernel) rfl rfl (Nat.le_of_ble_eq_true rfl) rfl ?_
    refine AW.iconst (v := 0) dX0_losesBy_34 (by decide) rfl ?_
    refine AW.bipush (v := 99) dX0_losesBy_35 (by decide) rfl ?_
    refine AW.callS (Y := mX0_held) (n := 3) (r_X0_held _ _ _) (by decide) (by decide) q965 q966 q138 q967 dX0_losesBy_37 (by decide +kernel) rfl rfl (Nat.le_of_ble_eq_true rfl) rfl ?_
    exact AW.iretE dX0_losesBy_40 rfl rfl rfl rfl
theorem r_X0_letsBy {s : Sg} {N : Nat → Int32} (hn : (vwS (s.A 514) (s.A 515)).ok) {a : Nat} {L : Lw} (hL : LawT s.b a L) (h : Int32) (hh : (vwS (s.A 514) (s.A 515)).hou h = true) : Run 62 mX0_letsBy [.ref 512, .ref a, .ref 515, .int h] (hp (s.setA 620 N)) (.inl (some (.int (b2i (letS L (vwS (s.A 514) (s.A 515)) N h (s.A 515 0)))))) (hp (s.setA 620 (nmS N (vwS (s.A 514) (s.A 515)) h (s.A 515 0)))) := by
  have hfx := hL.fx
  obtain ⟨-, -, e, l, q, c, dd, hg0, he, hl, hq⟩ := hL
  have hg : (hp (s.setA 620 (nmS N (vwS (s.A 514) (s.A 515)) h (s.A 515 0)))).g a = some (.inr (4, [e, l, q, c, dd])) := (hp_gb hfx).trans hg0
  obtain ⟨L1, L2, L3⟩ := L
  cases L3 with
  | none =>
    have q0 : q = .null := hq
    subst q0
    refine Run.of rfl (Nat.le_of_ble_eq_true rfl) rfl ?_
    refine AW.aload_n dX0_letsBy_0 rfl rfl ?_
    refine AW.aload_n dX0_letsBy_1 rfl rfl ?_
    refine AW.iload_n dX0_letsBy_2 rfl rfl ?_
    refine AW.aload_n dX0_letsBy_3 rfl rfl ?_
    refine AW.iconst (v := 0) dX0_letsBy_4 (by decide) rfl ?_
    refine AW.iald dX0_letsBy_5 g515 (vp_in_iff.mpr (by decide)) (j := 0) (by decide) rfl ?_
    refine AW.callV (Y := mX0_names) (n := 3) (r_X0_names hn h (s.A 515 0) hh) (by decide) (by decide) rfl gX q877 q879 qs27 q138 q880 dX0_letsBy_6 (by decide +kernel) rfl rfl (Nat.le_of_ble_eq_true rfl) rfl ?_
    refine AW.aload_n dX0_letsBy_9 rfl rfl ?_
    refine AW.getN ci4 2 (by decide) q370 dX0_letsBy_10 hg rfl rfl ?_
    refine AW.ifnonnullN dX0_letsBy_13 rfl ?_
    refine AW.aload_n dX0_letsBy_16 rfl rfl ?_
    refine AW.get ci0 6 (by decide) q235 dX0_letsBy_17 gX rfl rfl ?_
    refine AW.iconst (v := 4) dX0_letsBy_20 (by decide) rfl ?_
    refine AW.iald dX0_letsBy_21 gS6 (vp_in_iff.mpr (by decide)) (j := 4) (by decide) rfl ?_
    refine AW.bipush (v := 50) dX0_letsBy_22 (by decide) rfl ?_
    refine AW.icmp_ge (tgt := 31) dX0_letsBy_24 (by decide) rfl (fun c24 => ?_) (fun c24 => ?_)
    · refine AW.iconst (v := 0) dX0_letsBy_31 (by decide) rfl ?_
      refine AW.goto (tgt := 48) dX0_letsBy_32 (by decide) ?_
      exact AW.bretE dX0_letsBy_48 rfl rfl (by first | rfl | (show (1 : Int32) = b2i (decide ((vwS (s.A 514) (s.A 515)).fr h < 50)); rw [dec_t (show (vwS (s.A 514) (s.A 515)).fr h < 50 from Int32.not_le.mp c24)]; rfl) | (show (0 : Int32) = b2i (decide ((vwS (s.A 514) (s.A 515)).fr h < 50)); rw [dec_f (show ¬ (vwS (s.A 514) (s.A 515)).fr h < 50 from Int32.not_lt.mpr c24)]; rfl)) rfl
    · refine AW.iconst (v := 1) dX0_letsBy_27 (by decide) rfl ?_
      refine AW.goto (tgt := 48) dX0_letsBy_28 (by decide) ?_
      exact AW.bretE dX0_letsBy_48 rfl rfl (by first | rfl | (show (1 : Int32) = b2i (decide ((vwS (s.A 514) (s.A 515)).fr h < 50)); rw [dec_t (show (vwS (s.A 514) (s.A 515)).fr h < 50 from Int32.not_le.mp c24)]; rfl) | (show (0 : Int32) = b2i (decide ((vwS (s.A 514) (s.A 515)).fr h < 50)); rw [dec_f (show ¬ (vwS (s.A 514) (s.A 515)).fr h < 50 from Int32.not_lt.mpr c24)]; rfl)) rfl
  | some F =>
    obtain ⟨x, lo, hi, q0, x1, x2, ci, fs, rC, Y, y1, y2, y3, y4, y5, y6, y7, y8, -, y9⟩ := hq
    subst q0
    have gx : (hp (s.setA 620 (nmS N (vwS (s.A 514) (s.A 515)) h (s.A 515 0)))).g x = some (.inr (ci, fs)) := (hp_gb (nfx x1)).trans y2
    refine Run.of rfl (Nat.le_of_ble_eq_true rfl) rfl ?_
    refine AW.aload_n dX0_letsBy_0 rfl rfl ?_
    refine AW.aload_n dX0_letsBy_1 rfl rfl ?_
    refine AW.iload_n dX0_letsBy_2 rfl rfl ?_
    refine AW.aload_n dX0_letsBy_3 rfl rfl ?_
    refine AW.iconst (v := 0) dX0_letsBy_4 (by decide) rfl ?_
    refine AW.iald dX0_letsBy_5 g515 (vp_in_iff.mpr (by decide)) (j := 0) (by decide) rfl ?_
    refine AW.callV (Y := mX0_names) (n := 3) (r_X0_names hn h (s.A 515 0) hh) (by decide) (by decide) rfl gX q877 q879 qs27 q138 q880 dX0_letsBy_6 (by decide +kernel) rfl rfl (Nat.le_of_ble_eq_true rfl) rfl ?_
    refine AW.aload_n dX0_letsBy_9 rfl rfl ?_
    refine AW.getN ci4 2 (by decide) q370 dX0_letsBy_10 hg rfl rfl ?_
    refine AW.ifnonnull (tgt := 35) dX0_letsBy_13 (by decide) ?_
    refine AW.aload_n dX0_letsBy_35 rfl rfl ?_
    refine AW.getN ci4 2 (by decide) q370 dX0_letsBy_36 hg rfl rfl ?_
    refine AW.aload_n dX0_letsBy_39 rfl rfl ?_
    refine AW.get ci0 6 (by decide) q235 dX0_letsBy_40 gX rfl rfl ?_
    refine AW.callF (Y := Y) (x := yzAsk) (n := 1) (y9 60 (s.setA 620 (nmS N (vwS (s.A 514) (s.A 515)) h (s.A 515 0))) (Nat.le_refl _) (fun _ _ => rfl)) (by decide) y8 y1 gx y3 q993 y4 y5 y6 y7 dX0_letsBy_43 (by decide +kernel) rfl rfl (Nat.le_of_ble_eq_true rfl) rfl ?_
    exact AW.bretE dX0_letsBy_48 rfl rfl (by first | rfl | (show (1 : Int32) = b2i (decide ((vwS (s.A 514) (s.A 515)).fr h < 50)); rw [dec_t (show (vwS (s.A 514) (s.A 515)).fr h < 50 from Int32.not_le.mp c24)]; rfl) | (show (0 : Int32) = b2i (decide ((vwS (s.A 514) (s.A 515)).fr h < 50)); rw [dec_f (show ¬ (vwS (s.A 514) (s.A 515)).fr h < 50 from Int32.not_lt.mpr c24)]; rfl)) rfl
theorem r_X0_names_t {s : Sg} {N : Nat → Int32} (hn : (vwS (s.A 514) (s.A 621)).ok) (h day : Int32) (hh : (vwS (s.A 514) (s.A 621)).hou h = true) : Run 5 mX0_names [.ref 512, .ref 621, .int h, .int day] (hp (s.setA 620 N)) (.inl none) (hp (s.setA 620 (nmS N (vwS (s.A 514) (s.A 621)) h day))) := by
  refine Run.of rfl (Nat.le_of_ble_eq_true rfl) rfl ?_
  refine AW.iload_n dX0_names_0 rfl rfl ?_
  refine AW.bipush (v := 20) dX0_names_1 (by decide) rfl ?_
  refine AW.irem dX0_names_3 (by decide) rfl ?_
  refine AW.istore dX0_names_4 rfl (Nat.le_of_ble_eq_true rfl) rfl rfl ?_
  refine AW.aload_n dX0_names_6 rfl rfl ?_
  refine AW.get ci0 6 (by decide) q235 dX0_names_7 gX rfl rfl ?_
  refine AW.iconst (v := 0) dX0_names_10 (by decide) rfl ?_
  refine AW.iload_n dX0_names_11 rfl rfl ?_
  refine AW.iast dX0_names_12 (by decide) gS6 (vp_in_iff.mpr (by decide)) (j := 0) (by decide) sS6 rfl ?_
  refine AW.aload_n dX0_names_13 rfl rfl ?_
  refine AW.get ci0 6 (by decide) q235 dX0_names_14 gX rfl rfl ?_
  refine AW.iconst (v := 1) dX0_names_17 (by decide) rfl ?_
  refine AW.iload dX0_names_18 rfl rfl ?_
  refine AW.iast dX0_names_20 (by decide) gS6 (vp_in_iff.mpr (by decide)) (j := 1) (by decide) sS6 rfl ?_
  refine AW.aload_n dX0_names_21 rfl rfl ?_
  refine AW.get ci0 6 (by decide) q235 dX0_names_22 gX rfl rfl ?_
  refine AW.iconst (v := 2) dX0_names_25 (by decide) rfl ?_
  refine AW.iload_n dX0_names_26 rfl rfl ?_
  refine AW.iast dX0_names_27 (by decide) gS6 (vp_in_iff.mpr (by decide)) (j := 2) (by decide) sS6 rfl ?_
  refine AW.aload_n dX0_names_28 rfl rfl ?_
  refine AW.get ci0 6 (by decide) q235 dX0_names_29 gX rfl rfl ?_
  refine AW.iconst (v := 3) dX0_names_32 (by decide) rfl ?_
  refine AW.aload_n dX0_names_33 rfl rfl ?_
  refine AW.bipush (v := 10) dX0_names_34 (by decide) rfl ?_
  refine AW.iload_n dX0_names_36 rfl rfl ?_
  refine AW.iadd dX0_names_37 rfl ?_
  refine AW.iald dX0_names_38 g621 (in_row (v := (vwS (s.A 514) (s.A 621))) hn hh (by decide) (by decide)) rfl rfl ?_
  refine AW.iast dX0_names_39 (by decide) gS6 (vp_in_iff.mpr (by decide)) (j := 3) (by decide) sS6 rfl ?_
  refine AW.aload_n dX0_names_40 rfl rfl ?_
  refine AW.get ci0 6 (by decide) q235 dX0_names_41 gX rfl rfl ?_
  refine AW.iconst (v := 4) dX0_names_44 (by decide) rfl ?_
  refine AW.aload_n dX0_names_45 rfl rfl ?_
  refine AW.bipush (v := 17) dX0_names_46 (by decide) rfl ?_
  refine AW.iload_n dX0_names_48 rfl rfl ?_
  refine AW.iadd dX0_names_49 rfl ?_
  refine AW.iald dX0_names_50 g621 (in_row (v := (vwS (s.A 514) (s.A 621))) hn hh (by decide) (by decide)) rfl rfl ?_
  refine AW.iast dX0_names_51 (by decide) gS6 (vp_in_iff.mpr (by decide)) (j := 4) (by decide) sS6 rfl ?_
  refine AW.aload_n dX0_names_52 rfl rfl ?_
  refine AW.get ci0 6 (by decide) q235 dX0_names_53 gX rfl rfl ?_
  refine AW.iconst (v := 5) dX0_names_56 (by decide) rfl ?_
  refine AW.aload_n dX0_names_57 rfl rfl ?_
  refine AW.iconst (v := 3) dX0_names_58 (by decide) rfl ?_
  refine AW.iload_n dX0_names_59 rfl rfl ?_
  refine AW.iadd dX0_names_60 rfl ?_
  refine AW.iald dX0_names_61 g621 (in_row (v := (vwS (s.A 514) (s.A 621))) hn hh (by decide) (by decide)) rfl rfl ?_
  refine AW.callS (Y := mJ12_bitCount) (n := 1) (r_J12_bitCount _) (by decide) (by decide) q881 q882 q162 q883 dX0_names_62 (by decide +kernel) rfl rfl (Nat.le_of_ble_eq_true rfl) rfl ?_
  refine AW.iast dX0_names_65 (by decide) gS6 (vp_in_iff.mpr (by decide)) (j := 5) (by decide) sS6 rfl ?_
  refine AW.aload_n dX0_names_66 rfl rfl ?_
  refine AW.get ci0 6 (by decide) q235 dX0_names_67 gX rfl rfl ?_
  refine AW.bipush (v := 6) dX0_names_70 (by decide) rfl ?_
  refine AW.aload_n dX0_names_72 rfl rfl ?_
  refine AW.aload_n dX0_names_73 rfl rfl ?_
  refine AW.iload dX0_names_74 rfl rfl ?_
  refine AW.callV (Y := mX0_openOn) (n := 2) (r_X0_openOn_t (s := s.setA 620 _) hn _) (by decide) (by decide) rfl gX q887 q889 qs28 q138 q890 dX0_names_76 (by decide +kernel) rfl rfl (Nat.le_of_ble_eq_true rfl) rfl ?_
  refine AW.iast dX0_names_79 (by decide) gS6 (vp_in_iff.mpr (by decide)) (j := 6) (by decide) sS6 rfl ?_
  refine AW.aload_n dX0_names_80 rfl rfl ?_
  refine AW.get ci0 6 (by decide) q235 dX0_names_81 gX rfl rfl ?_
  refine AW.bipush (v := 7) dX0_names_84 (by decide) rfl ?_
  refine AW.aload_n dX0_names_86 rfl rfl ?_
  refine AW.aload_n dX0_names_87 rfl rfl ?_
  refine AW.iload_n dX0_names_88 rfl rfl ?_
  refine AW.iload dX0_names_89 rfl rfl ?_
  refine AW.callV (Y := mX0_besideOf) (n := 3) (r_X0_besideOf_t (s := s.setA 620 _) hn _ _) (by decide) (by decide) rfl gX q899 q901 qs31 q138 q902 dX0_names_91 (by decide +kernel) rfl rfl (Nat.le_of_ble_eq_true rfl) rfl ?_
  refine AW.iast dX0_names_94 (by decide) gS6 (vp_in_iff.mpr (by decide)) (j := 7) (by decide) sS6 rfl ?_
  have e1 := vwS_sh hh
  have e2 := vwS_pu hh
  have e3 := vwS_fr hh
  exact AW.vretE dX0_names_95 rfl rfl (by unfold nmS; rw [e1, e2, e3]; rfl)
theorem r_X0_earnsBy_t {s : Sg} {N : Nat → Int32} (hn : (vwS (s.A 514) (s.A 621)).ok) {a : Nat} {L : Lw} (hL : LawT s.b a L) (h day : Int32) (hh : (vwS (s.A 514) (s.A 621)).hou h = true) : Run 62 mX0_earnsBy [.ref 512, .ref a, .ref 621, .int h, .int day] (hp (s.setA 620 N)) (.inl (some (.int (earnS L (vwS (s.A 514) (s.A 621)) N h day)))) (hp (s.setA 620 (nmS N (vwS (s.A 514) (s.A 621)) h day))) := by
  have hfx := hL.fx
  obtain ⟨-, -, e, l, q, c, dd, hg0, he, hl, hq⟩ := hL
  have hg : (hp (s.setA 620 (nmS N (vwS (s.A 514) (s.A 621)) h day))).g a = some (.inr (4, [e, l, q, c, dd])) := (hp_gb hfx).trans hg0
  obtain ⟨L1, L2, L3⟩ := L
  cases L1 with
  | none =>
    have e0 : e = .null := he
    subst e0
    refine Run.of rfl (Nat.le_of_ble_eq_true rfl) rfl ?_
    refine AW.aload_n dX0_earnsBy_0 rfl rfl ?_
    refine AW.aload_n dX0_earnsBy_1 rfl rfl ?_
    refine AW.iload_n dX0_earnsBy_2 rfl rfl ?_
    refine AW.iload dX0_earnsBy_3 rfl rfl ?_
    refine AW.callV (Y := mX0_names) (n := 3) (r_X0_names_t hn h day hh) (by decide) (by decide) rfl gX q877 q879 qs27 q138 q880 dX0_earnsBy_5 (by decide +kernel) rfl rfl (Nat.le_of_ble_eq_true rfl) rfl ?_
    refine AW.aload_n dX0_earnsBy_8 rfl rfl ?_
    refine AW.getN ci4 0 (by decide) q366 dX0_earnsBy_9 hg rfl rfl ?_
    refine AW.ifnonnullN dX0_earnsBy_12 rfl ?_
    refine AW.iconst (v := 1) dX0_earnsBy_15 (by decide) rfl ?_
    refine AW.aload_n dX0_earnsBy_16 rfl rfl ?_
    refine AW.get ci0 6 (by decide) q235 dX0_earnsBy_17 gX rfl rfl ?_
    refine AW.bipush (v := 7) dX0_earnsBy_20 (by decide) rfl ?_
    refine AW.iald dX0_earnsBy_22 gS6 (vp_in_iff.mpr (by decide)) (j := 7) (by decide) rfl ?_
    refine AW.iadd dX0_earnsBy_23 rfl ?_
    refine AW.i2l dX0_earnsBy_24 rfl ?_
    refine AW.goto (tgt := 41) dX0_earnsBy_25 (by decide) ?_
    refine AW.iconst (v := 0) dX0_earnsBy_41 (by decide) rfl ?_
    refine AW.bipush (v := 99) dX0_earnsBy_42 (by decide) rfl ?_
    refine AW.callS (Y := mX0_held) (n := 3) (r_X0_held _ _ _) (by decide) (by decide) q965 q966 q138 q967 dX0_earnsBy_44 (by decide +kernel) rfl rfl (Nat.le_of_ble_eq_true rfl) rfl ?_
    exact AW.iretE dX0_earnsBy_47 rfl rfl rfl rfl
  | some F =>
    obtain ⟨x, lo, hi, e0, x1, x2, ci, fs, rC, Y, y1, y2, y3, y4, y5, y6, y7, y8, -, y9⟩ := he
    subst e0
    have gx : (hp (s.setA 620 (nmS N (vwS (s.A 514) (s.A 621)) h day))).g x = some (.inr (ci, fs)) := (hp_gb (nfx x1)).trans y2
    refine Run.of rfl (Nat.le_of_ble_eq_true rfl) rfl ?_
    refine AW.aload_n dX0_earnsBy_0 rfl rfl ?_
    refine AW.aload_n dX0_earnsBy_1 rfl rfl ?_
    refine AW.iload_n dX0_earnsBy_2 rfl rfl ?_
    refine AW.iload dX0_earnsBy_3 rfl rfl ?_
    refine AW.callV (Y := mX0_names) (n := 3) (r_X0_names_t hn h day hh) (by decide) (by decide) rfl gX q877 q879 qs27 q138 q880 dX0_earnsBy_5 (by decide +kernel) rfl rfl (Nat.le_of_ble_eq_true rfl) rfl ?_
    refine AW.aload_n dX0_earnsBy_8 rfl rfl ?_
    refine AW.getN ci4 0 (by decide) q366 dX0_earnsBy_9 hg rfl rfl ?_
    refine AW.ifnonnull (tgt := 28) dX0_earnsBy_12 (by decide) ?_
    refine AW.aload_n dX0_earnsBy_28 rfl rfl ?_
    refine AW.getN ci4 0 (by decide) q366 dX0_earnsBy_29 hg rfl rfl ?_
    refine AW.aload_n dX0_earnsBy_32 rfl rfl ?_
    refine AW.get ci0 6 (by decide) q235 dX0_earnsBy_33 gX rfl rfl ?_
    refine AW.callF (Y := Y) (x := yzSum) (n := 1) (y9 60 (s.setA 620 (nmS N (vwS (s.A 514) (s.A 621)) h day)) (Nat.le_refl _) (fun _ _ => rfl)) (by decide) y8 y1 gx y3 q905 y4 y5 y6 y7 dX0_earnsBy_36 (by decide +kernel) rfl rfl (Nat.le_of_ble_eq_true rfl) rfl ?_
    refine AW.iconst (v := 0) dX0_earnsBy_41 (by decide) rfl ?_
    refine AW.bipush (v := 99) dX0_earnsBy_42 (by decide) rfl ?_
    refine AW.callS (Y := mX0_held) (n := 3) (r_X0_held _ _ _) (by decide) (by decide) q965 q966 q138 q967 dX0_earnsBy_44 (by decide +kernel) rfl rfl (Nat.le_of_ble_eq_true rfl) rfl ?_
    exact AW.iretE dX0_earnsBy_47 rfl rfl rfl rfl
theorem r_X0_losesBy_t {s : Sg} {N : Nat → Int32} (hn : (vwS (s.A 514) (s.A 621)).ok) {a : Nat} {L : Lw} (hL : LawT s.b a L) (h day : Int32) (hh : (vwS (s.A 514) (s.A 621)).hou h = true) : Run 62 mX0_losesBy [.ref 512, .ref a, .ref 621, .int h, .int day] (hp (s.setA 620 N)) (.inl (some (.int (loseS L (vwS (s.A 514) (s.A 621)) N h day)))) (hp (s.setA 620 (nmS N (vwS (s.A 514) (s.A 621)) h day))) := by
  have hfx := hL.fx
  obtain ⟨-, -, e, l, q, c, dd, hg0, he, hl, hq⟩ := hL
  have hg : (hp (s.setA 620 (nmS N (vwS (s.A 514) (s.A 621)) h day))).g a = some (.inr (4, [e, l, q, c, dd])) := (hp_gb hfx).trans hg0
  obtain ⟨L1, L2, L3⟩ := L
  cases L2 with
  | none =>
    have l0 : l = .null := hl
    subst l0
    refine Run.of rfl (Nat.le_of_ble_eq_true rfl) rfl ?_
    refine AW.aload_n dX0_losesBy_0 rfl rfl ?_
    refine AW.aload_n dX0_losesBy_1 rfl rfl ?_
    refine AW.iload_n dX0_losesBy_2 rfl rfl ?_
    refine AW.iload dX0_losesBy_3 rfl rfl ?_
    refine AW.callV (Y := mX0_names) (n := 3) (r_X0_names_t hn h day hh) (by decide) (by decide) rfl gX q877 q879 qs27 q138 q880 dX0_losesBy_5 (by decide +kernel) rfl rfl (Nat.le_of_ble_eq_true rfl) rfl ?_
    refine AW.aload_n dX0_losesBy_8 rfl rfl ?_
    refine AW.getN ci4 1 (by decide) q368 dX0_losesBy_9 hg rfl rfl ?_
    refine AW.ifnonnullN dX0_losesBy_12 rfl ?_
    refine AW.ldc2 dX0_losesBy_15 q903 rfl ?_
    refine AW.goto (tgt := 34) dX0_losesBy_18 (by decide) ?_
    refine AW.iconst (v := 0) dX0_losesBy_34 (by decide) rfl ?_
    refine AW.bipush (v := 99) dX0_losesBy_35 (by decide) rfl ?_
    refine AW.callS (Y := mX0_held) (n := 3) (r_X0_held _ _ _) (by decide) (by decide) q965 q966 q138 q967 dX0_losesBy_37 (by decide +kernel) rfl rfl (Nat.le_of_ble_eq_true rfl) rfl ?_
    exact AW.iretE dX0_losesBy_40 rfl rfl rfl rfl
  | some F =>
    obtain ⟨x, lo, hi, l0, x1, x2, ci, fs, rC, Y, y1, y2, y3, y4, y5, y6, y7, y8, -, y9⟩ := hl
    subst l0
    have gx : (hp (s.setA 620 (nmS N (vwS (s.A 514) (s.A 621)) h day))).g x = some (.inr (ci, fs)) := (hp_gb (nfx x1)).trans y2
    refine Run.of rfl (Nat.le_of_ble_eq_true rfl) rfl ?_
    refine AW.aload_n dX0_losesBy_0 rfl rfl ?_
    refine AW.aload_n dX0_losesBy_1 rfl rfl ?_
    refine AW.iload_n dX0_losesBy_2 rfl rfl ?_
    refine AW.iload dX0_losesBy_3 rfl rfl ?_
    refine AW.callV (Y := mX0_names) (n := 3) (r_X0_names_t hn h day hh) (by decide) (by decide) rfl gX q877 q879 qs27 q138 q880 dX0_losesBy_5 (by decide +kernel) rfl rfl (Nat.le_of_ble_eq_true rfl) rfl ?_
    refine AW.aload_n dX0_losesBy_8 rfl rfl ?_
    refine AW.getN ci4 1 (by decide) q368 dX0_losesBy_9 hg rfl rfl ?_
    refine AW.ifnonnull (tgt := 21) dX0_losesBy_12 (by decide) ?_
    refine AW.aload_n dX0_losesBy_21 rfl rfl ?_
    refine AW.getN ci4 1 (by decide) q368 dX0_losesBy_22 hg rfl rfl ?_
    refine AW.aload_n dX0_losesBy_25 rfl rfl ?_
    refine AW.get ci0 6 (by decide) q235 dX0_losesBy_26 gX rfl rfl ?_
    refine AW.callF (Y := Y) (x := yzSum) (n := 1) (y9 60 (s.setA 620 (nmS N (vwS (s.A 514) (s.A 621)) h day)) (Nat.le_refl _) (fun _ _ => rfl)) (by decide) y8 y1 gx y3 q905 y4 y5 y6 y7 dX0_losesBy_29 (by decide +kernel) rfl rfl (Nat.le_of_ble_eq_true rfl) rfl ?_
    refine AW.iconst (v := 0) dX0_losesBy_34 (by decide) rfl ?_
    refine AW.bipush (v := 99) dX0_losesBy_35 (by decide) rfl ?_
    refine AW.callS (Y := mX0_held) (n := 3) (r_X0_held _ _ _) (by decide) (by decide) q965 q966 q138 q967 dX0_losesBy_37 (by decide +kernel) rfl rfl (Nat.le_of_ble_eq_true rfl) rfl ?_
    exact AW.iretE dX0_losesBy_40 rfl rfl rfl rfl
theorem r_X0_letsBy_t {s : Sg} {N : Nat → Int32} (hn : (vwS (s.A 514) (s.A 621)).ok) {a : Nat} {L : Lw} (hL : LawT s.b a L) (h : Int32) (hh : (vwS (s.A 514) (s.A 621)).hou h = true) : Run 62 mX0_letsBy [.ref 512, .ref a, .ref 621, .int h] (hp (s.setA 620 N)) (.inl (some (.int (b2i (letS L (vwS (s.A 514) (s.A 621)) N h (s.A 621 0)))))) (hp (s.setA 620 (nmS N (vwS (s.A 514) (s.A 621)) h (s.A 621 0)))) := by
  have hfx := hL.fx
  obtain ⟨-, -, e, l, q, c, dd, hg0, he, hl, hq⟩ := hL
  have hg : (hp (s.setA 620 (nmS N (vwS (s.A 514) (s.A 621)) h (s.A 621 0)))).g a = some (.inr (4, [e, l, q, c, dd])) := (hp_gb hfx).trans hg0
  obtain ⟨L1, L2, L3⟩ := L
  cases L3 with
  | none =>
    have q0 : q = .null := hq
    subst q0
    refine Run.of rfl (Nat.le_of_ble_eq_true rfl) rfl ?_
    refine AW.aload_n dX0_letsBy_0 rfl rfl ?_
    refine AW.aload_n dX0_letsBy_1 rfl rfl ?_
    refine AW.iload_n dX0_letsBy_2 rfl rfl ?_
    refine AW.aload_n dX0_letsBy_3 rfl rfl ?_
    refine AW.iconst (v := 0) dX0_letsBy_4 (by decide) rfl ?_
    refine AW.iald dX0_letsBy_5 g621 (vp_in_iff.mpr (by decide)) (j := 0) (by decide) rfl ?_
    refine AW.callV (Y := mX0_names) (n := 3) (r_X0_names_t hn h (s.A 621 0) hh) (by decide) (by decide) rfl gX q877 q879 qs27 q138 q880 dX0_letsBy_6 (by decide +kernel) rfl rfl (Nat.le_of_ble_eq_true rfl) rfl ?_
    refine AW.aload_n dX0_letsBy_9 rfl rfl ?_
    refine AW.getN ci4 2 (by decide) q370 dX0_letsBy_10 hg rfl rfl ?_
    refine AW.ifnonnullN dX0_letsBy_13 rfl ?_
    refine AW.aload_n dX0_letsBy_16 rfl rfl ?_
    refine AW.get ci0 6 (by decide) q235 dX0_letsBy_17 gX rfl rfl ?_
    refine AW.iconst (v := 4) dX0_letsBy_20 (by decide) rfl ?_
    refine AW.iald dX0_letsBy_21 gS6 (vp_in_iff.mpr (by decide)) (j := 4) (by decide) rfl ?_
    refine AW.bipush (v := 50) dX0_letsBy_22 (by decide) rfl ?_
    refine AW.icmp_ge (tgt := 31) dX0_letsBy_24 (by decide) rfl (fun c24 => ?_) (fun c24 => ?_)
    · refine AW.iconst (v := 0) dX0_letsBy_31 (by decide) rfl ?_
      refine AW.goto (tgt := 48) dX0_letsBy_32 (by decide) ?_
      exact AW.bretE dX0_letsBy_48 rfl rfl (by first | rfl | (show (1 : Int32) = b2i (decide ((vwS (s.A 514) (s.A 621)).fr h < 50)); rw [dec_t (show (vwS (s.A 514) (s.A 621)).fr h < 50 from Int32.not_le.mp c24)]; rfl) | (show (0 : Int32) = b2i (decide ((vwS (s.A 514) (s.A 621)).fr h < 50)); rw [dec_f (show ¬ (vwS (s.A 514) (s.A 621)).fr h < 50 from Int32.not_lt.mpr c24)]; rfl)) rfl
    · refine AW.iconst (v := 1) dX0_letsBy_27 (by decide) rfl ?_
      refine AW.goto (tgt := 48) dX0_letsBy_28 (by decide) ?_
      exact AW.bretE dX0_letsBy_48 rfl rfl (by first | rfl | (show (1 : Int32) = b2i (decide ((vwS (s.A 514) (s.A 621)).fr h < 50)); rw [dec_t (show (vwS (s.A 514) (s.A 621)).fr h < 50 from Int32.not_le.mp c24)]; rfl) | (show (0 : Int32) = b2i (decide ((vwS (s.A 514) (s.A 621)).fr h < 50)); rw [dec_f (show ¬ (vwS (s.A 514) (s.A 621)).fr h < 50 from Int32.not_lt.mpr c24)]; rfl)) rfl
  | some F =>
    obtain ⟨x, lo, hi, q0, x1, x2, ci, fs, rC, Y, y1, y2, y3, y4, y5, y6, y7, y8, -, y9⟩ := hq
    subst q0
    have gx : (hp (s.setA 620 (nmS N (vwS (s.A 514) (s.A 621)) h (s.A 621 0)))).g x = some (.inr (ci, fs)) := (hp_gb (nfx x1)).trans y2
    refine Run.of rfl (Nat.le_of_ble_eq_true rfl) rfl ?_
    refine AW.aload_n dX0_letsBy_0 rfl rfl ?_
    refine AW.aload_n dX0_letsBy_1 rfl rfl ?_
    refine AW.iload_n dX0_letsBy_2 rfl rfl ?_
    refine AW.aload_n dX0_letsBy_3 rfl rfl ?_
    refine AW.iconst (v := 0) dX0_letsBy_4 (by decide) rfl ?_
    refine AW.iald dX0_letsBy_5 g621 (vp_in_iff.mpr (by decide)) (j := 0) (by decide) rfl ?_
    refine AW.callV (Y := mX0_names) (n := 3) (r_X0_names_t hn h (s.A 621 0) hh) (by decide) (by decide) rfl gX q877 q879 qs27 q138 q880 dX0_letsBy_6 (by decide +kernel) rfl rfl (Nat.le_of_ble_eq_true rfl) rfl ?_
    refine AW.aload_n dX0_letsBy_9 rfl rfl ?_
    refine AW.getN ci4 2 (by decide) q370 dX0_letsBy_10 hg rfl rfl ?_
    refine AW.ifnonnull (tgt := 35) dX0_letsBy_13 (by decide) ?_
    refine AW.aload_n dX0_letsBy_35 rfl rfl ?_
    refine AW.getN ci4 2 (by decide) q370 dX0_letsBy_36 hg rfl rfl ?_
    refine AW.aload_n dX0_letsBy_39 rfl rfl ?_
    refine AW.get ci0 6 (by decide) q235 dX0_letsBy_40 gX rfl rfl ?_
    refine AW.callF (Y := Y) (x := yzAsk) (n := 1) (y9 60 (s.setA 620 (nmS N (vwS (s.A 514) (s.A 621)) h (s.A 621 0))) (Nat.le_refl _) (fun _ _ => rfl)) (by decide) y8 y1 gx y3 q993 y4 y5 y6 y7 dX0_letsBy_43 (by decide +kernel) rfl rfl (Nat.le_of_ble_eq_true rfl) rfl ?_
    exact AW.bretE dX0_letsBy_48 rfl rfl (by first | rfl | (show (1 : Int32) = b2i (decide ((vwS (s.A 514) (s.A 621)).fr h < 50)); rw [dec_t (show (vwS (s.A 514) (s.A 621)).fr h < 50 from Int32.not_le.mp c24)]; rfl) | (show (0 : Int32) = b2i (decide ((vwS (s.A 514) (s.A 621)).fr h < 50)); rw [dec_f (show ¬ (vwS (s.A 514) (s.A 621)).fr h < 50 from Int32.not_lt.mpr c24)]; rfl)) rfl
