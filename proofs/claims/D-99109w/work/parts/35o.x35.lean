/-! SYSTEM 35: a knock (printed by tools/x35.py) -/
set_option maxRecDepth 100000
theorem gK {s : Sg} {r : Nat → Int32} : (hp (s.setA 515 r)).g 515 = some (ia 145 r) := (hp_gI (s := s.setA 515 r) (k := 515) rfl).trans (congrArg (fun z => some (ia 145 z)) sA_eq)
theorem sK {s : Sg} {r f : Nat → Int32} : (hp (s.setA 515 r)).set 515 (ia 145 f) = hp (s.setA 515 f) := (hp_sI (s := s.setA 515 r) (k := 515) rfl).trans (congrArg hp setA_setA)
/-- the row's end of a knock: one more page, the friends changed -/
def knkE (R : Nat → Int32) (k : Nat) (bit : Int32) (z : Bool) : Nat → Int32 := up (up R 24 (R 24 + 1)) (17 + k) (if bit = 1 then maxI 0 (up R 24 (R 24 + 1) (17 + k) - 1) else if z = true then minI 99 (up R 24 (R 24 + 1) (17 + k) + 1) else up R 24 (R 24 + 1) (17 + k))
def knkP (r : Nat → Int32) (k : Nat) (bit : Int32) (z : Bool) (c : Nat) : Nat → Int32 := knkE (va_cpy (three3 (r 0) (nI k) bit) r 0 (25 + 3 * c) 3) k bit z
def shB (r : Nat → Int32) : Nat → Int32 := up (va_cpy r r 28 25 117) 24 (va_cpy r r 28 25 117 24 - 1)
def knkR (r : Nat → Int32) (k : Nat) (bit : Int32) (z : Bool) (c : Nat) : Nat → Int32 := if c = 40 then knkP (shB r) k bit z 39 else knkP r k bit z c
theorem knock_end {s : Sg} {r : Nat → Int32} {k pg : Nat} (hk : k < 7) (bit : Int32) (z : Bool) : AW 64 mX0_knocking (hp (s.setA 515 r)) 97 [some (.ref 512), some (.int (nI k)), some (.ref 515), some (.int bit), some (.int (b2i z)), some (.ref pg)] [] (.inl (some (.int bit))) (hp (s.setA 515 (knkE r k bit z))) := by
  refine AW.aload_n dX0_knocking_97 rfl rfl ?_
  refine AW.bipush (v := 24) dX0_knocking_98 (by decide) rfl ?_
  refine AW.dup2 dX0_knocking_100 rfl rfl rfl ?_
  refine AW.iald dX0_knocking_101 gK (by first | exact vp_in_iff.mpr (by decide) | exact in1 17 k (by omega) (by decide)) (j := 24) (by decide) rfl ?_
  refine AW.iconst (v := 1) dX0_knocking_102 (by decide) rfl ?_
  refine AW.iadd dX0_knocking_103 rfl ?_
  refine AW.iast dX0_knocking_104 (by decide) gK (by first | exact vp_in_iff.mpr (by decide) | exact in1 17 k (by omega) (by decide)) (j := 24) (by decide) sK rfl ?_
  refine AW.aload_n dX0_knocking_105 rfl rfl ?_
  refine AW.bipush (v := 17) dX0_knocking_106 (by decide) rfl ?_
  refine AW.iload_n dX0_knocking_108 rfl rfl ?_
  refine AW.iadd dX0_knocking_109 rfl ?_
  refine AW.iload_n dX0_knocking_110 rfl rfl ?_
  refine AW.iconst (v := 1) dX0_knocking_111 (by decide) rfl ?_
  refine AW.icmp_ne (tgt := 130) dX0_knocking_112 (by decide) rfl (fun c112 => ?_) (fun c112 => ?_)
  · refine AW.iload dX0_knocking_130 rfl rfl ?_
    refine AW.if_eqB (tgt := 151) dX0_knocking_132 (by decide) rfl (fun c132 => ?_) (fun c132 => ?_)
    · refine AW.aload_n dX0_knocking_151 rfl rfl ?_
      refine AW.bipush (v := 17) dX0_knocking_152 (by decide) rfl ?_
      refine AW.iload_n dX0_knocking_154 rfl rfl ?_
      refine AW.iadd dX0_knocking_155 rfl ?_
      refine AW.iald dX0_knocking_156 gK (by first | exact vp_in_iff.mpr (by decide) | exact in1 17 k (by omega) (by decide)) (j := 17 + k) (at1 17 k (by omega)) rfl ?_
      refine AW.iast dX0_knocking_157 (by decide) gK (by first | exact vp_in_iff.mpr (by decide) | exact in1 17 k (by omega) (by decide)) (j := 17 + k) (at1 17 k (by omega)) sK rfl ?_
      refine AW.iload_n dX0_knocking_158 rfl rfl ?_
      exact AW.iretE dX0_knocking_159 rfl rfl rfl (congrArg (fun f => hp (s.setA 515 f)) (by unfold knkE; first | (rw [if_pos c112]; done) | (rw [if_neg c112, if_pos c132]; done) | (rw [if_neg c112, if_neg (by rw [c132]; decide)]; done) | (rw [if_neg c112, c132]; rfl) | (rw [if_pos (Decidable.of_not_not c112)]; done)))
    · refine AW.bipush (v := 99) dX0_knocking_135 (by decide) rfl ?_
      refine AW.aload_n dX0_knocking_137 rfl rfl ?_
      refine AW.bipush (v := 17) dX0_knocking_138 (by decide) rfl ?_
      refine AW.iload_n dX0_knocking_140 rfl rfl ?_
      refine AW.iadd dX0_knocking_141 rfl ?_
      refine AW.iald dX0_knocking_142 gK (by first | exact vp_in_iff.mpr (by decide) | exact in1 17 k (by omega) (by decide)) (j := 17 + k) (at1 17 k (by omega)) rfl ?_
      refine AW.iconst (v := 1) dX0_knocking_143 (by decide) rfl ?_
      refine AW.iadd dX0_knocking_144 rfl ?_
      refine AW.mmin dX0_knocking_145 q975 q452 q151 q453 (by decide) (Nat.le_of_ble_eq_true rfl) rfl ?_
      refine AW.goto (tgt := 157) dX0_knocking_148 (by decide) ?_
      refine AW.iast dX0_knocking_157 (by decide) gK (by first | exact vp_in_iff.mpr (by decide) | exact in1 17 k (by omega) (by decide)) (j := 17 + k) (at1 17 k (by omega)) sK rfl ?_
      refine AW.iload_n dX0_knocking_158 rfl rfl ?_
      exact AW.iretE dX0_knocking_159 rfl rfl rfl (congrArg (fun f => hp (s.setA 515 f)) (by unfold knkE; first | (rw [if_pos c112]; done) | (rw [if_neg c112, if_pos c132]; done) | (rw [if_neg c112, if_neg (by rw [c132]; decide)]; done) | (rw [if_neg c112, c132]; rfl) | (rw [if_pos (Decidable.of_not_not c112)]; done)))
  · refine AW.iconst (v := 0) dX0_knocking_115 (by decide) rfl ?_
    refine AW.aload_n dX0_knocking_116 rfl rfl ?_
    refine AW.bipush (v := 17) dX0_knocking_117 (by decide) rfl ?_
    refine AW.iload_n dX0_knocking_119 rfl rfl ?_
    refine AW.iadd dX0_knocking_120 rfl ?_
    refine AW.iald dX0_knocking_121 gK (by first | exact vp_in_iff.mpr (by decide) | exact in1 17 k (by omega) (by decide)) (j := 17 + k) (at1 17 k (by omega)) rfl ?_
    refine AW.iconst (v := 1) dX0_knocking_122 (by decide) rfl ?_
    refine AW.isub dX0_knocking_123 rfl ?_
    refine AW.mmax dX0_knocking_124 q970 q667 q151 q668 (by decide) (Nat.le_of_ble_eq_true rfl) rfl ?_
    refine AW.goto (tgt := 157) dX0_knocking_127 (by decide) ?_
    refine AW.iast dX0_knocking_157 (by decide) gK (by first | exact vp_in_iff.mpr (by decide) | exact in1 17 k (by omega) (by decide)) (j := 17 + k) (at1 17 k (by omega)) sK rfl ?_
    refine AW.iload_n dX0_knocking_158 rfl rfl ?_
    exact AW.iretE dX0_knocking_159 rfl rfl rfl (congrArg (fun f => hp (s.setA 515 f)) (by unfold knkE; first | (rw [if_pos c112]; done) | (rw [if_neg c112, if_pos c132]; done) | (rw [if_neg c112, if_neg (by rw [c132]; decide)]; done) | (rw [if_neg c112, c132]; rfl) | (rw [if_pos (Decidable.of_not_not c112)]; done)))
theorem knock_tail {s : Sg} {r : Nat → Int32} (hb : 128 ≤ s.b.n) {k : Nat} (hk : k < 7) {c : Nat} (hc : r 24 = nI c) (hc40 : c < 40) (bit : Int32) (z : Bool) : AW 64 mX0_knocking (hp (s.setA 515 r)) 61 [some (.ref 512), some (.int (nI k)), some (.ref 515), some (.int bit), some (.int (b2i z)), none] [] (.inl (some (.int bit))) (hp ((s.setb (s.b.push (ia 3 (three3 (r 0) (nI k) bit)) 3)).setA 515 (knkP r k bit z c))) := by
  have hU : (hp ((s.setb (s.b.push (ia 3 (three3 (r 0) (nI k) bit)) 3)).setA 515 r)).g (512 + s.b.n) = some (ia 3 (three3 (r 0) (nI k) bit)) := hp_pg (s := s.setA 515 r) hb
  have hdp : (25 + 3 * r 24 : Int32) = nI (25 + 3 * c) := by rw [hc]; exact pg
  have hcl : (25 + 3 * r 24 : Int32).toNatClampNeg = 25 + 3 * c := by rw [hdp]; exact cI_nI (by omega)
  have hnn : ¬ (25 + 3 * r 24 : Int32) < 0 := by rw [hdp]; exact nI_pos (by omega)
  refine AW.iconst (v := 3) dX0_knocking_61 (by decide) rfl ?_
  refine AW.newa (t := 0) (ty := .int) (dv := .int 0) (N := 3) dX0_knocking_62 rfl (fun _ => rfl) (fun _ _ q => q) rfl (fun _ => rfl) q215 (by decide) (by decide) (by decide) (hp_push (s := s.setA 515 r) hb) rfl ?_
  refine AW.dup dX0_knocking_64 rfl rfl ?_
  refine AW.iconst (v := 0) dX0_knocking_65 (by decide) rfl ?_
  refine AW.aload_n dX0_knocking_66 rfl rfl ?_
  refine AW.iconst (v := 0) dX0_knocking_67 (by decide) rfl ?_
  refine AW.iald dX0_knocking_68 gK (by first | exact vp_in_iff.mpr (by decide) | exact in1 17 k (by omega) (by decide)) (j := 0) (by decide) rfl ?_
  refine AW.iast dX0_knocking_69 (by omega) (hp_pg (s := s.setA 515 r) hb) (by first | exact vp_in_iff.mpr (by decide) | exact in1 17 k (by omega) (by decide)) (j := 0) (by decide) (hp_pset (s := s.setA 515 r) hb) rfl ?_
  refine AW.dup dX0_knocking_70 rfl rfl ?_
  refine AW.iconst (v := 1) dX0_knocking_71 (by decide) rfl ?_
  refine AW.iload_n dX0_knocking_72 rfl rfl ?_
  refine AW.iast dX0_knocking_73 (by omega) (hp_pg (s := s.setA 515 r) hb) (by first | exact vp_in_iff.mpr (by decide) | exact in1 17 k (by omega) (by decide)) (j := 1) (by decide) (hp_pset (s := s.setA 515 r) hb) rfl ?_
  refine AW.dup dX0_knocking_74 rfl rfl ?_
  refine AW.iconst (v := 2) dX0_knocking_75 (by decide) rfl ?_
  refine AW.iload_n dX0_knocking_76 rfl rfl ?_
  refine AW.iast dX0_knocking_77 (by omega) (hp_pg (s := s.setA 515 r) hb) (by first | exact vp_in_iff.mpr (by decide) | exact in1 17 k (by omega) (by decide)) (j := 2) (by decide) (hp_pset (s := s.setA 515 r) hb) rfl ?_
  refine AW.hp (h2 := hp ((s.setb (s.b.push (ia 3 (three3 (r 0) (nI k) bit)) 3)).setA 515 r)) rfl ?_
  refine AW.astore dX0_knocking_78 rfl (Nat.le_of_ble_eq_true rfl) rfl rfl ?_
  refine AW.aload dX0_knocking_80 rfl rfl ?_
  refine AW.iconst (v := 0) dX0_knocking_82 (by decide) rfl ?_
  refine AW.aload_n dX0_knocking_83 rfl rfl ?_
  refine AW.bipush (v := 25) dX0_knocking_84 (by decide) rfl ?_
  refine AW.iconst (v := 3) dX0_knocking_86 (by decide) rfl ?_
  refine AW.aload_n dX0_knocking_87 rfl rfl ?_
  refine AW.bipush (v := 24) dX0_knocking_88 (by decide) rfl ?_
  refine AW.iald dX0_knocking_90 gK (by first | exact vp_in_iff.mpr (by decide) | exact in1 17 k (by omega) (by decide)) (j := 24) (by decide) rfl ?_
  refine AW.imul dX0_knocking_91 rfl ?_
  refine AW.iadd dX0_knocking_92 rfl ?_
  refine AW.iconst (v := 3) dX0_knocking_93 (by decide) rfl ?_
  refine AW.copyi dX0_knocking_94 q1031 q225 q224 q140 hU (by decide) gK (by decide) hnn (by decide) (by decide) (by rw [hcl]; show 25 + 3 * c + 3 ≤ 145; omega) (by decide) (Nat.le_of_ble_eq_true rfl) (h3 := hp ((s.setb (s.b.push (ia 3 (three3 (r 0) (nI k) bit)) 3)).setA 515 (va_cpy (three3 (r 0) (nI k) bit) r 0 (25 + 3 * c) 3))) (by rw [hcl]; exact sK) rfl ?_
  exact knock_end hk bit z
theorem knock_mid {s : Sg} {r : Nat → Int32} (hb : 128 ≤ s.b.n) {k : Nat} (hk : k < 7) {c : Nat} (hc : r 24 = nI c) (hc40 : c ≤ 40) (bit : Int32) (z : Bool) : ∃ b2, Ext 1 3 s.b b2 ∧ AW 64 mX0_knocking (hp (s.setA 515 r)) 33 [some (.ref 512), some (.int (nI k)), some (.ref 515), some (.int bit), some (.int (b2i z)), none] [] (.inl (some (.int bit))) (hp ((s.setb b2).setA 515 (knkR r k bit z c))) := by
  unfold knkR
  by_cases h40 : c = 40
  · subst h40
    rw [if_pos rfl]
    refine ⟨s.b.push (ia 3 (three3 (shB r 0) (nI k) bit)) 3, Ext.push, ?_⟩
    refine AW.aload_n dX0_knocking_33 rfl rfl ?_
    refine AW.bipush (v := 24) dX0_knocking_34 (by decide) rfl ?_
    refine AW.iald dX0_knocking_36 gK (by first | exact vp_in_iff.mpr (by decide) | exact in1 17 k (by omega) (by decide)) (j := 24) (by decide) rfl ?_
    refine AW.bipush (v := 40) dX0_knocking_37 (by decide) rfl ?_
    refine AW.icmp_ne (tgt := 61) dX0_knocking_39 (by decide) rfl (fun c_ => by first | exact absurd c_ hc | exact absurd hc c_ | exact Bool.noConfusion (c_.symm.trans hc)) (fun _ => ?_)
    refine AW.aload_n dX0_knocking_42 rfl rfl ?_
    refine AW.bipush (v := 28) dX0_knocking_43 (by decide) rfl ?_
    refine AW.aload_n dX0_knocking_45 rfl rfl ?_
    refine AW.bipush (v := 25) dX0_knocking_46 (by decide) rfl ?_
    refine AW.bipush (v := 117) dX0_knocking_48 (by decide) rfl ?_
    refine AW.copyi dX0_knocking_50 q1031 q225 q224 q140 gK (by decide) gK (by decide) (by decide) (by decide) (by decide) (by decide) (by decide) (Nat.le_of_ble_eq_true rfl) (h3 := hp (s.setA 515 (va_cpy r r 28 25 117))) sK rfl ?_
    refine AW.aload_n dX0_knocking_53 rfl rfl ?_
    refine AW.bipush (v := 24) dX0_knocking_54 (by decide) rfl ?_
    refine AW.dup2 dX0_knocking_56 rfl rfl rfl ?_
    refine AW.iald dX0_knocking_57 gK (by first | exact vp_in_iff.mpr (by decide) | exact in1 17 k (by omega) (by decide)) (j := 24) (by decide) rfl ?_
    refine AW.iconst (v := 1) dX0_knocking_58 (by decide) rfl ?_
    refine AW.isub dX0_knocking_59 rfl ?_
    refine AW.iast dX0_knocking_60 (by decide) gK (by first | exact vp_in_iff.mpr (by decide) | exact in1 17 k (by omega) (by decide)) (j := 24) (by decide) sK rfl ?_
    refine knock_tail (r := shB r) hb hk (c := 39) ?_ (by decide) bit z
    show shB r 24 = nI 39
    unfold shB
    rw [up_eq, show va_cpy r r 28 25 117 24 = r 24 from if_neg (by omega), hc]
    rfl
  · rw [if_neg h40]
    refine ⟨s.b.push (ia 3 (three3 (r 0) (nI k) bit)) 3, Ext.push, ?_⟩
    refine AW.aload_n dX0_knocking_33 rfl rfl ?_
    refine AW.bipush (v := 24) dX0_knocking_34 (by decide) rfl ?_
    refine AW.iald dX0_knocking_36 gK (by first | exact vp_in_iff.mpr (by decide) | exact in1 17 k (by omega) (by decide)) (j := 24) (by decide) rfl ?_
    refine AW.bipush (v := 40) dX0_knocking_37 (by decide) rfl ?_
    refine AW.icmp_ne (tgt := 61) dX0_knocking_39 (by decide) rfl (fun _ => ?_) (fun c_ => by first | exact absurd c_ (by rw [hc]; exact nI_ne (by omega) (by decide) h40) | exact absurd (by rw [hc]; exact nI_ne (by omega) (by decide) h40) c_ | exact absurd c_ (not_not_intro (by rw [hc]; exact nI_ne (by omega) (by decide) h40)) | exact Bool.noConfusion (c_.symm.trans (by rw [hc]; exact nI_ne (by omega) (by decide) h40)))
    exact knock_tail hb hk hc (by omega) bit z
theorem r_X0_knocking {s : Sg} (hb : 128 ≤ s.b.n) (hn : (vwS (s.A 514) (s.A 515)).ok) {a : Nat} {L : Lw} (hR : Rl s a L) {k : Nat} (hh : (vwS (s.A 514) (s.A 515)).hou (nI k) = true) (hk : k < 7) {c : Nat} (hc : s.A 515 24 = nI c) (hc40 : c ≤ 40) : RX (QX (s.setA 515 (knkR (s.A 515) k (shutI (s.A 515 (3 + k)) (s.A 515 0 % 20)) (letX L (vwS (s.A 514) (s.A 515)) (nI k) (s.A 515 0)) c)) 1 3) 64 mX0_knocking [.ref 512, .int (nI k)] (hp s) (some (.int (shutI (s.A 515 (3 + k)) (s.A 515 0 % 20)))) := by
  refine RX.of rfl (Nat.le_of_ble_eq_true rfl) rfl ?_
  refine AX.map (fun _ k_ => AW.aload_n dX0_knocking_0 rfl rfl k_) ?_
  refine AX.map (fun _ k_ => AW.get ci0 0 (by decide) q229 dX0_knocking_1 gX rfl rfl k_) ?_
  refine AX.map (fun _ k_ => AW.getN ci1 1 (by decide) q193 dX0_knocking_4 gN rfl rfl k_) ?_
  refine AX.map (fun _ k_ => AW.astore_n (i := 2) dX0_knocking_7 rfl rfl (Nat.le_of_ble_eq_true rfl) rfl rfl k_) ?_
  refine AX.map (fun _ k_ => AW.aload_n dX0_knocking_8 rfl rfl k_) ?_
  refine AX.map (fun _ k_ => AW.iconst (v := 3) dX0_knocking_9 (by decide) rfl k_) ?_
  refine AX.map (fun _ k_ => AW.iload_n dX0_knocking_10 rfl rfl k_) ?_
  refine AX.map (fun _ k_ => AW.iadd dX0_knocking_11 rfl k_) ?_
  refine AX.map (fun _ k_ => AW.iald dX0_knocking_12 g515 (by first | exact vp_in_iff.mpr (by decide) | exact in1 3 k (by omega) (by decide)) (j := 3 + k) (at1 3 k (by omega)) rfl k_) ?_
  refine AX.map (fun _ k_ => AW.aload_n dX0_knocking_13 rfl rfl k_) ?_
  refine AX.map (fun _ k_ => AW.callS (Y := mX0_date) (n := 1) (r_X0_date) (by decide) (by decide) q870 q871 q138 q872 dX0_knocking_14 (by decide +kernel) rfl rfl (Nat.le_of_ble_eq_true rfl) rfl k_) ?_
  refine AX.map (fun _ k_ => AW.ishr dX0_knocking_17 rfl k_) ?_
  refine AX.map (fun _ k_ => AW.iconst (v := 1) dX0_knocking_18 (by decide) rfl k_) ?_
  refine AX.map (fun _ k_ => AW.iand dX0_knocking_19 rfl k_) ?_
  refine AX.map (fun _ k_ => AW.istore_n (i := 3) dX0_knocking_20 rfl rfl (Nat.le_of_ble_eq_true rfl) rfl rfl k_) ?_
  refine AX.map (fun _ k_ => AW.aload_n dX0_knocking_21 rfl rfl k_) ?_
  refine AX.map (fun _ k_ => AW.aload_n dX0_knocking_22 rfl rfl k_) ?_
  refine AX.map (fun _ k_ => AW.callV (Y := mX0_rules) (n := 0) (r_X0_rules hR.1) (by decide) (by decide) rfl gX q854 q856 qs24 q138 q857 dX0_knocking_23 (by decide +kernel) rfl rfl (Nat.le_of_ble_eq_true rfl) rfl k_) ?_
  refine AX.map (fun _ k_ => AW.aload_n dX0_knocking_26 rfl rfl k_) ?_
  refine AX.map (fun _ k_ => AW.iload_n dX0_knocking_27 rfl rfl k_) ?_
  obtain ⟨_, ⟨t, et, xt, rfl⟩, w⟩ := q_letsBy hn hR.2.1 hR.2.2 (nI k) hh
  refine AX.map (fun _ k_ => AW.callV (Y := mX0_letsBy) (n := 3) (w) (by decide) (by decide) rfl gX q988 q990 qs35 q138 q991 dX0_knocking_28 (by decide +kernel) rfl rfl (Nat.le_of_ble_eq_true rfl) rfl k_) ?_
  refine AX.map (fun _ k_ => AW.istore dX0_knocking_31 rfl (Nat.le_of_ble_eq_true rfl) rfl rfl k_) ?_
  have bn : t.b.n = s.b.n := by have := xt.1; have := xt.2.1; omega
  have e5 : t.A 515 = s.A 515 := et.A (by decide) (by decide)
  obtain ⟨b2, xb, kk⟩ := knock_mid (s := t) (r := s.A 515) (by omega) hk hc hc40 (shutI (s.A 515 (3 + k)) (s.A 515 0 % 20)) (letX L (vwS (s.A 514) (s.A 515)) (nI k) (s.A 515 0))
  refine ⟨hp ((t.setb b2).setA 515 (knkR (s.A 515) k (shutI (s.A 515 (3 + k)) (s.A 515 0 % 20)) (letX L (vwS (s.A 514) (s.A 515)) (nI k) (s.A 515 0)) c)), ⟨_, (et.trans EqX.sb).set 515 _, (xt.trans xb).mono (by decide) (by decide), rfl⟩, ?_⟩
  exact AW.hp (h2 := hp (t.setA 515 (s.A 515))) (by rw [← e5, setA_id]) kk
