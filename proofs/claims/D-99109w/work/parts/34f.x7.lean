/-! SYSTEM 7: what is told: gossip, dates seen, houses; what is fed (printed by tools/x7.py) -/
set_option maxRecDepth 100000
theorem hp_push {s : Sg} {c : AC} {w : Nat} (hb : 128 ≤ s.b.n) : (hp s).push c w = hp (s.setb (s.b.push c w)) := by
  refine congrArg (fun z => (s.b.n + 1, s.b.u + w, z)) (funext fun j => ?_)
  show (if j = 512 + s.b.n then some c else if isFx j = true then some (fx s j) else s.b.g j) = (if isFx j = true then some (fx s j) else if j = 512 + s.b.n then some c else s.b.g j)
  by_cases h : j = 512 + s.b.n
  · rw [if_pos h, if_neg (by rw [nfx (by omega)]; exact Bool.false_ne_true), if_pos h]
  · rw [if_neg h, if_neg h]
theorem hp_set6 {s : Sg} {c : AC} {a : Nat} (ha : 640 ≤ a) : (hp s).set a c = hp (s.setb (s.b.set a c)) := by
  refine congrArg (fun z => (s.b.n, s.b.u, z)) (funext fun j => ?_)
  show (if j = a then some c else if isFx j = true then some (fx s j) else s.b.g j) = (if isFx j = true then some (fx s j) else if j = a then some c else s.b.g j)
  by_cases h : j = a
  · rw [if_pos h, if_neg (by rw [nfx (by omega)]; exact Bool.false_ne_true), if_pos h]
  · rw [if_neg h, if_neg h]
theorem push_set {b : AH} {c c1 : AC} {w : Nat} : (b.push c w).set (512 + b.n) c1 = b.push c1 w := by
  refine congrArg (fun z => (b.n + 1, b.u + w, z)) (funext fun j => ?_)
  show (if j = 512 + b.n then some c1 else if j = 512 + b.n then some c else b.g j) = (if j = 512 + b.n then some c1 else b.g j)
  split <;> rfl
theorem push_g {b : AH} {c : AC} {w : Nat} : (b.push c w).g (512 + b.n) = some c := if_pos rfl
theorem push_go {b : AH} {c : AC} {w k : Nat} (h : k ≠ 512 + b.n) : (b.push c w).g k = b.g k := if_neg h
theorem hp_pset {s : Sg} {c c1 : AC} {w : Nat} (hb : 128 ≤ s.b.n) : (hp (s.setb (s.b.push c w))).set (512 + s.b.n) c1 = hp (s.setb (s.b.push c1 w)) := (hp_set6 (by omega)).trans (congrArg (fun z => hp (s.setb z)) push_set)
theorem hp_pg {s : Sg} {c : AC} {w : Nat} (hb : 128 ≤ s.b.n) : (hp (s.setb (s.b.push c w))).g (512 + s.b.n) = some c := (hp_gb (nfx (by omega))).trans push_g
def two2 (x y : Int32) : Nat → Int32 := up (up (fun _ => 0) 0 x) 1 y
def three3 (x y z : Int32) : Nat → Int32 := up (two2 x y) 2 z
theorem r_X0_gossip_0 {s : Sg} (e : Int32) : Run 2 mX0_gossip [.ref 512, .int (-1), .int e] (hp s) (.inl (some (.int (0)))) (hp (s.setA 514 (up (s.A 514) 5 0))) := by
  refine Run.of rfl (Nat.le_of_ble_eq_true rfl) rfl ?_
  refine AW.iload_n dX0_gossip_0 rfl rfl ?_
  refine AW.iconst (v := (-1)) dX0_gossip_1 (by decide) rfl ?_
  refine AW.icmp_ne (tgt := 14) dX0_gossip_2 (by decide) rfl (fun c_ => by first | exact absurd c_ (by decide) | exact absurd (by decide) c_ | exact Bool.noConfusion (c_.symm.trans (by decide))) (fun _ => ?_)
  refine AW.aload_n dX0_gossip_5 rfl rfl ?_
  refine AW.get ci0 0 (by decide) q229 dX0_gossip_6 gX rfl rfl ?_
  refine AW.iconst (v := 5) dX0_gossip_9 (by decide) rfl ?_
  refine AW.callV (Y := mX1_clears) (n := 1) (r_X1_clears_gossip) (by decide) (by decide) rfl gN q1181 q1182 q1183 q139 q1184 dX0_gossip_10 (by decide +kernel) rfl rfl (Nat.le_of_ble_eq_true rfl) rfl ?_
  exact AW.iretE dX0_gossip_13 rfl rfl rfl rfl
theorem r_X0_gossip_f {s : Sg} (h e : Int32) (h0 : ¬ h = -1) (hnb : ¬ ((vwS (s.A 514) (s.A 515)).hou h = true ∧ (vwS (s.A 514) (s.A 515)).hou e = true ∧ ¬ h = e ∧ ¬ s.A 514 5 = 8)) : Run 3 mX0_gossip [.ref 512, .int h, .int e] (hp s) (.inl (some (.int (-2)))) (hp s) := by
  refine Run.of rfl (Nat.le_of_ble_eq_true rfl) rfl ?_
  refine AW.iload_n dX0_gossip_0 rfl rfl ?_
  refine AW.iconst (v := (-1)) dX0_gossip_1 (by decide) rfl ?_
  refine AW.icmp_ne (tgt := 14) dX0_gossip_2 (by decide) rfl (fun _ => ?_) (fun c_ => by first | exact absurd c_ h0 | exact absurd h0 c_ | exact absurd c_ (not_not_intro h0) | exact Bool.noConfusion (c_.symm.trans h0))
  refine AW.aload_n dX0_gossip_14 rfl rfl ?_
  refine AW.iload_n dX0_gossip_15 rfl rfl ?_
  refine AW.callV (Y := mX0_isHouse) (n := 1) (r_X0_isHouse (r := s.A 515) _) (by decide) (by decide) rfl gX q895 q897 qs30 q138 q898 dX0_gossip_16 (by decide +kernel) rfl rfl (Nat.le_of_ble_eq_true rfl) rfl ?_
  refine AW.if_eqB (tgt := 49) dX0_gossip_19 (by decide) rfl (fun c1 => ?_) (fun c1 => ?_)
  · refine AW.bipush (v := (-2)) dX0_gossip_49 (by decide) rfl ?_
    exact AW.iretE dX0_gossip_51 rfl rfl rfl rfl
  · refine AW.aload_n dX0_gossip_22 rfl rfl ?_
    refine AW.iload_n dX0_gossip_23 rfl rfl ?_
    refine AW.callV (Y := mX0_isHouse) (n := 1) (r_X0_isHouse (r := s.A 515) _) (by decide) (by decide) rfl gX q895 q897 qs30 q138 q898 dX0_gossip_24 (by decide +kernel) rfl rfl (Nat.le_of_ble_eq_true rfl) rfl ?_
    refine AW.if_eqB (tgt := 49) dX0_gossip_27 (by decide) rfl (fun c2 => ?_) (fun c2 => ?_)
    · refine AW.bipush (v := (-2)) dX0_gossip_49 (by decide) rfl ?_
      exact AW.iretE dX0_gossip_51 rfl rfl rfl rfl
    · refine AW.iload_n dX0_gossip_30 rfl rfl ?_
      refine AW.iload_n dX0_gossip_31 rfl rfl ?_
      refine AW.icmp_eq (tgt := 49) dX0_gossip_32 (by decide) rfl (fun c3 => ?_) (fun c3 => ?_)
      · refine AW.bipush (v := (-2)) dX0_gossip_49 (by decide) rfl ?_
        exact AW.iretE dX0_gossip_51 rfl rfl rfl rfl
      · refine AW.aload_n dX0_gossip_35 rfl rfl ?_
        refine AW.get ci0 0 (by decide) q229 dX0_gossip_36 gX rfl rfl ?_
        refine AW.getN ci1 0 (by decide) q191 dX0_gossip_39 gN rfl rfl ?_
        refine AW.iconst (v := 5) dX0_gossip_42 (by decide) rfl ?_
        refine AW.iald dX0_gossip_43 g514 (vp_in_iff.mpr (by decide)) (j := 5) (by decide) rfl ?_
        refine AW.bipush (v := 8) dX0_gossip_44 (by decide) rfl ?_
        refine AW.icmp_ne (tgt := 52) dX0_gossip_46 (by decide) rfl (fun c4 => ?_) (fun c4 => ?_)
        · exact absurd ⟨c1, c2, c3, c4⟩ hnb
        · refine AW.bipush (v := (-2)) dX0_gossip_49 (by decide) rfl ?_
          exact AW.iretE dX0_gossip_51 rfl rfl rfl rfl
theorem r_X0_gossip_t {s : Sg} (hb : 128 ≤ s.b.n) (h e : Int32) (c : Nat) (h0 : ¬ h = -1) (h1 : (vwS (s.A 514) (s.A 515)).hou h = true) (h2 : (vwS (s.A 514) (s.A 515)).hou e = true) (h3 : ¬ h = e) (h4 : s.A 514 5 = nI c) (h5 : c < 8) : Run 4 mX0_gossip [.ref 512, .int h, .int e] (hp s) (.inl (some (.int (nI c + 1)))) (hp (((s.setb (s.b.push (ia 2 (two2 h e)) 2)).setA (526 + c) (mv0 (s.A (526 + c)) (two2 h e) 2)).setA 514 (up (s.A 514) 5 (nI c + 1)))) := by
  have h8 : ¬ s.A 514 5 = 8 := by rw [h4]; exact (nI_ne (b := 8) (by omega) (by omega) (by omega))
  refine Run.of rfl (Nat.le_of_ble_eq_true rfl) rfl ?_
  refine AW.iload_n dX0_gossip_0 rfl rfl ?_
  refine AW.iconst (v := (-1)) dX0_gossip_1 (by decide) rfl ?_
  refine AW.icmp_ne (tgt := 14) dX0_gossip_2 (by decide) rfl (fun _ => ?_) (fun c_ => by first | exact absurd c_ h0 | exact absurd h0 c_ | exact absurd c_ (not_not_intro h0) | exact Bool.noConfusion (c_.symm.trans h0))
  refine AW.aload_n dX0_gossip_14 rfl rfl ?_
  refine AW.iload_n dX0_gossip_15 rfl rfl ?_
  refine AW.callV (Y := mX0_isHouse) (n := 1) (r_X0_isHouse (r := s.A 515) _) (by decide) (by decide) rfl gX q895 q897 qs30 q138 q898 dX0_gossip_16 (by decide +kernel) rfl rfl (Nat.le_of_ble_eq_true rfl) rfl ?_
  refine AW.if_eqB (tgt := 49) dX0_gossip_19 (by decide) rfl (fun c_ => by first | exact absurd c_ h1 | exact absurd h1 c_ | exact Bool.noConfusion (c_.symm.trans h1)) (fun _ => ?_)
  refine AW.aload_n dX0_gossip_22 rfl rfl ?_
  refine AW.iload_n dX0_gossip_23 rfl rfl ?_
  refine AW.callV (Y := mX0_isHouse) (n := 1) (r_X0_isHouse (r := s.A 515) _) (by decide) (by decide) rfl gX q895 q897 qs30 q138 q898 dX0_gossip_24 (by decide +kernel) rfl rfl (Nat.le_of_ble_eq_true rfl) rfl ?_
  refine AW.if_eqB (tgt := 49) dX0_gossip_27 (by decide) rfl (fun c_ => by first | exact absurd c_ h2 | exact absurd h2 c_ | exact Bool.noConfusion (c_.symm.trans h2)) (fun _ => ?_)
  refine AW.iload_n dX0_gossip_30 rfl rfl ?_
  refine AW.iload_n dX0_gossip_31 rfl rfl ?_
  refine AW.icmp_eq (tgt := 49) dX0_gossip_32 (by decide) rfl (fun c_ => by first | exact absurd c_ h3 | exact absurd h3 c_ | exact Bool.noConfusion (c_.symm.trans h3)) (fun _ => ?_)
  refine AW.aload_n dX0_gossip_35 rfl rfl ?_
  refine AW.get ci0 0 (by decide) q229 dX0_gossip_36 gX rfl rfl ?_
  refine AW.getN ci1 0 (by decide) q191 dX0_gossip_39 gN rfl rfl ?_
  refine AW.iconst (v := 5) dX0_gossip_42 (by decide) rfl ?_
  refine AW.iald dX0_gossip_43 g514 (vp_in_iff.mpr (by decide)) (j := 5) (by decide) rfl ?_
  refine AW.bipush (v := 8) dX0_gossip_44 (by decide) rfl ?_
  refine AW.icmp_ne (tgt := 52) dX0_gossip_46 (by decide) rfl (fun _ => ?_) (fun c_ => by first | exact absurd c_ h8 | exact absurd h8 c_ | exact absurd c_ (not_not_intro h8) | exact Bool.noConfusion (c_.symm.trans h8))
  refine AW.iconst (v := 2) dX0_gossip_52 (by decide) rfl ?_
  refine AW.newa (t := 0) (ty := .int) (dv := .int 0) (N := 2) dX0_gossip_53 rfl (fun _ => rfl) (fun _ _ q => q) rfl (fun _ => rfl) q215 (by decide) (by decide) (by decide) (hp_push hb) rfl ?_
  refine AW.dup dX0_gossip_55 rfl rfl ?_
  refine AW.iconst (v := 0) dX0_gossip_56 (by decide) rfl ?_
  refine AW.iload_n dX0_gossip_57 rfl rfl ?_
  refine AW.iast dX0_gossip_58 (by omega) (hp_pg hb) (vp_in_iff.mpr (by decide)) (j := 0) (by decide) (hp_pset hb) rfl ?_
  refine AW.dup dX0_gossip_59 rfl rfl ?_
  refine AW.iconst (v := 1) dX0_gossip_60 (by decide) rfl ?_
  refine AW.iload_n dX0_gossip_61 rfl rfl ?_
  refine AW.iast dX0_gossip_62 (by omega) (hp_pg hb) (vp_in_iff.mpr (by decide)) (j := 1) (by decide) (hp_pset hb) rfl ?_
  refine AW.astore_n (i := 3) dX0_gossip_63 rfl rfl (Nat.le_of_ble_eq_true rfl) rfl rfl ?_
  refine AW.aload_n dX0_gossip_64 rfl rfl ?_
  refine AW.get ci0 0 (by decide) q229 dX0_gossip_65 gX rfl rfl ?_
  refine AW.aload_n dX0_gossip_68 rfl rfl ?_
  refine AW.get ci0 0 (by decide) q229 dX0_gossip_69 gX rfl rfl ?_
  refine AW.getN ci1 3 (by decide) q197 dX0_gossip_72 gN rfl rfl ?_
  refine AW.iconst (v := 5) dX0_gossip_75 (by decide) rfl ?_
  refine AW.aload_n dX0_gossip_76 rfl rfl ?_
  refine AW.callV (Y := mX1_adds) (n := 3) (r_X1_adds_gossip (s := (s.setb (s.b.push (ia 2 (two2 h e)) 2))) (f := two2 h e) c h4 h5 (hp_pg hb)) (by decide) (by decide) rfl gN q1185 q1186 q1187 q139 q1188 dX0_gossip_77 (by decide +kernel) rfl rfl (Nat.le_of_ble_eq_true rfl) rfl ?_
  exact AW.iretE dX0_gossip_80 rfl rfl rfl rfl
theorem r_X0_seen_0 {s : Sg} (e z : Int32) : Run 2 mX0_seen [.ref 512, .int (-1), .int e, .int z] (hp s) (.inl (some (.int (0)))) (hp (s.setA 514 (up (s.A 514) 4 0))) := by
  refine Run.of rfl (Nat.le_of_ble_eq_true rfl) rfl ?_
  refine AW.iload_n dX0_seen_0 rfl rfl ?_
  refine AW.iconst (v := (-1)) dX0_seen_1 (by decide) rfl ?_
  refine AW.icmp_ne (tgt := 14) dX0_seen_2 (by decide) rfl (fun c_ => by first | exact absurd c_ (by decide) | exact absurd (by decide) c_ | exact Bool.noConfusion (c_.symm.trans (by decide))) (fun _ => ?_)
  refine AW.aload_n dX0_seen_5 rfl rfl ?_
  refine AW.get ci0 0 (by decide) q229 dX0_seen_6 gX rfl rfl ?_
  refine AW.iconst (v := 4) dX0_seen_9 (by decide) rfl ?_
  refine AW.callV (Y := mX1_clears) (n := 1) (r_X1_clears_seen) (by decide) (by decide) rfl gN q1181 q1182 q1183 q139 q1184 dX0_seen_10 (by decide +kernel) rfl rfl (Nat.le_of_ble_eq_true rfl) rfl ?_
  exact AW.iretE dX0_seen_13 rfl rfl rfl rfl
theorem r_X0_seen_f {s : Sg} (h e z : Int32) (h0 : ¬ h = -1) (hnb : ¬ ((vwS (s.A 514) (s.A 515)).hou h = true ∧ inI e 0 19 = true ∧ ¬ s.A 514 4 = 8)) : Run 3 mX0_seen [.ref 512, .int h, .int e, .int z] (hp s) (.inl (some (.int (-2)))) (hp s) := by
  refine Run.of rfl (Nat.le_of_ble_eq_true rfl) rfl ?_
  refine AW.iload_n dX0_seen_0 rfl rfl ?_
  refine AW.iconst (v := (-1)) dX0_seen_1 (by decide) rfl ?_
  refine AW.icmp_ne (tgt := 14) dX0_seen_2 (by decide) rfl (fun _ => ?_) (fun c_ => by first | exact absurd c_ h0 | exact absurd h0 c_ | exact absurd c_ (not_not_intro h0) | exact Bool.noConfusion (c_.symm.trans h0))
  refine AW.aload_n dX0_seen_14 rfl rfl ?_
  refine AW.iload_n dX0_seen_15 rfl rfl ?_
  refine AW.callV (Y := mX0_isHouse) (n := 1) (r_X0_isHouse (r := s.A 515) _) (by decide) (by decide) rfl gX q895 q897 qs30 q138 q898 dX0_seen_16 (by decide +kernel) rfl rfl (Nat.le_of_ble_eq_true rfl) rfl ?_
  refine AW.if_eqB (tgt := 43) dX0_seen_19 (by decide) rfl (fun c1 => ?_) (fun c1 => ?_)
  · refine AW.bipush (v := (-2)) dX0_seen_43 (by decide) rfl ?_
    exact AW.iretE dX0_seen_45 rfl rfl rfl rfl
  · refine AW.iload_n dX0_seen_22 rfl rfl ?_
    refine AW.callS (Y := mX0_isDate) (n := 1) (r_X0_isDate _) (by decide) (by decide) q1064 q1065 q138 q1066 dX0_seen_23 (by decide +kernel) rfl rfl (Nat.le_of_ble_eq_true rfl) rfl ?_
    refine AW.if_eqB (tgt := 43) dX0_seen_26 (by decide) rfl (fun c2 => ?_) (fun c2 => ?_)
    · refine AW.bipush (v := (-2)) dX0_seen_43 (by decide) rfl ?_
      exact AW.iretE dX0_seen_45 rfl rfl rfl rfl
    · refine AW.aload_n dX0_seen_29 rfl rfl ?_
      refine AW.get ci0 0 (by decide) q229 dX0_seen_30 gX rfl rfl ?_
      refine AW.getN ci1 0 (by decide) q191 dX0_seen_33 gN rfl rfl ?_
      refine AW.iconst (v := 4) dX0_seen_36 (by decide) rfl ?_
      refine AW.iald dX0_seen_37 g514 (vp_in_iff.mpr (by decide)) (j := 4) (by decide) rfl ?_
      refine AW.bipush (v := 8) dX0_seen_38 (by decide) rfl ?_
      refine AW.icmp_ne (tgt := 46) dX0_seen_40 (by decide) rfl (fun c4 => ?_) (fun c4 => ?_)
      · exact absurd ⟨c1, c2, c4⟩ hnb
      · refine AW.bipush (v := (-2)) dX0_seen_43 (by decide) rfl ?_
        exact AW.iretE dX0_seen_45 rfl rfl rfl rfl
theorem r_X0_seen_t {s : Sg} (hb : 128 ≤ s.b.n) (h e z : Int32) (c : Nat) (h0 : ¬ h = -1) (h1 : (vwS (s.A 514) (s.A 515)).hou h = true) (h2 : inI e 0 19 = true) (h4 : s.A 514 4 = nI c) (h5 : c < 8) : Run 4 mX0_seen [.ref 512, .int h, .int e, .int z] (hp s) (.inl (some (.int (nI c + 1)))) (hp (((s.setb (s.b.push (ia 3 (three3 h e (if z = 0 then 0 else 1))) 3)).setA (517 + c) (mv0 (s.A (517 + c)) (three3 h e (if z = 0 then 0 else 1)) 3)).setA 514 (up (s.A 514) 4 (nI c + 1)))) := by
  have h8 : ¬ s.A 514 4 = 8 := by rw [h4]; exact (nI_ne (b := 8) (by omega) (by omega) (by omega))
  refine Run.of rfl (Nat.le_of_ble_eq_true rfl) rfl ?_
  refine AW.iload_n dX0_seen_0 rfl rfl ?_
  refine AW.iconst (v := (-1)) dX0_seen_1 (by decide) rfl ?_
  refine AW.icmp_ne (tgt := 14) dX0_seen_2 (by decide) rfl (fun _ => ?_) (fun c_ => by first | exact absurd c_ h0 | exact absurd h0 c_ | exact absurd c_ (not_not_intro h0) | exact Bool.noConfusion (c_.symm.trans h0))
  refine AW.aload_n dX0_seen_14 rfl rfl ?_
  refine AW.iload_n dX0_seen_15 rfl rfl ?_
  refine AW.callV (Y := mX0_isHouse) (n := 1) (r_X0_isHouse (r := s.A 515) _) (by decide) (by decide) rfl gX q895 q897 qs30 q138 q898 dX0_seen_16 (by decide +kernel) rfl rfl (Nat.le_of_ble_eq_true rfl) rfl ?_
  refine AW.if_eqB (tgt := 43) dX0_seen_19 (by decide) rfl (fun c_ => by first | exact absurd c_ h1 | exact absurd h1 c_ | exact Bool.noConfusion (c_.symm.trans h1)) (fun _ => ?_)
  refine AW.iload_n dX0_seen_22 rfl rfl ?_
  refine AW.callS (Y := mX0_isDate) (n := 1) (r_X0_isDate _) (by decide) (by decide) q1064 q1065 q138 q1066 dX0_seen_23 (by decide +kernel) rfl rfl (Nat.le_of_ble_eq_true rfl) rfl ?_
  refine AW.if_eqB (tgt := 43) dX0_seen_26 (by decide) rfl (fun c_ => by first | exact absurd c_ h2 | exact absurd h2 c_ | exact Bool.noConfusion (c_.symm.trans h2)) (fun _ => ?_)
  refine AW.aload_n dX0_seen_29 rfl rfl ?_
  refine AW.get ci0 0 (by decide) q229 dX0_seen_30 gX rfl rfl ?_
  refine AW.getN ci1 0 (by decide) q191 dX0_seen_33 gN rfl rfl ?_
  refine AW.iconst (v := 4) dX0_seen_36 (by decide) rfl ?_
  refine AW.iald dX0_seen_37 g514 (vp_in_iff.mpr (by decide)) (j := 4) (by decide) rfl ?_
  refine AW.bipush (v := 8) dX0_seen_38 (by decide) rfl ?_
  refine AW.icmp_ne (tgt := 46) dX0_seen_40 (by decide) rfl (fun _ => ?_) (fun c_ => by first | exact absurd c_ h8 | exact absurd h8 c_ | exact absurd c_ (not_not_intro h8) | exact Bool.noConfusion (c_.symm.trans h8))
  refine AW.iconst (v := 3) dX0_seen_46 (by decide) rfl ?_
  refine AW.newa (t := 0) (ty := .int) (dv := .int 0) (N := 3) dX0_seen_47 rfl (fun _ => rfl) (fun _ _ q => q) rfl (fun _ => rfl) q215 (by decide) (by decide) (by decide) (hp_push hb) rfl ?_
  refine AW.dup dX0_seen_49 rfl rfl ?_
  refine AW.iconst (v := 0) dX0_seen_50 (by decide) rfl ?_
  refine AW.iload_n dX0_seen_51 rfl rfl ?_
  refine AW.iast dX0_seen_52 (by omega) (hp_pg hb) (vp_in_iff.mpr (by decide)) (j := 0) (by decide) (hp_pset hb) rfl ?_
  refine AW.dup dX0_seen_53 rfl rfl ?_
  refine AW.iconst (v := 1) dX0_seen_54 (by decide) rfl ?_
  refine AW.iload_n dX0_seen_55 rfl rfl ?_
  refine AW.iast dX0_seen_56 (by omega) (hp_pg hb) (vp_in_iff.mpr (by decide)) (j := 1) (by decide) (hp_pset hb) rfl ?_
  refine AW.dup dX0_seen_57 rfl rfl ?_
  refine AW.iconst (v := 2) dX0_seen_58 (by decide) rfl ?_
  refine AW.iload_n dX0_seen_59 rfl rfl ?_
  refine AW.if_eq (tgt := 67) dX0_seen_60 (by decide) rfl (fun cz => ?_) (fun cz => ?_)
  · refine AW.iconst (v := 0) dX0_seen_67 (by decide) rfl ?_
    refine AW.iast dX0_seen_68 (by omega) (hp_pg hb) (vp_in_iff.mpr (by decide)) (j := 2) (by decide) (hp_pset hb) rfl ?_
    refine AW.hp (h2 := hp (s.setb (s.b.push (ia 3 (three3 h e (if z = 0 then 0 else 1))) 3))) (by unfold three3 two2; first | rw [if_pos cz] | rw [if_neg cz]) ?_
    refine AW.astore dX0_seen_69 rfl (Nat.le_of_ble_eq_true rfl) rfl rfl ?_
    refine AW.aload_n dX0_seen_71 rfl rfl ?_
    refine AW.get ci0 0 (by decide) q229 dX0_seen_72 gX rfl rfl ?_
    refine AW.aload_n dX0_seen_75 rfl rfl ?_
    refine AW.get ci0 0 (by decide) q229 dX0_seen_76 gX rfl rfl ?_
    refine AW.getN ci1 2 (by decide) q195 dX0_seen_79 gN rfl rfl ?_
    refine AW.iconst (v := 4) dX0_seen_82 (by decide) rfl ?_
    refine AW.aload dX0_seen_83 rfl rfl ?_
    refine AW.callV (Y := mX1_adds) (n := 3) (r_X1_adds_seen (s := (s.setb (s.b.push (ia 3 (three3 h e (if z = 0 then 0 else 1))) 3))) (f := three3 h e (if z = 0 then 0 else 1)) c h4 h5 (hp_pg hb)) (by decide) (by decide) rfl gN q1185 q1186 q1187 q139 q1188 dX0_seen_85 (by decide +kernel) rfl rfl (Nat.le_of_ble_eq_true rfl) rfl ?_
    exact AW.iretE dX0_seen_88 rfl rfl rfl rfl
  · refine AW.iconst (v := 1) dX0_seen_63 (by decide) rfl ?_
    refine AW.goto (tgt := 68) dX0_seen_64 (by decide) ?_
    refine AW.iast dX0_seen_68 (by omega) (hp_pg hb) (vp_in_iff.mpr (by decide)) (j := 2) (by decide) (hp_pset hb) rfl ?_
    refine AW.hp (h2 := hp (s.setb (s.b.push (ia 3 (three3 h e (if z = 0 then 0 else 1))) 3))) (by unfold three3 two2; first | rw [if_pos cz] | rw [if_neg cz]) ?_
    refine AW.astore dX0_seen_69 rfl (Nat.le_of_ble_eq_true rfl) rfl rfl ?_
    refine AW.aload_n dX0_seen_71 rfl rfl ?_
    refine AW.get ci0 0 (by decide) q229 dX0_seen_72 gX rfl rfl ?_
    refine AW.aload_n dX0_seen_75 rfl rfl ?_
    refine AW.get ci0 0 (by decide) q229 dX0_seen_76 gX rfl rfl ?_
    refine AW.getN ci1 2 (by decide) q195 dX0_seen_79 gN rfl rfl ?_
    refine AW.iconst (v := 4) dX0_seen_82 (by decide) rfl ?_
    refine AW.aload dX0_seen_83 rfl rfl ?_
    refine AW.callV (Y := mX1_adds) (n := 3) (r_X1_adds_seen (s := (s.setb (s.b.push (ia 3 (three3 h e (if z = 0 then 0 else 1))) 3))) (f := three3 h e (if z = 0 then 0 else 1)) c h4 h5 (hp_pg hb)) (by decide) (by decide) rfl gN q1185 q1186 q1187 q139 q1188 dX0_seen_85 (by decide +kernel) rfl rfl (Nat.le_of_ble_eq_true rfl) rfl ?_
    exact AW.iretE dX0_seen_88 rfl rfl rfl rfl
def tellS (s : Sg) (a : Int32) (v : Int32) (c : Nat) : Sg := telS (s.setA 515 (up (s.A 515) (cI a) v)) (cI a) v c
theorem tellS_514 {s : Sg} {a v : Int32} {c : Nat} : (tellS s a v c).A 514 = s.A 514 := (telS_out (by omega)).trans (sA_ne (by decide))
def bitO (t : Int32) : Int32 := if t = -1 then 0 else bit t
def okSH (n a b c pu fr : Int32) : Bool := inI a (-1) 19 && (inI b (-1) 19 && (inI c (-1) 19 && (inI pu 0 9999 && (inI fr 0 99 && (!decide (n = 7) && (decide (bitO a &&& bitO b = 0) && decide ((bitO a ||| bitO b) &&& bitO c = 0)))))))
def houseS (s : Sg) (a b c pu fr : Int32) (k : Nat) : Sg := let h := s.A 514 0; tellS (tellS (tellS (s.setA 514 (up (s.A 514) 0 (h + 1))) (3 + h) (bitO a ||| bitO b ||| bitO c) k) (10 + h) pu k) (17 + h) fr k
theorem r_X0_house_f {s : Sg} (a b c pu fr : Int32) (hc : okSH (s.A 514 0) a b c pu fr = false) : Run 2 mX0_house [.ref 512, .int a, .int b, .int c, .int pu, .int fr] (hp s) (.inl (some (.int (-1)))) (hp s) := by
  refine Run.of rfl (Nat.le_of_ble_eq_true rfl) rfl ?_
  refine AW.aload_n dX0_house_0 rfl rfl ?_
  refine AW.get ci0 0 (by decide) q229 dX0_house_1 gX rfl rfl ?_
  refine AW.getN ci1 0 (by decide) q191 dX0_house_4 gN rfl rfl ?_
  refine AW.iconst (v := 0) dX0_house_7 (by decide) rfl ?_
  refine AW.iald dX0_house_8 g514 (vp_in_iff.mpr (by decide)) (j := 0) (by decide) rfl ?_
  refine AW.istore dX0_house_9 rfl (Nat.le_of_ble_eq_true rfl) rfl rfl ?_
  refine AW.iload_n dX0_house_11 rfl rfl ?_
  refine AW.iconst (v := (-1)) dX0_house_12 (by decide) rfl ?_
  refine AW.bipush (v := 19) dX0_house_13 (by decide) rfl ?_
  refine AW.callS (Y := mX0_in) (n := 3) (r_X0_in _ _ _) (by decide) (by decide) q271 q272 q138 q273 dX0_house_15 (by decide +kernel) rfl rfl (Nat.le_of_ble_eq_true rfl) rfl ?_
  refine AW.if_eqB (tgt := 71) dX0_house_18 (by decide) rfl (fun c18 => ?_) (fun c18 => ?_)
  · refine AW.iconst (v := (-1)) dX0_house_71 (by decide) rfl ?_
    exact AW.iretE dX0_house_72 rfl rfl rfl rfl
  · refine AW.iload_n dX0_house_21 rfl rfl ?_
    refine AW.iconst (v := (-1)) dX0_house_22 (by decide) rfl ?_
    refine AW.bipush (v := 19) dX0_house_23 (by decide) rfl ?_
    refine AW.callS (Y := mX0_in) (n := 3) (r_X0_in _ _ _) (by decide) (by decide) q271 q272 q138 q273 dX0_house_25 (by decide +kernel) rfl rfl (Nat.le_of_ble_eq_true rfl) rfl ?_
    refine AW.if_eqB (tgt := 71) dX0_house_28 (by decide) rfl (fun c28 => ?_) (fun c28 => ?_)
    · refine AW.iconst (v := (-1)) dX0_house_71 (by decide) rfl ?_
      exact AW.iretE dX0_house_72 rfl rfl rfl rfl
    · refine AW.iload_n dX0_house_31 rfl rfl ?_
      refine AW.iconst (v := (-1)) dX0_house_32 (by decide) rfl ?_
      refine AW.bipush (v := 19) dX0_house_33 (by decide) rfl ?_
      refine AW.callS (Y := mX0_in) (n := 3) (r_X0_in _ _ _) (by decide) (by decide) q271 q272 q138 q273 dX0_house_35 (by decide +kernel) rfl rfl (Nat.le_of_ble_eq_true rfl) rfl ?_
      refine AW.if_eqB (tgt := 71) dX0_house_38 (by decide) rfl (fun c38 => ?_) (fun c38 => ?_)
      · refine AW.iconst (v := (-1)) dX0_house_71 (by decide) rfl ?_
        exact AW.iretE dX0_house_72 rfl rfl rfl rfl
      · refine AW.iload dX0_house_41 rfl rfl ?_
        refine AW.iconst (v := 0) dX0_house_43 (by decide) rfl ?_
        refine AW.sipush (v := 9999) dX0_house_44 (by decide) rfl ?_
        refine AW.callS (Y := mX0_in) (n := 3) (r_X0_in _ _ _) (by decide) (by decide) q271 q272 q138 q273 dX0_house_47 (by decide +kernel) rfl rfl (Nat.le_of_ble_eq_true rfl) rfl ?_
        refine AW.if_eqB (tgt := 71) dX0_house_50 (by decide) rfl (fun c50 => ?_) (fun c50 => ?_)
        · refine AW.iconst (v := (-1)) dX0_house_71 (by decide) rfl ?_
          exact AW.iretE dX0_house_72 rfl rfl rfl rfl
        · refine AW.iload dX0_house_53 rfl rfl ?_
          refine AW.iconst (v := 0) dX0_house_55 (by decide) rfl ?_
          refine AW.bipush (v := 99) dX0_house_56 (by decide) rfl ?_
          refine AW.callS (Y := mX0_in) (n := 3) (r_X0_in _ _ _) (by decide) (by decide) q271 q272 q138 q273 dX0_house_58 (by decide +kernel) rfl rfl (Nat.le_of_ble_eq_true rfl) rfl ?_
          refine AW.if_eqB (tgt := 71) dX0_house_61 (by decide) rfl (fun c61 => ?_) (fun c61 => ?_)
          · refine AW.iconst (v := (-1)) dX0_house_71 (by decide) rfl ?_
            exact AW.iretE dX0_house_72 rfl rfl rfl rfl
          · refine AW.iload dX0_house_64 rfl rfl ?_
            refine AW.bipush (v := 7) dX0_house_66 (by decide) rfl ?_
            refine AW.icmp_ne (tgt := 73) dX0_house_68 (by decide) rfl (fun c68 => ?_) (fun c68 => ?_)
            · refine AW.iload_n dX0_house_73 rfl rfl ?_
              refine AW.callS (Y := mX0_bitOf) (n := 1) (r_X0_bitOf _) (by decide) (by decide) q274 q275 q138 q276 dX0_house_74 (by decide +kernel) rfl rfl (Nat.le_of_ble_eq_true rfl) rfl ?_
              refine AW.iload_n dX0_house_77 rfl rfl ?_
              refine AW.callS (Y := mX0_bitOf) (n := 1) (r_X0_bitOf _) (by decide) (by decide) q274 q275 q138 q276 dX0_house_78 (by decide +kernel) rfl rfl (Nat.le_of_ble_eq_true rfl) rfl ?_
              refine AW.iand dX0_house_81 rfl ?_
              refine AW.if_ne (tgt := 102) dX0_house_82 (by decide) rfl (fun c82 => ?_) (fun c82 => ?_)
              · refine AW.iconst (v := (-1)) dX0_house_102 (by decide) rfl ?_
                exact AW.iretE dX0_house_103 rfl rfl rfl rfl
              · refine AW.iload_n dX0_house_85 rfl rfl ?_
                refine AW.callS (Y := mX0_bitOf) (n := 1) (r_X0_bitOf _) (by decide) (by decide) q274 q275 q138 q276 dX0_house_86 (by decide +kernel) rfl rfl (Nat.le_of_ble_eq_true rfl) rfl ?_
                refine AW.iload_n dX0_house_89 rfl rfl ?_
                refine AW.callS (Y := mX0_bitOf) (n := 1) (r_X0_bitOf _) (by decide) (by decide) q274 q275 q138 q276 dX0_house_90 (by decide +kernel) rfl rfl (Nat.le_of_ble_eq_true rfl) rfl ?_
                refine AW.ior dX0_house_93 rfl ?_
                refine AW.iload_n dX0_house_94 rfl rfl ?_
                refine AW.callS (Y := mX0_bitOf) (n := 1) (r_X0_bitOf _) (by decide) (by decide) q274 q275 q138 q276 dX0_house_95 (by decide +kernel) rfl rfl (Nat.le_of_ble_eq_true rfl) rfl ?_
                refine AW.iand dX0_house_98 rfl ?_
                refine AW.if_eq (tgt := 104) dX0_house_99 (by decide) rfl (fun c99 => ?_) (fun c99 => ?_)
                · exact absurd hc (by unfold okSH; rw [c18, c28, c38, c50, c61, dec_f c68, dec_t (show bitO a &&& bitO b = 0 from c82), dec_t (show (bitO a ||| bitO b) &&& bitO c = 0 from c99)]; decide)
                · refine AW.iconst (v := (-1)) dX0_house_102 (by decide) rfl ?_
                  exact AW.iretE dX0_house_103 rfl rfl rfl rfl
            · refine AW.iconst (v := (-1)) dX0_house_71 (by decide) rfl ?_
              exact AW.iretE dX0_house_72 rfl rfl rfl rfl
theorem r_X0_house_t {s : Sg} (a b c pu fr : Int32) (hc : okSH (s.A 514 0) a b c pu fr = true) (k n : Nat) (hk3 : s.A 514 3 = nI k) (h30 : k ≤ 30) (hn0 : s.A 514 0 = nI n) (hn7 : n < 7) : Run 3 mX0_house [.ref 512, .int a, .int b, .int c, .int pu, .int fr] (hp s) (.inl (some (.int (s.A 514 0)))) (hp (houseS s a b c pu fr k)) := by
  simp only [okSH, Bool.and_eq_true, Bool.not_eq_true', decide_eq_false_iff_not, decide_eq_true_eq] at hc
  obtain ⟨c18, c28, c38, c50, c61, c68, c82, c99⟩ := hc
  have e3 : (s.setA 514 (up (s.A 514) 0 (s.A 514 0 + 1))).A 514 3 = nI k := hk3
  have hh : 0 ≤ (s.A 514 0).toInt ∧ (s.A 514 0).toInt ≤ 6 := by rw [hn0, nI_t (by omega)]; omega
  have i3 : vp_in (3 + s.A 514 0) 145 := in_c3 hh (by decide) (by decide)
  have i10 : vp_in (10 + s.A 514 0) 145 := in_c3 hh (by decide) (by decide)
  have i17 : vp_in (17 + s.A 514 0) 145 := in_c3 hh (by decide) (by decide)
  refine Run.of rfl (Nat.le_of_ble_eq_true rfl) rfl ?_
  refine AW.aload_n dX0_house_0 rfl rfl ?_
  refine AW.get ci0 0 (by decide) q229 dX0_house_1 gX rfl rfl ?_
  refine AW.getN ci1 0 (by decide) q191 dX0_house_4 gN rfl rfl ?_
  refine AW.iconst (v := 0) dX0_house_7 (by decide) rfl ?_
  refine AW.iald dX0_house_8 g514 (vp_in_iff.mpr (by decide)) (j := 0) (by decide) rfl ?_
  refine AW.istore dX0_house_9 rfl (Nat.le_of_ble_eq_true rfl) rfl rfl ?_
  refine AW.iload_n dX0_house_11 rfl rfl ?_
  refine AW.iconst (v := (-1)) dX0_house_12 (by decide) rfl ?_
  refine AW.bipush (v := 19) dX0_house_13 (by decide) rfl ?_
  refine AW.callS (Y := mX0_in) (n := 3) (r_X0_in _ _ _) (by decide) (by decide) q271 q272 q138 q273 dX0_house_15 (by decide +kernel) rfl rfl (Nat.le_of_ble_eq_true rfl) rfl ?_
  refine AW.if_eqB (tgt := 71) dX0_house_18 (by decide) rfl (fun c_ => by first | exact absurd c_ c18 | exact absurd c18 c_ | exact Bool.noConfusion (c_.symm.trans c18)) (fun _ => ?_)
  refine AW.iload_n dX0_house_21 rfl rfl ?_
  refine AW.iconst (v := (-1)) dX0_house_22 (by decide) rfl ?_
  refine AW.bipush (v := 19) dX0_house_23 (by decide) rfl ?_
  refine AW.callS (Y := mX0_in) (n := 3) (r_X0_in _ _ _) (by decide) (by decide) q271 q272 q138 q273 dX0_house_25 (by decide +kernel) rfl rfl (Nat.le_of_ble_eq_true rfl) rfl ?_
  refine AW.if_eqB (tgt := 71) dX0_house_28 (by decide) rfl (fun c_ => by first | exact absurd c_ c28 | exact absurd c28 c_ | exact Bool.noConfusion (c_.symm.trans c28)) (fun _ => ?_)
  refine AW.iload_n dX0_house_31 rfl rfl ?_
  refine AW.iconst (v := (-1)) dX0_house_32 (by decide) rfl ?_
  refine AW.bipush (v := 19) dX0_house_33 (by decide) rfl ?_
  refine AW.callS (Y := mX0_in) (n := 3) (r_X0_in _ _ _) (by decide) (by decide) q271 q272 q138 q273 dX0_house_35 (by decide +kernel) rfl rfl (Nat.le_of_ble_eq_true rfl) rfl ?_
  refine AW.if_eqB (tgt := 71) dX0_house_38 (by decide) rfl (fun c_ => by first | exact absurd c_ c38 | exact absurd c38 c_ | exact Bool.noConfusion (c_.symm.trans c38)) (fun _ => ?_)
  refine AW.iload dX0_house_41 rfl rfl ?_
  refine AW.iconst (v := 0) dX0_house_43 (by decide) rfl ?_
  refine AW.sipush (v := 9999) dX0_house_44 (by decide) rfl ?_
  refine AW.callS (Y := mX0_in) (n := 3) (r_X0_in _ _ _) (by decide) (by decide) q271 q272 q138 q273 dX0_house_47 (by decide +kernel) rfl rfl (Nat.le_of_ble_eq_true rfl) rfl ?_
  refine AW.if_eqB (tgt := 71) dX0_house_50 (by decide) rfl (fun c_ => by first | exact absurd c_ c50 | exact absurd c50 c_ | exact Bool.noConfusion (c_.symm.trans c50)) (fun _ => ?_)
  refine AW.iload dX0_house_53 rfl rfl ?_
  refine AW.iconst (v := 0) dX0_house_55 (by decide) rfl ?_
  refine AW.bipush (v := 99) dX0_house_56 (by decide) rfl ?_
  refine AW.callS (Y := mX0_in) (n := 3) (r_X0_in _ _ _) (by decide) (by decide) q271 q272 q138 q273 dX0_house_58 (by decide +kernel) rfl rfl (Nat.le_of_ble_eq_true rfl) rfl ?_
  refine AW.if_eqB (tgt := 71) dX0_house_61 (by decide) rfl (fun c_ => by first | exact absurd c_ c61 | exact absurd c61 c_ | exact Bool.noConfusion (c_.symm.trans c61)) (fun _ => ?_)
  refine AW.iload dX0_house_64 rfl rfl ?_
  refine AW.bipush (v := 7) dX0_house_66 (by decide) rfl ?_
  refine AW.icmp_ne (tgt := 73) dX0_house_68 (by decide) rfl (fun _ => ?_) (fun c_ => by first | exact absurd c_ c68 | exact absurd c68 c_ | exact absurd c_ (not_not_intro c68) | exact Bool.noConfusion (c_.symm.trans c68))
  refine AW.iload_n dX0_house_73 rfl rfl ?_
  refine AW.callS (Y := mX0_bitOf) (n := 1) (r_X0_bitOf _) (by decide) (by decide) q274 q275 q138 q276 dX0_house_74 (by decide +kernel) rfl rfl (Nat.le_of_ble_eq_true rfl) rfl ?_
  refine AW.iload_n dX0_house_77 rfl rfl ?_
  refine AW.callS (Y := mX0_bitOf) (n := 1) (r_X0_bitOf _) (by decide) (by decide) q274 q275 q138 q276 dX0_house_78 (by decide +kernel) rfl rfl (Nat.le_of_ble_eq_true rfl) rfl ?_
  refine AW.iand dX0_house_81 rfl ?_
  refine AW.if_ne (tgt := 102) dX0_house_82 (by decide) rfl (fun c_ => by first | exact absurd c_ (not_not_intro c82) | exact absurd (not_not_intro c82) c_ | exact Bool.noConfusion (c_.symm.trans (not_not_intro c82))) (fun _ => ?_)
  refine AW.iload_n dX0_house_85 rfl rfl ?_
  refine AW.callS (Y := mX0_bitOf) (n := 1) (r_X0_bitOf _) (by decide) (by decide) q274 q275 q138 q276 dX0_house_86 (by decide +kernel) rfl rfl (Nat.le_of_ble_eq_true rfl) rfl ?_
  refine AW.iload_n dX0_house_89 rfl rfl ?_
  refine AW.callS (Y := mX0_bitOf) (n := 1) (r_X0_bitOf _) (by decide) (by decide) q274 q275 q138 q276 dX0_house_90 (by decide +kernel) rfl rfl (Nat.le_of_ble_eq_true rfl) rfl ?_
  refine AW.ior dX0_house_93 rfl ?_
  refine AW.iload_n dX0_house_94 rfl rfl ?_
  refine AW.callS (Y := mX0_bitOf) (n := 1) (r_X0_bitOf _) (by decide) (by decide) q274 q275 q138 q276 dX0_house_95 (by decide +kernel) rfl rfl (Nat.le_of_ble_eq_true rfl) rfl ?_
  refine AW.iand dX0_house_98 rfl ?_
  refine AW.if_eq (tgt := 104) dX0_house_99 (by decide) rfl (fun _ => ?_) (fun c_ => by first | exact absurd c_ c99 | exact absurd c99 c_ | exact absurd c_ (not_not_intro c99) | exact Bool.noConfusion (c_.symm.trans c99))
  refine AW.aload_n dX0_house_104 rfl rfl ?_
  refine AW.get ci0 0 (by decide) q229 dX0_house_105 gX rfl rfl ?_
  refine AW.getN ci1 0 (by decide) q191 dX0_house_108 gN rfl rfl ?_
  refine AW.iconst (v := 0) dX0_house_111 (by decide) rfl ?_
  refine AW.dup2 dX0_house_112 rfl rfl rfl ?_
  refine AW.iald dX0_house_113 g514 (vp_in_iff.mpr (by decide)) (j := 0) (by decide) rfl ?_
  refine AW.iconst (v := 1) dX0_house_114 (by decide) rfl ?_
  refine AW.iadd dX0_house_115 rfl ?_
  refine AW.iast dX0_house_116 (by decide) g514 (vp_in_iff.mpr (by decide)) (j := 0) (by decide) s514 rfl ?_
  refine AW.aload_n dX0_house_117 rfl rfl ?_
  refine AW.get ci0 0 (by decide) q229 dX0_house_118 gX rfl rfl ?_
  refine AW.iconst (v := 3) dX0_house_121 (by decide) rfl ?_
  refine AW.iload dX0_house_122 rfl rfl ?_
  refine AW.iadd dX0_house_124 rfl ?_
  refine AW.iload_n dX0_house_125 rfl rfl ?_
  refine AW.callS (Y := mX0_bitOf) (n := 1) (r_X0_bitOf _) (by decide) (by decide) q274 q275 q138 q276 dX0_house_126 (by decide +kernel) rfl rfl (Nat.le_of_ble_eq_true rfl) rfl ?_
  refine AW.iload_n dX0_house_129 rfl rfl ?_
  refine AW.callS (Y := mX0_bitOf) (n := 1) (r_X0_bitOf _) (by decide) (by decide) q274 q275 q138 q276 dX0_house_130 (by decide +kernel) rfl rfl (Nat.le_of_ble_eq_true rfl) rfl ?_
  refine AW.ior dX0_house_133 rfl ?_
  refine AW.iload_n dX0_house_134 rfl rfl ?_
  refine AW.callS (Y := mX0_bitOf) (n := 1) (r_X0_bitOf _) (by decide) (by decide) q274 q275 q138 q276 dX0_house_135 (by decide +kernel) rfl rfl (Nat.le_of_ble_eq_true rfl) rfl ?_
  refine AW.ior dX0_house_138 rfl ?_
  refine AW.callV (Y := mX1_tells) (n := 2) (r_X1_tells (s := (s.setA 514 (up (s.A 514) 0 (s.A 514 0 + 1)))) k e3 h30 (3 + s.A 514 0) (bitO a ||| bitO b ||| bitO c) i3) (by decide) (by decide) rfl gN q277 q278 q279 q139 q280 dX0_house_139 (by decide +kernel) rfl rfl (Nat.le_of_ble_eq_true rfl) rfl ?_
  refine AW.aload_n dX0_house_142 rfl rfl ?_
  refine AW.get ci0 0 (by decide) q229 dX0_house_143 gX rfl rfl ?_
  refine AW.bipush (v := 10) dX0_house_146 (by decide) rfl ?_
  refine AW.iload dX0_house_148 rfl rfl ?_
  refine AW.iadd dX0_house_150 rfl ?_
  refine AW.iload dX0_house_151 rfl rfl ?_
  refine AW.callV (Y := mX1_tells) (n := 2) (r_X1_tells (s := (tellS (s.setA 514 (up (s.A 514) 0 (s.A 514 0 + 1))) (3 + s.A 514 0) (bitO a ||| bitO b ||| bitO c) k)) k (by rw [tellS_514]; exact e3) h30 (10 + s.A 514 0) pu i10) (by decide) (by decide) rfl gN q277 q278 q279 q139 q280 dX0_house_153 (by decide +kernel) rfl rfl (Nat.le_of_ble_eq_true rfl) rfl ?_
  refine AW.aload_n dX0_house_156 rfl rfl ?_
  refine AW.get ci0 0 (by decide) q229 dX0_house_157 gX rfl rfl ?_
  refine AW.bipush (v := 17) dX0_house_160 (by decide) rfl ?_
  refine AW.iload dX0_house_162 rfl rfl ?_
  refine AW.iadd dX0_house_164 rfl ?_
  refine AW.iload dX0_house_165 rfl rfl ?_
  refine AW.callV (Y := mX1_tells) (n := 2) (r_X1_tells (s := (tellS (tellS (s.setA 514 (up (s.A 514) 0 (s.A 514 0 + 1))) (3 + s.A 514 0) (bitO a ||| bitO b ||| bitO c) k) (10 + s.A 514 0) pu k)) k (by rw [tellS_514, tellS_514]; exact e3) h30 (17 + s.A 514 0) fr i17) (by decide) (by decide) rfl gN q277 q278 q279 q139 q280 dX0_house_167 (by decide +kernel) rfl rfl (Nat.le_of_ble_eq_true rfl) rfl ?_
  refine AW.iload dX0_house_170 rfl rfl ?_
  exact AW.iretE dX0_house_172 rfl rfl rfl rfl
