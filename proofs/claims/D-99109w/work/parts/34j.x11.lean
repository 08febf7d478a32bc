/-! SYSTEM 11: appointments (printed by tools/x11.py) -/
set_option maxRecDepth 100000
abbrev Vd : Type := Bool × (Nat → Int32)
theorem gV2 {s : Sg} {D : Nat → Int32} : (hp (s.setA 622 D)).g 622 = some (ia 7 D) := (hp_gI (s := s.setA 622 D) (k := 622) rfl).trans (congrArg (fun z => some (ia 7 z)) sA_eq)
theorem sV2 {s : Sg} {D f : Nat → Int32} : (hp (s.setA 622 D)).set 622 (ia 7 f) = hp (s.setA 622 f) := (hp_sI (s := s.setA 622 D) (k := 622) rfl).trans (congrArg hp setA_setA)
def visH (v : Vw) (rec : Int32 → Int32 → (Nat → Int32) → Vd) (left day dt : Int32) : Nat → Nat → (Nat → Int32) → Vd
  | 0, _, D => rec left (day + 1) D
  | m + 1, k, D => if hasI left (nI k) = true then (if hasI (v.sh (nI k)) dt = true then visH v rec left day dt m (k + 1) D else (if (rec (left &&& (bit (nI k) ^^^ -1)) (day + 1) (up D k day)).1 = true then rec (left &&& (bit (nI k) ^^^ -1)) (day + 1) (up D k day) else visH v rec left day dt m (k + 1) (rec (left &&& (bit (nI k) ^^^ -1)) (day + 1) (up D k day)).2)) else visH v rec left day dt m (k + 1) D
def visL (v : Vw) (d0 days : Int32) : Nat → Int32 → Int32 → (Nat → Int32) → Vd
  | 0, left, _, D => (decide (left = 0), D)
  | f + 1, left, day, D => if left = 0 then (true, D) else if days - day < bcI left then (false, D) else visH v (visL v d0 days f) left day ((d0 + day) % 20) v.n 0 D
theorem bcPos : ∀ x, x < 128 → x ≠ 0 → 0 < bcI (nI x) := by decide +kernel
theorem sub1 {a b : Int32} {f : Nat} (h : a - b = nI (f + 1)) : a - (b + 1) = nI f := by
  have e : a - (b + 1) = a - b - 1 := by
    rw [Int32.sub_eq_add_neg a (b + 1), Int32.neg_add, Int32.sub_eq_add_neg (-b) 1, Int32.sub_eq_add_neg (a - b) 1, Int32.sub_eq_add_neg a b, Int32.add_assoc]
  rw [e, h]
  exact xI_pred
theorem r_X0_visits {s : Sg} (hn : (vwS (s.A 514) (s.A 515)).ok) (days : Int32) : ∀ (f x : Nat) (day : Int32) (D : Nat → Int32), x < 128 → x < 2 ^ (vwS (s.A 514) (s.A 515)).n → days - day = nI f → f < 100 → Run (f + 3) mX0_visits [.ref 512, .int (nI x), .int day, .int days] (hp (s.setA 622 D)) (.inl (some (.int (b2i (visL (vwS (s.A 514) (s.A 515)) (s.A 515 0) days f (nI x) day D).1)))) (hp (s.setA 622 (visL (vwS (s.A 514) (s.A 515)) (s.A 515 0) days f (nI x) day D).2)) := by
  intro f
  induction f with
  | zero =>
    intro x day D hx hxn hd hf
    by_cases x0 : x = 0
    · subst x0
      refine Run.of rfl (Nat.le_of_ble_eq_true rfl) rfl ?_
      refine AW.iload_n dX0_visits_0 rfl rfl ?_
      refine AW.if_ne (tgt := 6) dX0_visits_1 (by decide) rfl (fun c_ => by first | exact absurd c_ (not_not_intro rfl) | exact absurd (not_not_intro rfl) c_ | exact Bool.noConfusion (c_.symm.trans (not_not_intro rfl))) (fun _ => ?_)
      refine AW.iconst (v := 1) dX0_visits_4 (by decide) rfl ?_
      exact AW.bretE dX0_visits_5 rfl rfl rfl rfl
    · have nx : ¬ nI x = 0 := nI_ne (b := 0) (by omega) (by omega) x0
      have hb : days - day < bcI (nI x) := by rw [hd]; exact bcPos x hx x0
      refine Run.of rfl (Nat.le_of_ble_eq_true rfl) rfl ?_
      refine AW.iload_n dX0_visits_0 rfl rfl ?_
      refine AW.if_ne (tgt := 6) dX0_visits_1 (by decide) rfl (fun _ => ?_) (fun c_ => by first | exact absurd c_ nx | exact absurd nx c_ | exact absurd c_ (not_not_intro nx) | exact Bool.noConfusion (c_.symm.trans nx))
      refine AW.iload_n dX0_visits_6 rfl rfl ?_
      refine AW.iload_n dX0_visits_7 rfl rfl ?_
      refine AW.isub dX0_visits_8 rfl ?_
      refine AW.iload_n dX0_visits_9 rfl rfl ?_
      refine AW.callS (Y := mJ12_bitCount) (n := 1) (r_J12_bitCount _) (by omega) (by decide) q881 q882 q162 q883 dX0_visits_10 (by decide +kernel) rfl rfl (Nat.le_of_ble_eq_true rfl) rfl ?_
      refine AW.icmp_ge (tgt := 18) dX0_visits_13 (by decide) rfl (fun c_ => by first | exact absurd c_ (Int32.not_le.mpr hb) | exact absurd (Int32.not_le.mpr hb) c_ | exact Bool.noConfusion (c_.symm.trans (Int32.not_le.mpr hb))) (fun _ => ?_)
      refine AW.iconst (v := 0) dX0_visits_16 (by decide) rfl ?_
      exact AW.bretE dX0_visits_17 rfl rfl (by show (0 : Int32) = b2i (decide (nI x = 0)); rw [dec_f nx]; rfl) rfl
  | succ f ih =>
    intro x day D hx hxn hd hf
    by_cases x0 : x = 0
    · subst x0
      refine Run.of rfl (Nat.le_of_ble_eq_true rfl) rfl ?_
      refine AW.iload_n dX0_visits_0 rfl rfl ?_
      refine AW.if_ne (tgt := 6) dX0_visits_1 (by decide) rfl (fun c_ => by first | exact absurd c_ (not_not_intro rfl) | exact absurd (not_not_intro rfl) c_ | exact Bool.noConfusion (c_.symm.trans (not_not_intro rfl))) (fun _ => ?_)
      refine AW.iconst (v := 1) dX0_visits_4 (by decide) rfl ?_
      exact AW.bretE dX0_visits_5 rfl rfl rfl rfl
    · have nx : ¬ nI x = 0 := nI_ne (b := 0) (by omega) (by omega) x0
      by_cases hb : days - day < bcI (nI x)
      · refine Run.of rfl (Nat.le_of_ble_eq_true rfl) rfl ?_
        refine AW.iload_n dX0_visits_0 rfl rfl ?_
        refine AW.if_ne (tgt := 6) dX0_visits_1 (by decide) rfl (fun _ => ?_) (fun c_ => by first | exact absurd c_ nx | exact absurd nx c_ | exact absurd c_ (not_not_intro nx) | exact Bool.noConfusion (c_.symm.trans nx))
        refine AW.iload_n dX0_visits_6 rfl rfl ?_
        refine AW.iload_n dX0_visits_7 rfl rfl ?_
        refine AW.isub dX0_visits_8 rfl ?_
        refine AW.iload_n dX0_visits_9 rfl rfl ?_
        refine AW.callS (Y := mJ12_bitCount) (n := 1) (r_J12_bitCount _) (by omega) (by decide) q881 q882 q162 q883 dX0_visits_10 (by decide +kernel) rfl rfl (Nat.le_of_ble_eq_true rfl) rfl ?_
        refine AW.icmp_ge (tgt := 18) dX0_visits_13 (by decide) rfl (fun c_ => by first | exact absurd c_ (Int32.not_le.mpr hb) | exact absurd (Int32.not_le.mpr hb) c_ | exact Bool.noConfusion (c_.symm.trans (Int32.not_le.mpr hb))) (fun _ => ?_)
        refine AW.iconst (v := 0) dX0_visits_16 (by decide) rfl ?_
        exact AW.bretE dX0_visits_17 rfl rfl (by rw [visL, if_neg nx, if_pos hb]; rfl) (by rw [visL, if_neg nx, if_pos hb])
      · have hd1 := sub1 hd
        have h7 := Vw.n7 hn
        rw [show visL (vwS (s.A 514) (s.A 515)) (s.A 515 0) days (f + 1) (nI x) day D = visH (vwS (s.A 514) (s.A 515)) (visL (vwS (s.A 514) (s.A 515)) (s.A 515 0) days f) (nI x) day ((s.A 515 0 + day) % 20) (vwS (s.A 514) (s.A 515)).n 0 D by rw [visL, if_neg nx, if_neg hb]]
        refine Run.of rfl (Nat.le_of_ble_eq_true rfl) rfl ?_
        refine AW.iload_n dX0_visits_0 rfl rfl ?_
        refine AW.if_ne (tgt := 6) dX0_visits_1 (by decide) rfl (fun _ => ?_) (fun c_ => by first | exact absurd c_ nx | exact absurd nx c_ | exact absurd c_ (not_not_intro nx) | exact Bool.noConfusion (c_.symm.trans nx))
        refine AW.iload_n dX0_visits_6 rfl rfl ?_
        refine AW.iload_n dX0_visits_7 rfl rfl ?_
        refine AW.isub dX0_visits_8 rfl ?_
        refine AW.iload_n dX0_visits_9 rfl rfl ?_
        refine AW.callS (Y := mJ12_bitCount) (n := 1) (r_J12_bitCount _) (by omega) (by decide) q881 q882 q162 q883 dX0_visits_10 (by decide +kernel) rfl rfl (Nat.le_of_ble_eq_true rfl) rfl ?_
        refine AW.icmp_ge (tgt := 18) dX0_visits_13 (by decide) rfl (fun _ => ?_) (fun c_ => by first | exact absurd c_ (Int32.not_lt.mp hb) | exact absurd (Int32.not_lt.mp hb) c_ | exact absurd c_ (not_not_intro (Int32.not_lt.mp hb)) | exact Bool.noConfusion (c_.symm.trans (Int32.not_lt.mp hb)))
        refine AW.aload_n dX0_visits_18 rfl rfl ?_
        refine AW.get ci0 0 (by decide) q229 dX0_visits_19 gX rfl rfl ?_
        refine AW.getN ci1 1 (by decide) q193 dX0_visits_22 gN rfl rfl ?_
        refine AW.iconst (v := 0) dX0_visits_25 (by decide) rfl ?_
        refine AW.iald dX0_visits_26 g515 (vp_in_iff.mpr (by decide)) (j := 0) (by decide) rfl ?_
        refine AW.iload_n dX0_visits_27 rfl rfl ?_
        refine AW.iadd dX0_visits_28 rfl ?_
        refine AW.bipush (v := 20) dX0_visits_29 (by decide) rfl ?_
        refine AW.irem dX0_visits_31 (by decide) rfl ?_
        refine AW.istore dX0_visits_32 rfl (Nat.le_of_ble_eq_true rfl) rfl rfl ?_
        refine AW.iconst (v := 0) dX0_visits_34 (by decide) rfl ?_
        refine AW.istore dX0_visits_35 rfl (Nat.le_of_ble_eq_true rfl) rfl rfl ?_
        refine loopUp (P := fun k => ∀ D : Nat → Int32, AW (f + 1 + 3) mX0_visits (hp (s.setA 622 D)) 37 [some (.ref 512), some (.int (nI x)), some (.int (day)), some (.int (days)), some (.int ((s.A 515 0 + day) % 20)), some (.int (nI k))] [] (.inl (some (.int (b2i (visH (vwS (s.A 514) (s.A 515)) (visL (vwS (s.A 514) (s.A 515)) (s.A 515 0) days f) (nI x) day ((s.A 515 0 + day) % 20) ((vwS (s.A 514) (s.A 515)).n - k) k D).1)))) (hp (s.setA 622 (visH (vwS (s.A 514) (s.A 515)) (visL (vwS (s.A 514) (s.A 515)) (s.A 515 0) days f) (nI x) day ((s.A 515 0 + day) % 20) ((vwS (s.A 514) (s.A 515)).n - k) k D).2))) (vwS (s.A 514) (s.A 515)).n ?_ ?_ 0 (by first | exact Nat.zero_le _ | omega) D
        · intro D
          refine AW.iload dX0_visits_37 rfl rfl ?_
          refine AW.aload_n dX0_visits_39 rfl rfl ?_
          refine AW.get ci0 0 (by decide) q229 dX0_visits_40 gX rfl rfl ?_
          refine AW.getN ci1 0 (by decide) q191 dX0_visits_43 gN rfl rfl ?_
          refine AW.iconst (v := 0) dX0_visits_46 (by decide) rfl ?_
          refine AW.iald dX0_visits_47 g514 (vp_in_iff.mpr (by decide)) (j := 0) (by decide) rfl ?_
          refine AW.icmp_ge (tgt := 118) dX0_visits_48 (by decide) rfl (fun _ => ?_) (fun c_ => by first | exact absurd c_ (loop_end (by have := Vw.n7 hn; omega) (Vw.nN hn)) | exact absurd (loop_end (by have := Vw.n7 hn; omega) (Vw.nN hn)) c_ | exact absurd c_ (not_not_intro (loop_end (by have := Vw.n7 hn; omega) (Vw.nN hn))) | exact Bool.noConfusion (c_.symm.trans (loop_end (by have := Vw.n7 hn; omega) (Vw.nN hn))))
          refine AW.aload_n dX0_visits_118 rfl rfl ?_
          refine AW.iload_n dX0_visits_119 rfl rfl ?_
          refine AW.iload_n dX0_visits_120 rfl rfl ?_
          refine AW.iconst (v := 1) dX0_visits_121 (by decide) rfl ?_
          refine AW.iadd dX0_visits_122 rfl ?_
          refine AW.iload_n dX0_visits_123 rfl rfl ?_
          refine AW.callV (Y := mX0_visits) (n := 3) (ih x (day + 1) D hx hxn hd1 (by omega)) (by omega) (by decide) rfl gX q1246 q1248 qs54 q138 q1249 dX0_visits_124 (by decide +kernel) rfl rfl (Nat.le_of_ble_eq_true rfl) rfl ?_
          exact AW.bretE dX0_visits_127 rfl rfl (by rw [Nat.sub_self]; rfl) (by rw [Nat.sub_self]; rfl)
        · intro k hk ihk
          intro D
          have e1 := vwS_sh (Vw.hou_k hn hk)
          have ek : (vwS (s.A 514) (s.A 515)).n - k = ((vwS (s.A 514) (s.A 515)).n - (k + 1)) + 1 := by omega
          refine AW.iload dX0_visits_37 rfl rfl ?_
          refine AW.aload_n dX0_visits_39 rfl rfl ?_
          refine AW.get ci0 0 (by decide) q229 dX0_visits_40 gX rfl rfl ?_
          refine AW.getN ci1 0 (by decide) q191 dX0_visits_43 gN rfl rfl ?_
          refine AW.iconst (v := 0) dX0_visits_46 (by decide) rfl ?_
          refine AW.iald dX0_visits_47 g514 (vp_in_iff.mpr (by decide)) (j := 0) (by decide) rfl ?_
          refine AW.icmp_ge (tgt := 118) dX0_visits_48 (by decide) rfl (fun c_ => by first | exact absurd c_ (loop_in hk (by have := Vw.n7 hn; omega) (Vw.nN hn)) | exact absurd (loop_in hk (by have := Vw.n7 hn; omega) (Vw.nN hn)) c_ | exact Bool.noConfusion (c_.symm.trans (loop_in hk (by have := Vw.n7 hn; omega) (Vw.nN hn)))) (fun _ => ?_)
          refine AW.iload_n dX0_visits_51 rfl rfl ?_
          refine AW.iload dX0_visits_52 rfl rfl ?_
          refine AW.callS (Y := mX0_has) (n := 2) (r_X0_has _ _) (by omega) (by decide) q867 q868 q138 q869 dX0_visits_54 (by decide +kernel) rfl rfl (Nat.le_of_ble_eq_true rfl) rfl ?_
          refine AW.if_eqB (tgt := 112) dX0_visits_57 (by decide) rfl (fun c57 => ?_) (fun c57 => ?_)
          · refine AW.iinc (v := 1) dX0_visits_112 rfl (by decide) rfl rfl rfl ?_
            refine AW.goto (tgt := 37) dX0_visits_115 (by decide) ?_
            rw [ek, visH, if_neg (by rw [c57]; decide)]
            exact AW.ls (by rw [nI_succ]; rfl) (ihk D)
          · refine AW.aload_n dX0_visits_60 rfl rfl ?_
            refine AW.get ci0 0 (by decide) q229 dX0_visits_61 gX rfl rfl ?_
            refine AW.getN ci1 1 (by decide) q193 dX0_visits_64 gN rfl rfl ?_
            refine AW.iconst (v := 3) dX0_visits_67 (by decide) rfl ?_
            refine AW.iload dX0_visits_68 rfl rfl ?_
            refine AW.iadd dX0_visits_70 rfl ?_
            refine AW.iald dX0_visits_71 g515 (in_row hn (Vw.hou_k hn hk) (by decide) (by decide)) rfl rfl ?_
            refine AW.iload dX0_visits_72 rfl rfl ?_
            refine AW.callS (Y := mX0_has) (n := 2) (r_X0_has _ _) (by omega) (by decide) q867 q868 q138 q869 dX0_visits_74 (by decide +kernel) rfl rfl (Nat.le_of_ble_eq_true rfl) rfl ?_
            refine AW.if_eqB (tgt := 83) dX0_visits_77 (by decide) rfl (fun c77 => ?_) (fun c77 => ?_)
            · obtain ⟨m1, m2⟩ := mask2 x hx k (by omega) c57
              have hk9 := Nat.two_pow_pos k
              refine AW.aload_n dX0_visits_83 rfl rfl ?_
              refine AW.get ci0 8 (by decide) q237 dX0_visits_84 gX rfl rfl ?_
              refine AW.iload dX0_visits_87 rfl rfl ?_
              refine AW.iload_n dX0_visits_89 rfl rfl ?_
              refine AW.iast dX0_visits_90 (by decide) gV2 (xI_in (n := 7) (by omega) (by decide)) (nI_cl (k := k) (by omega)) sV2 rfl ?_
              refine AW.aload_n dX0_visits_91 rfl rfl ?_
              refine AW.iload_n dX0_visits_92 rfl rfl ?_
              refine AW.iconst (v := 1) dX0_visits_93 (by decide) rfl ?_
              refine AW.iload dX0_visits_94 rfl rfl ?_
              refine AW.ishl dX0_visits_96 rfl ?_
              refine AW.iconst (v := (-1)) dX0_visits_97 (by decide) rfl ?_
              refine AW.ixor dX0_visits_98 rfl ?_
              refine AW.iand dX0_visits_99 rfl ?_
              refine AW.iload_n dX0_visits_100 rfl rfl ?_
              refine AW.iconst (v := 1) dX0_visits_101 (by decide) rfl ?_
              refine AW.iadd dX0_visits_102 rfl ?_
              refine AW.iload_n dX0_visits_103 rfl rfl ?_
              refine AW.st (st' := [.int days, .int (day + 1), .int (nI (x - 2 ^ k)), .ref 512]) (by rw [← m2]; rfl) ?_
              refine AW.callV (Y := mX0_visits) (n := 3) (ih (x - 2 ^ k) (day + 1) (up D k day) (by omega) (by omega) hd1 (by omega)) (by omega) (by decide) rfl gX q1246 q1248 qs54 q138 q1249 dX0_visits_104 (by decide +kernel) rfl rfl (Nat.le_of_ble_eq_true rfl) rfl ?_
              refine AW.if_eqB (tgt := 112) dX0_visits_107 (by decide) rfl (fun c107 => ?_) (fun c107 => ?_)
              · refine AW.iinc (v := 1) dX0_visits_112 rfl (by decide) rfl rfl rfl ?_
                refine AW.goto (tgt := 37) dX0_visits_115 (by decide) ?_
                rw [ek, visH, if_pos c57, if_neg (by rw [e1, show hasI (s.A 515 (cI (3 + nI k))) ((s.A 515 0 + day) % 20) = false from c77]; decide), m2, if_neg (by rw [c107]; decide)]
                exact AW.ls (by rw [nI_succ]; rfl) (ihk _)
              · refine AW.iconst (v := 1) dX0_visits_110 (by decide) rfl ?_
                have er : (visH (vwS (s.A 514) (s.A 515)) (visL (vwS (s.A 514) (s.A 515)) (s.A 515 0) days f) (nI x) day ((s.A 515 0 + day) % 20) ((vwS (s.A 514) (s.A 515)).n - k) k D) = visL (vwS (s.A 514) (s.A 515)) (s.A 515 0) days f (nI (x - 2 ^ k)) (day + 1) (up D k day) := by rw [ek, visH, if_pos c57, if_neg (by rw [e1, show hasI (s.A 515 (cI (3 + nI k))) ((s.A 515 0 + day) % 20) = false from c77]; decide), m2, if_pos c107]
                exact AW.bretE dX0_visits_111 rfl rfl (by rw [er, c107]; rfl) (by rw [er])
            · refine AW.goto (tgt := 112) dX0_visits_80 (by decide) ?_
              refine AW.iinc (v := 1) dX0_visits_112 rfl (by decide) rfl rfl rfl ?_
              refine AW.goto (tgt := 37) dX0_visits_115 (by decide) ?_
              rw [ek, visH, if_pos c57, if_pos (by rw [e1]; exact c77)]
              exact AW.ls (by rw [nI_succ]; rfl) (ihk D)
def apR (v : Vw) (d0 : Int32) (x b : Nat) (D : Nat → Int32) (i : Nat) : Vd := visL v d0 (nI (b + i)) (b + i) (nI x) 0 D
def apD (v : Vw) (d0 : Int32) (x b : Nat) (D : Nat → Int32) : Nat → (Nat → Int32)
  | 0 => D
  | i + 1 => (apR v d0 x b (apD v d0 x b D i) i).2
def Vw.apCanS (v : Vw) (g x h : Int32) : Bool := decide (0 < x) && (decide (x &&& (v.thereI g ^^^ -1) = 0) && (decide (bcI x ≤ 5) && (decide (h = -1) || (v.hou h && hasI x h))))
theorem r_X0_appointments_f {s : Sg} (x h : Int32) (hc : (vwS (s.A 514) (s.A 515)).apCanS (s.A 515 2) x h = false) : Run 3 mX0_appointments [.ref 512, .int x, .int h] (hp s) (.inl (some (.int (-2)))) (hp s) := by
  refine Run.of rfl (Nat.le_of_ble_eq_true rfl) rfl ?_
  refine AW.iload_n dX0_appointments_0 rfl rfl ?_
  refine AW.if_le (tgt := 44) dX0_appointments_1 (by decide) rfl (fun c1 => ?_) (fun c1 => ?_)
  · refine AW.bipush (v := (-2)) dX0_appointments_44 (by decide) rfl ?_
    exact AW.iretE dX0_appointments_46 rfl rfl rfl rfl
  · refine AW.iload_n dX0_appointments_4 rfl rfl ?_
    refine AW.aload_n dX0_appointments_5 rfl rfl ?_
    refine AW.callV (Y := mX0_there) (n := 0) (r_X0_there) (by decide) (by decide) rfl gX q1242 q1244 qs53 q138 q1245 dX0_appointments_6 (by decide +kernel) rfl rfl (Nat.le_of_ble_eq_true rfl) rfl ?_
    refine AW.iconst (v := (-1)) dX0_appointments_9 (by decide) rfl ?_
    refine AW.ixor dX0_appointments_10 rfl ?_
    refine AW.iand dX0_appointments_11 rfl ?_
    refine AW.if_ne (tgt := 44) dX0_appointments_12 (by decide) rfl (fun c12 => ?_) (fun c12 => ?_)
    · refine AW.bipush (v := (-2)) dX0_appointments_44 (by decide) rfl ?_
      exact AW.iretE dX0_appointments_46 rfl rfl rfl rfl
    · refine AW.iload_n dX0_appointments_15 rfl rfl ?_
      refine AW.callS (Y := mJ12_bitCount) (n := 1) (r_J12_bitCount _) (by decide) (by decide) q881 q882 q162 q883 dX0_appointments_16 (by decide +kernel) rfl rfl (Nat.le_of_ble_eq_true rfl) rfl ?_
      refine AW.iconst (v := 5) dX0_appointments_19 (by decide) rfl ?_
      refine AW.icmp_gt (tgt := 44) dX0_appointments_20 (by decide) rfl (fun c20 => ?_) (fun c20 => ?_)
      · refine AW.bipush (v := (-2)) dX0_appointments_44 (by decide) rfl ?_
        exact AW.iretE dX0_appointments_46 rfl rfl rfl rfl
      · refine AW.iload_n dX0_appointments_23 rfl rfl ?_
        refine AW.iconst (v := (-1)) dX0_appointments_24 (by decide) rfl ?_
        refine AW.icmp_eq (tgt := 47) dX0_appointments_25 (by decide) rfl (fun c25 => ?_) (fun c25 => ?_)
        · exact absurd hc (by unfold Vw.apCanS; rw [dec_t (Int32.not_le.mp c1), dec_t (show x &&& ((vwS (s.A 514) (s.A 515)).thereI (s.A 515 2) ^^^ -1) = 0 from c12), dec_t (Int32.not_lt.mp c20), dec_t c25, Bool.true_or]; decide)
        · refine AW.aload_n dX0_appointments_28 rfl rfl ?_
          refine AW.iload_n dX0_appointments_29 rfl rfl ?_
          refine AW.callV (Y := mX0_isHouse) (n := 1) (r_X0_isHouse (r := s.A 515) _) (by decide) (by decide) rfl gX q895 q897 qs30 q138 q898 dX0_appointments_30 (by decide +kernel) rfl rfl (Nat.le_of_ble_eq_true rfl) rfl ?_
          refine AW.if_eqB (tgt := 44) dX0_appointments_33 (by decide) rfl (fun c33 => ?_) (fun c33 => ?_)
          · refine AW.bipush (v := (-2)) dX0_appointments_44 (by decide) rfl ?_
            exact AW.iretE dX0_appointments_46 rfl rfl rfl rfl
          · refine AW.iload_n dX0_appointments_36 rfl rfl ?_
            refine AW.iload_n dX0_appointments_37 rfl rfl ?_
            refine AW.callS (Y := mX0_has) (n := 2) (r_X0_has _ _) (by decide) (by decide) q867 q868 q138 q869 dX0_appointments_38 (by decide +kernel) rfl rfl (Nat.le_of_ble_eq_true rfl) rfl ?_
            refine AW.if_neB (tgt := 47) dX0_appointments_41 (by decide) rfl (fun c41 => ?_) (fun c41 => ?_)
            · exact absurd hc (by unfold Vw.apCanS; rw [dec_t (Int32.not_le.mp c1), dec_t (show x &&& ((vwS (s.A 514) (s.A 515)).thereI (s.A 515 2) ^^^ -1) = 0 from c12), dec_t (Int32.not_lt.mp c20), c33, c41, Bool.and_true, Bool.or_true]; decide)
            · refine AW.bipush (v := (-2)) dX0_appointments_44 (by decide) rfl ?_
              exact AW.iretE dX0_appointments_46 rfl rfl rfl rfl
theorem r_X0_appointments_a {s : Sg} (hn : (vwS (s.A 514) (s.A 515)).ok) (x b j : Nat) (hx : x < 2 ^ (vwS (s.A 514) (s.A 515)).n) (hb : bcI (nI x) = nI b) (hb7 : b ≤ 7) (hj : j ≤ 60) (hf : ∀ i, i < j → (apR (vwS (s.A 514) (s.A 515)) (s.A 515 0) x b (apD (vwS (s.A 514) (s.A 515)) (s.A 515 0) x b (s.A 622) i) i).1 = false) (ht : (apR (vwS (s.A 514) (s.A 515)) (s.A 515 0) x b (apD (vwS (s.A 514) (s.A 515)) (s.A 515 0) x b (s.A 622) j) j).1 = true) (hc : (vwS (s.A 514) (s.A 515)).apCanS (s.A 515 2) (nI x) (-1) = true) : Run 80 mX0_appointments [.ref 512, .int (nI x), .int (-1)] (hp s) (.inl (some (.int (nI (b + j))))) (hp (s.setA 622 (apR (vwS (s.A 514) (s.A 515)) (s.A 515 0) x b (apD (vwS (s.A 514) (s.A 515)) (s.A 515 0) x b (s.A 622) j) j).2)) := by
  have h7 := Vw.n7 hn
  have e7 : (2 : Nat) ^ 7 = 128 := by decide
  have hp7 : 2 ^ (vwS (s.A 514) (s.A 515)).n ≤ 2 ^ 7 := Nat.pow_le_pow_right (by decide) h7
  simp only [Vw.apCanS, Bool.and_eq_true, decide_eq_true_eq, Bool.or_eq_true] at hc
  obtain ⟨k1, k2, k3, k4⟩ := hc
  rw [show hp s = hp (s.setA 622 (s.A 622)) by rw [setA_id]]
  refine Run.of rfl (Nat.le_of_ble_eq_true rfl) rfl ?_
  refine AW.iload_n dX0_appointments_0 rfl rfl ?_
  refine AW.if_le (tgt := 44) dX0_appointments_1 (by decide) rfl (fun c_ => by first | exact absurd c_ (Int32.not_le.mpr k1) | exact absurd (Int32.not_le.mpr k1) c_ | exact Bool.noConfusion (c_.symm.trans (Int32.not_le.mpr k1))) (fun _ => ?_)
  refine AW.iload_n dX0_appointments_4 rfl rfl ?_
  refine AW.aload_n dX0_appointments_5 rfl rfl ?_
  refine AW.callV (Y := mX0_there) (n := 0) (r_X0_there) (by omega) (by decide) rfl gX q1242 q1244 qs53 q138 q1245 dX0_appointments_6 (by decide +kernel) rfl rfl (Nat.le_of_ble_eq_true rfl) rfl ?_
  refine AW.iconst (v := (-1)) dX0_appointments_9 (by decide) rfl ?_
  refine AW.ixor dX0_appointments_10 rfl ?_
  refine AW.iand dX0_appointments_11 rfl ?_
  refine AW.if_ne (tgt := 44) dX0_appointments_12 (by decide) rfl (fun c_ => by first | exact absurd c_ (not_not_intro k2) | exact absurd (not_not_intro k2) c_ | exact Bool.noConfusion (c_.symm.trans (not_not_intro k2))) (fun _ => ?_)
  refine AW.iload_n dX0_appointments_15 rfl rfl ?_
  refine AW.callS (Y := mJ12_bitCount) (n := 1) (r_J12_bitCount _) (by omega) (by decide) q881 q882 q162 q883 dX0_appointments_16 (by decide +kernel) rfl rfl (Nat.le_of_ble_eq_true rfl) rfl ?_
  refine AW.iconst (v := 5) dX0_appointments_19 (by decide) rfl ?_
  refine AW.icmp_gt (tgt := 44) dX0_appointments_20 (by decide) rfl (fun c_ => by first | exact absurd c_ (Int32.not_lt.mpr k3) | exact absurd (Int32.not_lt.mpr k3) c_ | exact Bool.noConfusion (c_.symm.trans (Int32.not_lt.mpr k3))) (fun _ => ?_)
  refine AW.iload_n dX0_appointments_23 rfl rfl ?_
  refine AW.iconst (v := (-1)) dX0_appointments_24 (by decide) rfl ?_
  refine AW.icmp_eq (tgt := 47) dX0_appointments_25 (by decide) rfl (fun _ => ?_) (fun c_ => by first | exact absurd c_ rfl | exact absurd rfl c_ | exact absurd c_ (not_not_intro rfl) | exact Bool.noConfusion (c_.symm.trans rfl))
  refine AW.iload_n dX0_appointments_47 rfl rfl ?_
  refine AW.callS (Y := mJ12_bitCount) (n := 1) (r_J12_bitCount _) (by omega) (by decide) q881 q882 q162 q883 dX0_appointments_48 (by decide +kernel) rfl rfl (Nat.le_of_ble_eq_true rfl) rfl ?_
  refine AW.stT (x := .int (nI (b + 0))) (congrArg Value.int hb) ?_
  refine AW.istore_n (i := 3) dX0_appointments_51 rfl rfl (Nat.le_of_ble_eq_true rfl) rfl rfl ?_
  refine loopUp (P := fun i => AW 80 mX0_appointments (hp (s.setA 622 (apD (vwS (s.A 514) (s.A 515)) (s.A 515 0) x b (s.A 622) i))) 52 [some (.ref 512), some (.int (nI x)), some (.int (-1)), some (.int (nI (b + i)))] [] (.inl (some (.int (nI (b + j))))) (hp (s.setA 622 (apR (vwS (s.A 514) (s.A 515)) (s.A 515 0) x b (apD (vwS (s.A 514) (s.A 515)) (s.A 515 0) x b (s.A 622) j) j).2))) j ?_ ?_ 0 (by first | exact Nat.zero_le _ | omega)
  · refine AW.aload_n dX0_appointments_52 rfl rfl ?_
    refine AW.iload_n dX0_appointments_53 rfl rfl ?_
    refine AW.iconst (v := 0) dX0_appointments_54 (by decide) rfl ?_
    refine AW.iload_n dX0_appointments_55 rfl rfl ?_
    refine AW.callV (Y := mX0_visits) (n := 3) (r_X0_visits hn (nI (b + j)) (b + j) x 0 (apD (vwS (s.A 514) (s.A 515)) (s.A 515 0) x b (s.A 622) j) (by omega) hx (by rw [Int32.sub_zero]) (by omega)) (by omega) (by decide) rfl gX q1246 q1248 qs54 q138 q1249 dX0_appointments_56 (by decide +kernel) rfl rfl (Nat.le_of_ble_eq_true rfl) rfl ?_
    refine AW.if_neB (tgt := 68) dX0_appointments_59 (by decide) rfl (fun _ => ?_) (fun c_ => by first | exact absurd c_ ht | exact absurd ht c_ | exact absurd c_ (not_not_intro ht) | exact Bool.noConfusion (c_.symm.trans ht))
    refine AW.iload_n dX0_appointments_68 rfl rfl ?_
    refine AW.iconst (v := (-1)) dX0_appointments_69 (by decide) rfl ?_
    refine AW.icmp_ne (tgt := 77) dX0_appointments_70 (by decide) rfl (fun c_ => by first | exact absurd c_ (not_not_intro rfl) | exact absurd (not_not_intro rfl) c_ | exact Bool.noConfusion (c_.symm.trans (not_not_intro rfl))) (fun _ => ?_)
    refine AW.iload_n dX0_appointments_73 rfl rfl ?_
    refine AW.goto (tgt := 83) dX0_appointments_74 (by decide) ?_
    exact AW.iretE dX0_appointments_83 rfl rfl rfl rfl
  · intro i hi ihi
    refine AW.aload_n dX0_appointments_52 rfl rfl ?_
    refine AW.iload_n dX0_appointments_53 rfl rfl ?_
    refine AW.iconst (v := 0) dX0_appointments_54 (by decide) rfl ?_
    refine AW.iload_n dX0_appointments_55 rfl rfl ?_
    refine AW.callV (Y := mX0_visits) (n := 3) (r_X0_visits hn (nI (b + i)) (b + i) x 0 (apD (vwS (s.A 514) (s.A 515)) (s.A 515 0) x b (s.A 622) i) (by omega) hx (by rw [Int32.sub_zero]) (by omega)) (by omega) (by decide) rfl gX q1246 q1248 qs54 q138 q1249 dX0_appointments_56 (by decide +kernel) rfl rfl (Nat.le_of_ble_eq_true rfl) rfl ?_
    refine AW.if_neB (tgt := 68) dX0_appointments_59 (by decide) rfl (fun c_ => by first | exact absurd c_ (hf i hi) | exact absurd (hf i hi) c_ | exact Bool.noConfusion (c_.symm.trans (hf i hi))) (fun _ => ?_)
    refine AW.iinc (v := 1) dX0_appointments_62 rfl (by decide) rfl rfl rfl ?_
    refine AW.goto (tgt := 52) dX0_appointments_65 (by decide) ?_
    exact AW.ls (by rw [← Nat.add_assoc, nI_succ (b + i)]; rfl) ihi
theorem r_X0_appointments_h {s : Sg} (hn : (vwS (s.A 514) (s.A 515)).ok) (h : Int32) (h1 : ¬ h = -1) (x b j : Nat) (hx : x < 2 ^ (vwS (s.A 514) (s.A 515)).n) (hb : bcI (nI x) = nI b) (hb7 : b ≤ 7) (hj : j ≤ 60) (hf : ∀ i, i < j → (apR (vwS (s.A 514) (s.A 515)) (s.A 515 0) x b (apD (vwS (s.A 514) (s.A 515)) (s.A 515 0) x b (s.A 622) i) i).1 = false) (ht : (apR (vwS (s.A 514) (s.A 515)) (s.A 515 0) x b (apD (vwS (s.A 514) (s.A 515)) (s.A 515 0) x b (s.A 622) j) j).1 = true) (hc : (vwS (s.A 514) (s.A 515)).apCanS (s.A 515 2) (nI x) h = true) : Run 80 mX0_appointments [.ref 512, .int (nI x), .int h] (hp s) (.inl (some (.int ((apR (vwS (s.A 514) (s.A 515)) (s.A 515 0) x b (apD (vwS (s.A 514) (s.A 515)) (s.A 515 0) x b (s.A 622) j) j).2 (cI h))))) (hp (s.setA 622 (apR (vwS (s.A 514) (s.A 515)) (s.A 515 0) x b (apD (vwS (s.A 514) (s.A 515)) (s.A 515 0) x b (s.A 622) j) j).2)) := by
  have h7 := Vw.n7 hn
  have e7 : (2 : Nat) ^ 7 = 128 := by decide
  have hp7 : 2 ^ (vwS (s.A 514) (s.A 515)).n ≤ 2 ^ 7 := Nat.pow_le_pow_right (by decide) h7
  simp only [Vw.apCanS, Bool.and_eq_true, decide_eq_true_eq, Bool.or_eq_true] at hc
  obtain ⟨k1, k2, k3, k4⟩ := hc
  obtain ⟨k5, k6⟩ := k4.resolve_left h1
  rw [show hp s = hp (s.setA 622 (s.A 622)) by rw [setA_id]]
  refine Run.of rfl (Nat.le_of_ble_eq_true rfl) rfl ?_
  refine AW.iload_n dX0_appointments_0 rfl rfl ?_
  refine AW.if_le (tgt := 44) dX0_appointments_1 (by decide) rfl (fun c_ => by first | exact absurd c_ (Int32.not_le.mpr k1) | exact absurd (Int32.not_le.mpr k1) c_ | exact Bool.noConfusion (c_.symm.trans (Int32.not_le.mpr k1))) (fun _ => ?_)
  refine AW.iload_n dX0_appointments_4 rfl rfl ?_
  refine AW.aload_n dX0_appointments_5 rfl rfl ?_
  refine AW.callV (Y := mX0_there) (n := 0) (r_X0_there) (by omega) (by decide) rfl gX q1242 q1244 qs53 q138 q1245 dX0_appointments_6 (by decide +kernel) rfl rfl (Nat.le_of_ble_eq_true rfl) rfl ?_
  refine AW.iconst (v := (-1)) dX0_appointments_9 (by decide) rfl ?_
  refine AW.ixor dX0_appointments_10 rfl ?_
  refine AW.iand dX0_appointments_11 rfl ?_
  refine AW.if_ne (tgt := 44) dX0_appointments_12 (by decide) rfl (fun c_ => by first | exact absurd c_ (not_not_intro k2) | exact absurd (not_not_intro k2) c_ | exact Bool.noConfusion (c_.symm.trans (not_not_intro k2))) (fun _ => ?_)
  refine AW.iload_n dX0_appointments_15 rfl rfl ?_
  refine AW.callS (Y := mJ12_bitCount) (n := 1) (r_J12_bitCount _) (by omega) (by decide) q881 q882 q162 q883 dX0_appointments_16 (by decide +kernel) rfl rfl (Nat.le_of_ble_eq_true rfl) rfl ?_
  refine AW.iconst (v := 5) dX0_appointments_19 (by decide) rfl ?_
  refine AW.icmp_gt (tgt := 44) dX0_appointments_20 (by decide) rfl (fun c_ => by first | exact absurd c_ (Int32.not_lt.mpr k3) | exact absurd (Int32.not_lt.mpr k3) c_ | exact Bool.noConfusion (c_.symm.trans (Int32.not_lt.mpr k3))) (fun _ => ?_)
  refine AW.iload_n dX0_appointments_23 rfl rfl ?_
  refine AW.iconst (v := (-1)) dX0_appointments_24 (by decide) rfl ?_
  refine AW.icmp_eq (tgt := 47) dX0_appointments_25 (by decide) rfl (fun c_ => by first | exact absurd c_ h1 | exact absurd h1 c_ | exact Bool.noConfusion (c_.symm.trans h1)) (fun _ => ?_)
  refine AW.aload_n dX0_appointments_28 rfl rfl ?_
  refine AW.iload_n dX0_appointments_29 rfl rfl ?_
  refine AW.callV (Y := mX0_isHouse) (n := 1) (r_X0_isHouse (r := s.A 515) _) (by omega) (by decide) rfl gX q895 q897 qs30 q138 q898 dX0_appointments_30 (by decide +kernel) rfl rfl (Nat.le_of_ble_eq_true rfl) rfl ?_
  refine AW.if_eqB (tgt := 44) dX0_appointments_33 (by decide) rfl (fun c_ => by first | exact absurd c_ k5 | exact absurd k5 c_ | exact Bool.noConfusion (c_.symm.trans k5)) (fun _ => ?_)
  refine AW.iload_n dX0_appointments_36 rfl rfl ?_
  refine AW.iload_n dX0_appointments_37 rfl rfl ?_
  refine AW.callS (Y := mX0_has) (n := 2) (r_X0_has _ _) (by omega) (by decide) q867 q868 q138 q869 dX0_appointments_38 (by decide +kernel) rfl rfl (Nat.le_of_ble_eq_true rfl) rfl ?_
  refine AW.if_neB (tgt := 47) dX0_appointments_41 (by decide) rfl (fun _ => ?_) (fun c_ => by first | exact absurd c_ k6 | exact absurd k6 c_ | exact absurd c_ (not_not_intro k6) | exact Bool.noConfusion (c_.symm.trans k6))
  refine AW.iload_n dX0_appointments_47 rfl rfl ?_
  refine AW.callS (Y := mJ12_bitCount) (n := 1) (r_J12_bitCount _) (by omega) (by decide) q881 q882 q162 q883 dX0_appointments_48 (by decide +kernel) rfl rfl (Nat.le_of_ble_eq_true rfl) rfl ?_
  refine AW.stT (x := .int (nI (b + 0))) (congrArg Value.int hb) ?_
  refine AW.istore_n (i := 3) dX0_appointments_51 rfl rfl (Nat.le_of_ble_eq_true rfl) rfl rfl ?_
  refine loopUp (P := fun i => AW 80 mX0_appointments (hp (s.setA 622 (apD (vwS (s.A 514) (s.A 515)) (s.A 515 0) x b (s.A 622) i))) 52 [some (.ref 512), some (.int (nI x)), some (.int h), some (.int (nI (b + i)))] [] (.inl (some (.int ((apR (vwS (s.A 514) (s.A 515)) (s.A 515 0) x b (apD (vwS (s.A 514) (s.A 515)) (s.A 515 0) x b (s.A 622) j) j).2 (cI h))))) (hp (s.setA 622 (apR (vwS (s.A 514) (s.A 515)) (s.A 515 0) x b (apD (vwS (s.A 514) (s.A 515)) (s.A 515 0) x b (s.A 622) j) j).2))) j ?_ ?_ 0 (by first | exact Nat.zero_le _ | omega)
  · refine AW.aload_n dX0_appointments_52 rfl rfl ?_
    refine AW.iload_n dX0_appointments_53 rfl rfl ?_
    refine AW.iconst (v := 0) dX0_appointments_54 (by decide) rfl ?_
    refine AW.iload_n dX0_appointments_55 rfl rfl ?_
    refine AW.callV (Y := mX0_visits) (n := 3) (r_X0_visits hn (nI (b + j)) (b + j) x 0 (apD (vwS (s.A 514) (s.A 515)) (s.A 515 0) x b (s.A 622) j) (by omega) hx (by rw [Int32.sub_zero]) (by omega)) (by omega) (by decide) rfl gX q1246 q1248 qs54 q138 q1249 dX0_appointments_56 (by decide +kernel) rfl rfl (Nat.le_of_ble_eq_true rfl) rfl ?_
    refine AW.if_neB (tgt := 68) dX0_appointments_59 (by decide) rfl (fun _ => ?_) (fun c_ => by first | exact absurd c_ ht | exact absurd ht c_ | exact absurd c_ (not_not_intro ht) | exact Bool.noConfusion (c_.symm.trans ht))
    refine AW.iload_n dX0_appointments_68 rfl rfl ?_
    refine AW.iconst (v := (-1)) dX0_appointments_69 (by decide) rfl ?_
    refine AW.icmp_ne (tgt := 77) dX0_appointments_70 (by decide) rfl (fun _ => ?_) (fun c_ => by first | exact absurd c_ h1 | exact absurd h1 c_ | exact absurd c_ (not_not_intro h1) | exact Bool.noConfusion (c_.symm.trans h1))
    refine AW.aload_n dX0_appointments_77 rfl rfl ?_
    refine AW.get ci0 8 (by decide) q237 dX0_appointments_78 gX rfl rfl ?_
    refine AW.iload_n dX0_appointments_81 rfl rfl ?_
    refine AW.iald dX0_appointments_82 gV2 (by have q := Vw.hou_b hn k5; exact vp_in_iff.mpr (by omega)) rfl rfl ?_
    exact AW.iretE dX0_appointments_83 rfl rfl rfl rfl
  · intro i hi ihi
    refine AW.aload_n dX0_appointments_52 rfl rfl ?_
    refine AW.iload_n dX0_appointments_53 rfl rfl ?_
    refine AW.iconst (v := 0) dX0_appointments_54 (by decide) rfl ?_
    refine AW.iload_n dX0_appointments_55 rfl rfl ?_
    refine AW.callV (Y := mX0_visits) (n := 3) (r_X0_visits hn (nI (b + i)) (b + i) x 0 (apD (vwS (s.A 514) (s.A 515)) (s.A 515 0) x b (s.A 622) i) (by omega) hx (by rw [Int32.sub_zero]) (by omega)) (by omega) (by decide) rfl gX q1246 q1248 qs54 q138 q1249 dX0_appointments_56 (by decide +kernel) rfl rfl (Nat.le_of_ble_eq_true rfl) rfl ?_
    refine AW.if_neB (tgt := 68) dX0_appointments_59 (by decide) rfl (fun c_ => by first | exact absurd c_ (hf i hi) | exact absurd (hf i hi) c_ | exact Bool.noConfusion (c_.symm.trans (hf i hi))) (fun _ => ?_)
    refine AW.iinc (v := 1) dX0_appointments_62 rfl (by decide) rfl rfl rfl ?_
    refine AW.goto (tgt := 52) dX0_appointments_65 (by decide) ?_
    exact AW.ls (by rw [← Nat.add_assoc, nI_succ (b + i)]; rfl) ihi
