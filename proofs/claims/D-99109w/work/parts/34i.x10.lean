/-! SYSTEM 10: weddings (printed by tools/x10.py) -/
set_option maxRecDepth 100000
abbrev Wd : Type := Int32 × (Nat → Int32) × (Nat → Int32)
def sB (s : Sg) (M R : Nat → Int32) (w : Int32) : Sg := (up (up s.A 623 M) 624 R, up s.S 103 w, s.2.2)
def hpW (s : Sg) (W : Wd) : AH := hp (sB s W.2.1 W.2.2 W.1)
theorem up_cm {α : Type} {f : Nat → α} {k l : Nat} {x y : α} (h : k ≠ l) : up (up f k x) l y = up (up f l y) k x := by
  funext j
  by_cases h1 : j = k
  · subst h1; rw [up_ne h, up_eq, up_eq]
  · by_cases h2 : j = l
    · subst h2; rw [up_eq, up_ne h1, up_eq]
    · rw [up_ne h2, up_ne h1, up_ne h1, up_ne h2]
section SB
variable {s : Sg} {M R f : Nat → Int32} {w x : Int32}
theorem sB_3 : (sB s M R w).A 623 = M := by show up (up s.A 623 M) 624 R 623 = M; rw [up_ne (by decide), up_eq]
theorem sB_4 : (sB s M R w).A 624 = R := by show up (up s.A 623 M) 624 R 624 = R; rw [up_eq]
theorem gB3 : (hp (sB s M R w)).g 623 = some (ia 7 M) := (hp_gI (s := sB s M R w) (k := 623) rfl).trans (congrArg (fun z => some (ia 7 z)) sB_3)
theorem gB4 : (hp (sB s M R w)).g 624 = some (ia 7 R) := (hp_gI (s := sB s M R w) (k := 624) rfl).trans (congrArg (fun z => some (ia 7 z)) sB_4)
theorem sB3 : (hp (sB s M R w)).set 623 (ia 7 f) = hp (sB s f R w) := by
  refine (hp_sI (s := sB s M R w) (k := 623) rfl).trans (congrArg hp ?_)
  show (up (up (up s.A 623 M) 624 R) 623 f, up s.S 103 w, s.2.2) = (up (up s.A 623 f) 624 R, up s.S 103 w, s.2.2)
  rw [up_cm (k := 624) (l := 623) (by decide), up_up]
theorem sB4 : (hp (sB s M R w)).set 624 (ia 7 f) = hp (sB s M f w) := by
  refine (hp_sI (s := sB s M R w) (k := 624) rfl).trans (congrArg hp ?_)
  show (up (up (up s.A 623 M) 624 R) 624 f, up s.S 103 w, s.2.2) = _
  rw [up_up]
  rfl
theorem sBw : (hp (sB s M R w)).set 512 (.inr (0, (sfl (sB s M R w)).set 11 (.int x))) = hp (sB s M R x) := by
  refine sX11.trans (congrArg hp ?_)
  show (up (up s.A 623 M) 624 R, up (up s.S 103 w) 103 x, s.2.2) = _
  rw [up_up]
  rfl
theorem sB_id : sB s (s.A 623) (s.A 624) (s.S 103) = s := by
  have e : ∀ {α : Type} (f : Nat → α) (k : Nat), up f k (f k) = f := by
    intro α f k
    funext j
    by_cases h : j = k
    · subst h; exact up_eq
    · exact up_ne h
  show (up (up s.A 623 (s.A 623)) 624 (s.A 624), up s.S 103 (s.S 103), s.2.2) = s
  rw [e, e, e]
  rfl
theorem sB_S : (sB s M R w).S 103 = w := by show up s.S 103 w 103 = w; rw [up_eq]
end SB
/-- weddings, tried in the system's order -/
def wedQ (v : Vw) (rec : Int32 → Int32 → Wd → Wd) (h others sh : Int32) : Nat → Nat → Wd → Wd
  | 0, _, W => W
  | m + 1, q, W => if hasI others (nI q) = true then wedQ v rec h others sh m (q + 1) (rec (others &&& (bit (nI q) ^^^ -1)) (sh + bcI (v.sh h &&& v.sh (nI q))) (W.1, up (up W.2.1 (cI h) (nI q)) (cI (nI q)) h, W.2.2)) else wedQ v rec h others sh m (q + 1) W
def wedL (v : Vw) : Nat → Int32 → Int32 → Wd → Wd
  | 0, _, _, W => W
  | f + 1, left, sh, W => if left = 0 then (if sh ≤ W.1 then W else (sh, W.2.1, mv0 W.2.2 W.2.1 7)) else wedQ v (wedL v f) (tzI left) (left &&& (left - 1)) sh (v.n - (cI (tzI left) + 1)) (cI (tzI left) + 1) (wedL v f (left &&& (left - 1)) sh (W.1, up W.2.1 (cI (tzI left)) (-1), W.2.2))
theorem wedL_0 {v : Vw} {f : Nat} {sh : Int32} {W : Wd} : wedL v (f + 1) (nI 0) sh W = if sh ≤ W.1 then W else (sh, W.2.1, mv0 W.2.2 W.2.1 7) := if_pos rfl
theorem wedL_s {v : Vw} {f : Nat} {left sh : Int32} {W : Wd} (h : ¬ left = 0) : wedL v (f + 1) left sh W = wedQ v (wedL v f) (tzI left) (left &&& (left - 1)) sh (v.n - (cI (tzI left) + 1)) (cI (tzI left) + 1) (wedL v f (left &&& (left - 1)) sh (W.1, up W.2.1 (cI (tzI left)) (-1), W.2.2)) := if_neg h
theorem mask1 : ∀ x, x < 128 → x ≠ 0 → (nI x ^^^ -1) &&& (nI x - 1) ≤ 256 ∧ tzI (nI x) = nI (cI (tzI (nI x))) ∧ 2 ^ cI (tzI (nI x)) ≤ x ∧ nI x &&& (nI x - 1) = nI (x - 2 ^ cI (tzI (nI x))) := by decide +kernel
theorem mask2 : ∀ x, x < 128 → ∀ q, q < 7 → hasI (nI x) (nI q) = true → 2 ^ q ≤ x ∧ nI x &&& (bit (nI q) ^^^ -1) = nI (x - 2 ^ q) := by decide +kernel
theorem r_X0_weds {s : Sg} (hn : (vwS (s.A 514) (s.A 515)).ok) : ∀ (f x : Nat) (sh : Int32) (W : Wd), x ≤ f → x < 2 ^ (vwS (s.A 514) (s.A 515)).n → Run (f + 4) mX0_weds [.ref 512, .int (nI x), .int sh] (hpW s W) (.inl none) (hpW s (wedL (vwS (s.A 514) (s.A 515)) (f + 1) (nI x) sh W)) := by
  have h7 := Vw.n7 hn
  have e7 : (2 : Nat) ^ 7 = 128 := by decide
  have hp7 : 2 ^ (vwS (s.A 514) (s.A 515)).n ≤ 2 ^ 7 := Nat.pow_le_pow_right (by decide) h7
  intro f
  induction f with
  | zero =>
    intro x sh W hx hxn
    obtain ⟨w, M, R⟩ := W
    have x0 : x = 0 := by omega
    subst x0
    show Run (0 + 4) mX0_weds _ (hp (sB s M R w)) _ _
    refine Run.of rfl (Nat.le_of_ble_eq_true rfl) rfl ?_
    refine AW.iload_n dX0_weds_0 rfl rfl ?_
    refine AW.if_ne (tgt := 30) dX0_weds_1 (by decide) rfl (fun c_ => by first | exact absurd c_ (not_not_intro rfl) | exact absurd (not_not_intro rfl) c_ | exact Bool.noConfusion (c_.symm.trans (not_not_intro rfl))) (fun _ => ?_)
    refine AW.iload_n dX0_weds_4 rfl rfl ?_
    refine AW.aload_n dX0_weds_5 rfl rfl ?_
    refine AW.get ci0 11 (by decide) q240 dX0_weds_6 gX rfl rfl ?_
    refine AW.icmp_gt (tgt := 13) dX0_weds_9 (by decide) rfl (fun c9 => ?_) (fun c9 => ?_)
    · refine AW.aload_n dX0_weds_13 rfl rfl ?_
      refine AW.iload_n dX0_weds_14 rfl rfl ?_
      refine AW.put ci0 11 (by decide) q240 dX0_weds_15 (by decide) gX rfl (fun _ => rfl) (fun _ => rfl) (Nat.le_of_ble_eq_true rfl) sBw rfl ?_
      refine AW.aload_n dX0_weds_18 rfl rfl ?_
      refine AW.get ci0 9 (by decide) q238 dX0_weds_19 gX rfl rfl ?_
      refine AW.aload_n dX0_weds_22 rfl rfl ?_
      refine AW.get ci0 10 (by decide) q239 dX0_weds_23 gX rfl rfl ?_
      refine AW.callSN (Y := mX1_copy) (n := 2) (r_X1_copy (h2 := hpW s (sh, M, mv0 R M 7)) gB3 (by decide) gB4 (Nat.le_refl _) (by decide) sB4) (by omega) (by decide) q1124 q221 q139 q222 dX0_weds_26 (by decide +kernel) rfl rfl (Nat.le_of_ble_eq_true rfl) rfl ?_
      exact AW.vretE dX0_weds_29 rfl rfl (by rw [wedL_0, if_neg (show ¬ sh ≤ w from Int32.not_le.mpr c9)])
    · exact AW.vretE dX0_weds_12 rfl rfl (by rw [wedL_0, if_pos (show sh ≤ w from Int32.not_lt.mp (fun q => c9 q))]; rfl)
  | succ f ih =>
    intro x sh W hx hxn
    obtain ⟨w, M, R⟩ := W
    by_cases x0 : x = 0
    · subst x0
      show Run (f + 1 + 4) mX0_weds _ (hp (sB s M R w)) _ _
      refine Run.of rfl (Nat.le_of_ble_eq_true rfl) rfl ?_
      refine AW.iload_n dX0_weds_0 rfl rfl ?_
      refine AW.if_ne (tgt := 30) dX0_weds_1 (by decide) rfl (fun c_ => by first | exact absurd c_ (not_not_intro rfl) | exact absurd (not_not_intro rfl) c_ | exact Bool.noConfusion (c_.symm.trans (not_not_intro rfl))) (fun _ => ?_)
      refine AW.iload_n dX0_weds_4 rfl rfl ?_
      refine AW.aload_n dX0_weds_5 rfl rfl ?_
      refine AW.get ci0 11 (by decide) q240 dX0_weds_6 gX rfl rfl ?_
      refine AW.icmp_gt (tgt := 13) dX0_weds_9 (by decide) rfl (fun c9 => ?_) (fun c9 => ?_)
      · refine AW.aload_n dX0_weds_13 rfl rfl ?_
        refine AW.iload_n dX0_weds_14 rfl rfl ?_
        refine AW.put ci0 11 (by decide) q240 dX0_weds_15 (by decide) gX rfl (fun _ => rfl) (fun _ => rfl) (Nat.le_of_ble_eq_true rfl) sBw rfl ?_
        refine AW.aload_n dX0_weds_18 rfl rfl ?_
        refine AW.get ci0 9 (by decide) q238 dX0_weds_19 gX rfl rfl ?_
        refine AW.aload_n dX0_weds_22 rfl rfl ?_
        refine AW.get ci0 10 (by decide) q239 dX0_weds_23 gX rfl rfl ?_
        refine AW.callSN (Y := mX1_copy) (n := 2) (r_X1_copy (h2 := hpW s (sh, M, mv0 R M 7)) gB3 (by decide) gB4 (Nat.le_refl _) (by decide) sB4) (by omega) (by decide) q1124 q221 q139 q222 dX0_weds_26 (by decide +kernel) rfl rfl (Nat.le_of_ble_eq_true rfl) rfl ?_
        exact AW.vretE dX0_weds_29 rfl rfl (by rw [wedL_0, if_neg (show ¬ sh ≤ w from Int32.not_le.mpr c9)])
      · exact AW.vretE dX0_weds_12 rfl rfl (by rw [wedL_0, if_pos (show sh ≤ w from Int32.not_lt.mp (fun q => c9 q))]; rfl)
    · obtain ⟨m1, m2, m3, m4⟩ := mask1 x (by omega) x0
      have nx : ¬ nI x = 0 := nI_ne (b := 0) (by omega) (by omega) x0
      rw [wedL_s nx, m4, m2]
      generalize ht : cI (tzI (nI x)) = t at *
      have htn : t < (vwS (s.A 514) (s.A 515)).n := (Nat.pow_lt_pow_iff_right (by decide)).mp (Nat.lt_of_le_of_lt m3 hxn)
      rw [cI_nI (k := t) (by omega)]
      have hty := Nat.two_pow_pos t
      have hhou := Vw.hou_k hn htn
      have e0 := vwS_sh hhou
      show Run (f + 1 + 4) mX0_weds _ (hp (sB s M R w)) _ _
      refine Run.of rfl (Nat.le_of_ble_eq_true rfl) rfl ?_
      refine AW.iload_n dX0_weds_0 rfl rfl ?_
      refine AW.if_ne (tgt := 30) dX0_weds_1 (by decide) rfl (fun _ => ?_) (fun c_ => by first | exact absurd c_ nx | exact absurd nx c_ | exact absurd c_ (not_not_intro nx) | exact Bool.noConfusion (c_.symm.trans nx))
      refine AW.iload_n dX0_weds_30 rfl rfl ?_
      refine AW.callS (Y := mJ12_numberOfTrailingZeros) (n := 1) (r_J12_numberOfTrailingZeros _ m1) (by omega) (by decide) q1273 q1274 q162 q1275 dX0_weds_31 (by decide +kernel) rfl rfl (Nat.le_of_ble_eq_true rfl) rfl ?_
      refine AW.stT (x := .int (nI t)) (congrArg Value.int m2) ?_
      refine AW.istore_n (i := 3) dX0_weds_34 rfl rfl (Nat.le_of_ble_eq_true rfl) rfl rfl ?_
      refine AW.iload_n dX0_weds_35 rfl rfl ?_
      refine AW.iload_n dX0_weds_36 rfl rfl ?_
      refine AW.iconst (v := 1) dX0_weds_37 (by decide) rfl ?_
      refine AW.isub dX0_weds_38 rfl ?_
      refine AW.iand dX0_weds_39 rfl ?_
      refine AW.stT (x := .int (nI (x - 2 ^ t))) (congrArg Value.int m4) ?_
      refine AW.istore dX0_weds_40 rfl (Nat.le_of_ble_eq_true rfl) rfl rfl ?_
      refine AW.aload_n dX0_weds_42 rfl rfl ?_
      refine AW.get ci0 9 (by decide) q238 dX0_weds_43 gX rfl rfl ?_
      refine AW.iload_n dX0_weds_46 rfl rfl ?_
      refine AW.iconst (v := (-1)) dX0_weds_47 (by decide) rfl ?_
      refine AW.iast dX0_weds_48 (by decide) gB3 (xI_in (n := 7) (by omega) (by decide)) rfl sB3 rfl ?_
      refine AW.aload_n dX0_weds_49 rfl rfl ?_
      refine AW.iload dX0_weds_50 rfl rfl ?_
      refine AW.iload_n dX0_weds_52 rfl rfl ?_
      refine AW.callV (Y := mX0_weds) (n := 2) (ih (x - 2 ^ t) sh (w, up M (nI t).toNatClampNeg (-1), R) (by omega) (by omega)) (by omega) (by decide) rfl gX q1269 q1271 qs56 q138 q1272 dX0_weds_53 (by decide +kernel) rfl rfl (Nat.le_of_ble_eq_true rfl) rfl ?_
      refine AW.iload_n dX0_weds_56 rfl rfl ?_
      refine AW.iconst (v := 1) dX0_weds_57 (by decide) rfl ?_
      refine AW.iadd dX0_weds_58 rfl ?_
      refine AW.istore dX0_weds_59 rfl (Nat.le_of_ble_eq_true rfl) rfl rfl ?_
      refine AW.ls (ls' := [some (.ref 512), some (.int (nI x)), some (.int (sh)), some (.int (nI t)), some (.int (nI (x - 2 ^ t))), some (.int (nI (t + 1)))]) (by rw [nI_succ]; rfl) ?_
      refine AW.hp (h2 := hpW s (wedL (vwS (s.A 514) (s.A 515)) (f + 1) (nI (x - 2 ^ t)) sh (w, up M t (-1), R))) (by rw [show (nI t).toNatClampNeg = t from cI_nI (by omega)]) ?_
      refine loopUp (P := fun k => ∀ W : Wd, AW (f + 1 + 4) mX0_weds (hpW s W) 61 [some (.ref 512), some (.int (nI x)), some (.int (sh)), some (.int (nI t)), some (.int (nI (x - 2 ^ t))), some (.int (nI k))] [] (.inl none) (hpW s (wedQ (vwS (s.A 514) (s.A 515)) (wedL (vwS (s.A 514) (s.A 515)) (f + 1)) (nI t) (nI (x - 2 ^ t)) sh ((vwS (s.A 514) (s.A 515)).n - k) k W))) (vwS (s.A 514) (s.A 515)).n ?_ ?_ (t + 1) (by omega) (wedL (vwS (s.A 514) (s.A 515)) (f + 1) (nI (x - 2 ^ t)) sh (w, up M t (-1), R))
      · intro W
        refine AW.iload dX0_weds_61 rfl rfl ?_
        refine AW.aload_n dX0_weds_63 rfl rfl ?_
        refine AW.get ci0 0 (by decide) q229 dX0_weds_64 gX rfl rfl ?_
        refine AW.getN ci1 0 (by decide) q191 dX0_weds_67 gN rfl rfl ?_
        refine AW.iconst (v := 0) dX0_weds_70 (by decide) rfl ?_
        refine AW.iald dX0_weds_71 g514 (vp_in_iff.mpr (by decide)) (j := 0) (by decide) rfl ?_
        refine AW.icmp_ge (tgt := 152) dX0_weds_72 (by decide) rfl (fun _ => ?_) (fun c_ => by first | exact absurd c_ (loop_end (by have := Vw.n7 hn; omega) (Vw.nN hn)) | exact absurd (loop_end (by have := Vw.n7 hn; omega) (Vw.nN hn)) c_ | exact absurd c_ (not_not_intro (loop_end (by have := Vw.n7 hn; omega) (Vw.nN hn))) | exact Bool.noConfusion (c_.symm.trans (loop_end (by have := Vw.n7 hn; omega) (Vw.nN hn))))
        exact AW.vretE dX0_weds_152 rfl rfl (by rw [Nat.sub_self]; rfl)
      · intro k hk ihk
        intro W
        have e1 := vwS_sh (Vw.hou_k hn hk)
        have ek : (vwS (s.A 514) (s.A 515)).n - k = ((vwS (s.A 514) (s.A 515)).n - (k + 1)) + 1 := by omega
        show AW _ mX0_weds (hp (sB s W.2.1 W.2.2 W.1)) 61 _ _ _ _
        refine AW.iload dX0_weds_61 rfl rfl ?_
        refine AW.aload_n dX0_weds_63 rfl rfl ?_
        refine AW.get ci0 0 (by decide) q229 dX0_weds_64 gX rfl rfl ?_
        refine AW.getN ci1 0 (by decide) q191 dX0_weds_67 gN rfl rfl ?_
        refine AW.iconst (v := 0) dX0_weds_70 (by decide) rfl ?_
        refine AW.iald dX0_weds_71 g514 (vp_in_iff.mpr (by decide)) (j := 0) (by decide) rfl ?_
        refine AW.icmp_ge (tgt := 152) dX0_weds_72 (by decide) rfl (fun c_ => by first | exact absurd c_ (loop_in hk (by have := Vw.n7 hn; omega) (Vw.nN hn)) | exact absurd (loop_in hk (by have := Vw.n7 hn; omega) (Vw.nN hn)) c_ | exact Bool.noConfusion (c_.symm.trans (loop_in hk (by have := Vw.n7 hn; omega) (Vw.nN hn)))) (fun _ => ?_)
        refine AW.iload dX0_weds_75 rfl rfl ?_
        refine AW.iload dX0_weds_77 rfl rfl ?_
        refine AW.callS (Y := mX0_has) (n := 2) (r_X0_has _ _) (by omega) (by decide) q867 q868 q138 q869 dX0_weds_79 (by decide +kernel) rfl rfl (Nat.le_of_ble_eq_true rfl) rfl ?_
        refine AW.if_neB (tgt := 88) dX0_weds_82 (by decide) rfl (fun c82 => ?_) (fun c82 => ?_)
        · refine AW.aload_n dX0_weds_88 rfl rfl ?_
          refine AW.get ci0 9 (by decide) q238 dX0_weds_89 gX rfl rfl ?_
          refine AW.iload_n dX0_weds_92 rfl rfl ?_
          refine AW.iload dX0_weds_93 rfl rfl ?_
          refine AW.iast dX0_weds_95 (by decide) gB3 (xI_in (n := 7) (by omega) (by decide)) rfl sB3 rfl ?_
          refine AW.aload_n dX0_weds_96 rfl rfl ?_
          refine AW.get ci0 9 (by decide) q238 dX0_weds_97 gX rfl rfl ?_
          refine AW.iload dX0_weds_100 rfl rfl ?_
          refine AW.iload_n dX0_weds_102 rfl rfl ?_
          refine AW.iast dX0_weds_103 (by decide) gB3 (xI_in (n := 7) (by omega) (by decide)) rfl sB3 rfl ?_
          refine AW.aload_n dX0_weds_104 rfl rfl ?_
          refine AW.iload dX0_weds_105 rfl rfl ?_
          refine AW.iconst (v := 1) dX0_weds_107 (by decide) rfl ?_
          refine AW.iload dX0_weds_108 rfl rfl ?_
          refine AW.ishl dX0_weds_110 rfl ?_
          refine AW.iconst (v := (-1)) dX0_weds_111 (by decide) rfl ?_
          refine AW.ixor dX0_weds_112 rfl ?_
          refine AW.iand dX0_weds_113 rfl ?_
          refine AW.iload_n dX0_weds_114 rfl rfl ?_
          refine AW.aload_n dX0_weds_115 rfl rfl ?_
          refine AW.get ci0 0 (by decide) q229 dX0_weds_116 gX rfl rfl ?_
          refine AW.getN ci1 1 (by decide) q193 dX0_weds_119 gN rfl rfl ?_
          refine AW.iconst (v := 3) dX0_weds_122 (by decide) rfl ?_
          refine AW.iload_n dX0_weds_123 rfl rfl ?_
          refine AW.iadd dX0_weds_124 rfl ?_
          refine AW.iald dX0_weds_125 g515 (in_row hn hhou (by decide) (by decide)) rfl rfl ?_
          refine AW.aload_n dX0_weds_126 rfl rfl ?_
          refine AW.get ci0 0 (by decide) q229 dX0_weds_127 gX rfl rfl ?_
          refine AW.getN ci1 1 (by decide) q193 dX0_weds_130 gN rfl rfl ?_
          refine AW.iconst (v := 3) dX0_weds_133 (by decide) rfl ?_
          refine AW.iload dX0_weds_134 rfl rfl ?_
          refine AW.iadd dX0_weds_136 rfl ?_
          refine AW.iald dX0_weds_137 g515 (in_row hn (Vw.hou_k hn hk) (by decide) (by decide)) rfl rfl ?_
          refine AW.iand dX0_weds_138 rfl ?_
          refine AW.callS (Y := mJ12_bitCount) (n := 1) (r_J12_bitCount _) (by omega) (by decide) q881 q882 q162 q883 dX0_weds_139 (by decide +kernel) rfl rfl (Nat.le_of_ble_eq_true rfl) rfl ?_
          refine AW.iadd dX0_weds_142 rfl ?_
          obtain ⟨k1, k2⟩ := mask2 (x - 2 ^ t) (by omega) k (by omega) c82
          have hk9 := Nat.two_pow_pos k
          refine AW.st (st' := [.int (sh + bcI ((vwS (s.A 514) (s.A 515)).sh (nI t) &&& (vwS (s.A 514) (s.A 515)).sh (nI k))), .int (nI (x - 2 ^ t - 2 ^ k)), .ref 512]) (by rw [← k2, e0, e1]; rfl) ?_
          refine AW.callV (Y := mX0_weds) (n := 2) (ih (x - 2 ^ t - 2 ^ k) (sh + bcI ((vwS (s.A 514) (s.A 515)).sh (nI t) &&& (vwS (s.A 514) (s.A 515)).sh (nI k))) (W.1, up (up W.2.1 (nI t).toNatClampNeg (nI k)) (nI k).toNatClampNeg (nI t), W.2.2) (by omega) (by omega)) (by omega) (by decide) rfl gX q1269 q1271 qs56 q138 q1272 dX0_weds_143 (by decide +kernel) rfl rfl (Nat.le_of_ble_eq_true rfl) rfl ?_
          refine AW.iinc (v := 1) dX0_weds_146 rfl (by decide) rfl rfl rfl ?_
          refine AW.goto (tgt := 61) dX0_weds_149 (by decide) ?_
          rw [ek, wedQ, if_pos c82, k2]
          exact AW.ls (by rw [nI_succ]; rfl) (ihk _)
        · refine AW.goto (tgt := 146) dX0_weds_85 (by decide) ?_
          refine AW.iinc (v := 1) dX0_weds_146 rfl (by decide) rfl rfl rfl ?_
          refine AW.goto (tgt := 61) dX0_weds_149 (by decide) ?_
          rw [ek, wedQ, if_neg (by rw [c82]; decide)]
          exact AW.ls (by rw [nI_succ]; rfl) (ihk W)
theorem fill_s {f : Nat → Int32} {v : Int32} {k : Nat} : up (mv0 f (fun _ => v) k) k v = mv0 f (fun _ => v) (k + 1) := by
  funext j
  unfold mv0
  by_cases h : j = k
  · subst h; rw [up_eq, if_pos (by omega)]
  · rw [up_ne h]
    by_cases h2 : j < k
    · rw [if_pos h2, if_pos (by omega)]
    · rw [if_neg h2, if_neg (by omega)]
theorem mv0_0 {α : Type} {g f : Nat → α} : mv0 g f 0 = g := funext fun j => if_neg (by omega)
theorem and_mask {m : Nat} (h : m < 2147483648) (z : Int32) : nI m &&& z = nI (m &&& bN z) := by
  apply Int32.toBitVec_inj.mp
  apply BitVec.eq_of_toNat_eq
  show ((Int32.ofNat m).toBitVec &&& z.toBitVec).toNat = (Int32.ofNat (m &&& bN z)).toBitVec.toNat
  rw [BitVec.toNat_and]
  have q : m &&& z.toBitVec.toNat ≤ m := Nat.and_le_left
  show (BitVec.ofNat 32 m).toNat &&& z.toBitVec.toNat = (BitVec.ofNat 32 (m &&& z.toBitVec.toNat)).toNat
  rw [BitVec.toNat_ofNat, BitVec.toNat_ofNat, Nat.mod_eq_of_lt (by omega), Nat.mod_eq_of_lt (by omega)]
theorem ones7 : ∀ n, n < 8 → (1 : Int32) <<< (nI n &&& 31) - 1 = nI (2 ^ n - 1) := by decide
theorem there_n {v : Vw} (hn : v.ok) (g : Int32) : ∃ x, x < 2 ^ v.n ∧ v.thereI g = nI x := by
  have h7 := Vw.n7 hn
  have e7 : (2 : Nat) ^ 7 = 128 := by decide
  have hp7 : 2 ^ v.n ≤ 2 ^ 7 := Nat.pow_le_pow_right (by decide) h7
  have hp := Nat.two_pow_pos v.n
  refine ⟨(2 ^ v.n - 1) &&& bN (g ^^^ -1), Nat.lt_of_le_of_lt Nat.and_le_left (by omega), ?_⟩
  unfold Vw.thereI
  rw [← Vw.nN hn, ones7 _ (by omega), and_mask (by omega)]
def Vw.wedW (v : Vw) (g : Int32) (M R : Nat → Int32) : Wd := wedL v 128 (v.thereI g) 0 (-1, mv0 M (fun _ => -1) 7, R)
theorem r_J14_fill {s : Sg} {M R : Nat → Int32} {w v : Int32} : Run 1 mJ14_fill [.ref 623, .int v] (hp (sB s M R w)) (.inl none) (hp (sB s (mv0 M (fun _ => v) 7) R w)) := by
  refine Run.of rfl (Nat.le_of_ble_eq_true rfl) rfl ?_
  refine AW.iconst (v := 0) dJ14_fill_0 (by decide) rfl ?_
  refine AW.istore_n (i := 2) dJ14_fill_1 rfl rfl (Nat.le_of_ble_eq_true rfl) rfl rfl ?_
  refine AW.aload_n dJ14_fill_2 rfl rfl ?_
  refine AW.alen dJ14_fill_3 gB3 rfl rfl ?_
  refine AW.istore_n (i := 3) dJ14_fill_4 rfl rfl (Nat.le_of_ble_eq_true rfl) rfl rfl ?_
  refine AW.hp (h2 := hp (sB s (mv0 M (fun _ => v) 0) R w)) (by rw [mv0_0]) ?_
  refine loopUp (P := fun k => AW 1 mJ14_fill (hp (sB s (mv0 M (fun _ => v) k) R w)) 5 [some (.ref 623), some (.int v), some (.int (nI k)), some (.int (Int32.ofNat 7))] [] (.inl none) (hp (sB s (mv0 M (fun _ => v) 7) R w))) 7 ?_ ?_ 0 (by first | exact Nat.zero_le _ | omega)
  · refine AW.iload_n dJ14_fill_5 rfl rfl ?_
    refine AW.iload_n dJ14_fill_6 rfl rfl ?_
    refine AW.icmp_ge (tgt := 20) dJ14_fill_7 (by decide) rfl (fun _ => ?_) (fun c_ => by first | exact absurd c_ (by decide) | exact absurd (by decide) c_ | exact absurd c_ (not_not_intro (by decide)) | exact Bool.noConfusion (c_.symm.trans (by decide)))
    exact AW.vretE dJ14_fill_20 rfl rfl rfl
  · intro k hk ihk
    refine AW.iload_n dJ14_fill_5 rfl rfl ?_
    refine AW.iload_n dJ14_fill_6 rfl rfl ?_
    refine AW.icmp_ge (tgt := 20) dJ14_fill_7 (by decide) rfl (fun c_ => by first | exact absurd c_ (Int32.not_le.mpr ((xI_lt (j := 7) (by omega) (by decide)).mpr hk)) | exact absurd (Int32.not_le.mpr ((xI_lt (j := 7) (by omega) (by decide)).mpr hk)) c_ | exact Bool.noConfusion (c_.symm.trans (Int32.not_le.mpr ((xI_lt (j := 7) (by omega) (by decide)).mpr hk)))) (fun _ => ?_)
    refine AW.aload_n dJ14_fill_10 rfl rfl ?_
    refine AW.iload_n dJ14_fill_11 rfl rfl ?_
    refine AW.iload_n dJ14_fill_12 rfl rfl ?_
    refine AW.iast dJ14_fill_13 (by decide) gB3 (xI_in hk (by decide)) rfl sB3 rfl ?_
    refine AW.iinc (v := 1) dJ14_fill_14 rfl (by decide) rfl rfl rfl ?_
    refine AW.goto (tgt := 5) dJ14_fill_17 (by decide) ?_
    exact AW.hp (by rw [show (nI k).toNatClampNeg = k from cI_nI (by omega), fill_s]) (AW.ls (by rw [nI_succ]; rfl) ihk)
theorem r_X0_weddings_f {s : Sg} (h : Int32) (h1 : ¬ h = -1) (h2 : (vwS (s.A 514) (s.A 515)).hou h = false) : Run 3 mX0_weddings [.ref 512, .int h] (hp s) (.inl (some (.int (-2)))) (hp s) := by
  refine Run.of rfl (Nat.le_of_ble_eq_true rfl) rfl ?_
  refine AW.iload_n dX0_weddings_0 rfl rfl ?_
  refine AW.iconst (v := (-1)) dX0_weddings_1 (by decide) rfl ?_
  refine AW.icmp_eq (tgt := 16) dX0_weddings_2 (by decide) rfl (fun c_ => by first | exact absurd c_ h1 | exact absurd h1 c_ | exact Bool.noConfusion (c_.symm.trans h1)) (fun _ => ?_)
  refine AW.aload_n dX0_weddings_5 rfl rfl ?_
  refine AW.iload_n dX0_weddings_6 rfl rfl ?_
  refine AW.callV (Y := mX0_isHouse) (n := 1) (r_X0_isHouse (r := s.A 515) _) (by decide) (by decide) rfl gX q895 q897 qs30 q138 q898 dX0_weddings_7 (by decide +kernel) rfl rfl (Nat.le_of_ble_eq_true rfl) rfl ?_
  refine AW.if_neB (tgt := 16) dX0_weddings_10 (by decide) rfl (fun c_ => by first | exact absurd c_ h2 | exact absurd h2 c_ | exact Bool.noConfusion (c_.symm.trans h2)) (fun _ => ?_)
  refine AW.bipush (v := (-2)) dX0_weddings_13 (by decide) rfl ?_
  exact AW.iretE dX0_weddings_15 rfl rfl rfl rfl
theorem r_X0_weddings_a {s : Sg} (hn : (vwS (s.A 514) (s.A 515)).ok) : Run 133 mX0_weddings [.ref 512, .int (-1)] (hp s) (.inl (some (.int (((vwS (s.A 514) (s.A 515)).wedW (s.A 515 2) (s.A 623) (s.A 624)).1)))) (hpW s ((vwS (s.A 514) (s.A 515)).wedW (s.A 515 2) (s.A 623) (s.A 624))) := by
  rw [show hp s = hp (sB s (s.A 623) (s.A 624) (s.S 103)) by rw [sB_id]]
  refine Run.of rfl (Nat.le_of_ble_eq_true rfl) rfl ?_
  refine AW.iload_n dX0_weddings_0 rfl rfl ?_
  refine AW.iconst (v := (-1)) dX0_weddings_1 (by decide) rfl ?_
  refine AW.icmp_eq (tgt := 16) dX0_weddings_2 (by decide) rfl (fun _ => ?_) (fun c_ => by first | exact absurd c_ rfl | exact absurd rfl c_ | exact absurd c_ (not_not_intro rfl) | exact Bool.noConfusion (c_.symm.trans rfl))
  refine AW.aload_n dX0_weddings_16 rfl rfl ?_
  refine AW.iconst (v := (-1)) dX0_weddings_17 (by decide) rfl ?_
  refine AW.put ci0 11 (by decide) q240 dX0_weddings_18 (by decide) gX rfl (fun _ => rfl) (fun _ => rfl) (Nat.le_of_ble_eq_true rfl) sBw rfl ?_
  refine AW.aload_n dX0_weddings_21 rfl rfl ?_
  refine AW.get ci0 9 (by decide) q238 dX0_weddings_22 gX rfl rfl ?_
  refine AW.iconst (v := (-1)) dX0_weddings_25 (by decide) rfl ?_
  refine AW.callS (Y := mJ14_fill) (n := 2) (r_J14_fill (s := s) (M := s.A 623) (R := s.A 624) (w := -1) (v := -1)) (by decide) (by decide) q1266 q1267 q165 q1268 dX0_weddings_26 (by decide +kernel) rfl rfl (Nat.le_of_ble_eq_true rfl) rfl ?_
  refine AW.aload_n dX0_weddings_29 rfl rfl ?_
  refine AW.aload_n dX0_weddings_30 rfl rfl ?_
  refine AW.callV (Y := mX0_there) (n := 0) (r_X0_there (s := sB s (mv0 (s.A 623) (fun _ => -1) 7) (s.A 624) (-1))) (by decide) (by decide) rfl gX q1242 q1244 qs53 q138 q1245 dX0_weddings_31 (by decide +kernel) rfl rfl (Nat.le_of_ble_eq_true rfl) rfl ?_
  refine AW.iconst (v := 0) dX0_weddings_34 (by decide) rfl ?_
  obtain ⟨x, hx, ex⟩ := there_n hn (s.A 515 2)
  have h7 := Vw.n7 hn
  have e7 : (2 : Nat) ^ 7 = 128 := by decide
  have hp7 : 2 ^ (vwS (s.A 514) (s.A 515)).n ≤ 2 ^ 7 := Nat.pow_le_pow_right (by decide) h7
  refine AW.st (st' := [.int 0, .int (nI x), .ref 512]) (by rw [← ex]; rfl) ?_
  refine AW.callV (Y := mX0_weds) (n := 2) (r_X0_weds hn 127 x 0 (-1, mv0 (s.A 623) (fun _ => -1) 7, s.A 624) (by omega) hx) (by decide) (by decide) rfl gX q1269 q1271 qs56 q138 q1272 dX0_weddings_35 (by decide +kernel) rfl rfl (Nat.le_of_ble_eq_true rfl) rfl ?_
  refine AW.hp (h2 := hpW s ((vwS (s.A 514) (s.A 515)).wedW (s.A 515 2) (s.A 623) (s.A 624))) (by unfold Vw.wedW; rw [ex]) ?_
  show AW _ mX0_weddings (hp (sB s ((vwS (s.A 514) (s.A 515)).wedW (s.A 515 2) (s.A 623) (s.A 624)).2.1 ((vwS (s.A 514) (s.A 515)).wedW (s.A 515 2) (s.A 623) (s.A 624)).2.2 ((vwS (s.A 514) (s.A 515)).wedW (s.A 515 2) (s.A 623) (s.A 624)).1)) 38 _ _ _ _
  refine AW.iload_n dX0_weddings_38 rfl rfl ?_
  refine AW.iconst (v := (-1)) dX0_weddings_39 (by decide) rfl ?_
  refine AW.icmp_ne (tgt := 50) dX0_weddings_40 (by decide) rfl (fun c_ => by first | exact absurd c_ (not_not_intro rfl) | exact absurd (not_not_intro rfl) c_ | exact Bool.noConfusion (c_.symm.trans (not_not_intro rfl))) (fun _ => ?_)
  refine AW.aload_n dX0_weddings_43 rfl rfl ?_
  refine AW.get ci0 11 (by decide) q240 dX0_weddings_44 gX rfl rfl ?_
  refine AW.goto (tgt := 68) dX0_weddings_47 (by decide) ?_
  exact AW.iretE dX0_weddings_68 rfl rfl (by first | rfl | (exact (if_pos (show (vwS (s.A 514) (s.A 515)).her h = true from c55)).symm) | (exact (if_neg (show ¬ (vwS (s.A 514) (s.A 515)).her h = true from by rw [show (vwS (s.A 514) (s.A 515)).her h = false from c55]; decide)).symm)) rfl
theorem r_X0_weddings_h {s : Sg} (hn : (vwS (s.A 514) (s.A 515)).ok) (h : Int32) (h1 : ¬ h = -1) (h2 : (vwS (s.A 514) (s.A 515)).hou h = true) : Run 133 mX0_weddings [.ref 512, .int h] (hp s) (.inl (some (.int (if (vwS (s.A 514) (s.A 515)).her h = true then ((vwS (s.A 514) (s.A 515)).wedW (s.A 515 2) (s.A 623) (s.A 624)).2.2 (cI h) else -1)))) (hpW s ((vwS (s.A 514) (s.A 515)).wedW (s.A 515 2) (s.A 623) (s.A 624))) := by
  rw [show hp s = hp (sB s (s.A 623) (s.A 624) (s.S 103)) by rw [sB_id]]
  refine Run.of rfl (Nat.le_of_ble_eq_true rfl) rfl ?_
  refine AW.iload_n dX0_weddings_0 rfl rfl ?_
  refine AW.iconst (v := (-1)) dX0_weddings_1 (by decide) rfl ?_
  refine AW.icmp_eq (tgt := 16) dX0_weddings_2 (by decide) rfl (fun c_ => by first | exact absurd c_ h1 | exact absurd h1 c_ | exact Bool.noConfusion (c_.symm.trans h1)) (fun _ => ?_)
  refine AW.aload_n dX0_weddings_5 rfl rfl ?_
  refine AW.iload_n dX0_weddings_6 rfl rfl ?_
  refine AW.callV (Y := mX0_isHouse) (n := 1) (r_X0_isHouse (r := s.A 515) _) (by decide) (by decide) rfl gX q895 q897 qs30 q138 q898 dX0_weddings_7 (by decide +kernel) rfl rfl (Nat.le_of_ble_eq_true rfl) rfl ?_
  refine AW.if_neB (tgt := 16) dX0_weddings_10 (by decide) rfl (fun _ => ?_) (fun c_ => by first | exact absurd c_ h2 | exact absurd h2 c_ | exact absurd c_ (not_not_intro h2) | exact Bool.noConfusion (c_.symm.trans h2))
  refine AW.aload_n dX0_weddings_16 rfl rfl ?_
  refine AW.iconst (v := (-1)) dX0_weddings_17 (by decide) rfl ?_
  refine AW.put ci0 11 (by decide) q240 dX0_weddings_18 (by decide) gX rfl (fun _ => rfl) (fun _ => rfl) (Nat.le_of_ble_eq_true rfl) sBw rfl ?_
  refine AW.aload_n dX0_weddings_21 rfl rfl ?_
  refine AW.get ci0 9 (by decide) q238 dX0_weddings_22 gX rfl rfl ?_
  refine AW.iconst (v := (-1)) dX0_weddings_25 (by decide) rfl ?_
  refine AW.callS (Y := mJ14_fill) (n := 2) (r_J14_fill (s := s) (M := s.A 623) (R := s.A 624) (w := -1) (v := -1)) (by decide) (by decide) q1266 q1267 q165 q1268 dX0_weddings_26 (by decide +kernel) rfl rfl (Nat.le_of_ble_eq_true rfl) rfl ?_
  refine AW.aload_n dX0_weddings_29 rfl rfl ?_
  refine AW.aload_n dX0_weddings_30 rfl rfl ?_
  refine AW.callV (Y := mX0_there) (n := 0) (r_X0_there (s := sB s (mv0 (s.A 623) (fun _ => -1) 7) (s.A 624) (-1))) (by decide) (by decide) rfl gX q1242 q1244 qs53 q138 q1245 dX0_weddings_31 (by decide +kernel) rfl rfl (Nat.le_of_ble_eq_true rfl) rfl ?_
  refine AW.iconst (v := 0) dX0_weddings_34 (by decide) rfl ?_
  obtain ⟨x, hx, ex⟩ := there_n hn (s.A 515 2)
  have h7 := Vw.n7 hn
  have e7 : (2 : Nat) ^ 7 = 128 := by decide
  have hp7 : 2 ^ (vwS (s.A 514) (s.A 515)).n ≤ 2 ^ 7 := Nat.pow_le_pow_right (by decide) h7
  refine AW.st (st' := [.int 0, .int (nI x), .ref 512]) (by rw [← ex]; rfl) ?_
  refine AW.callV (Y := mX0_weds) (n := 2) (r_X0_weds hn 127 x 0 (-1, mv0 (s.A 623) (fun _ => -1) 7, s.A 624) (by omega) hx) (by decide) (by decide) rfl gX q1269 q1271 qs56 q138 q1272 dX0_weddings_35 (by decide +kernel) rfl rfl (Nat.le_of_ble_eq_true rfl) rfl ?_
  refine AW.hp (h2 := hpW s ((vwS (s.A 514) (s.A 515)).wedW (s.A 515 2) (s.A 623) (s.A 624))) (by unfold Vw.wedW; rw [ex]) ?_
  show AW _ mX0_weddings (hp (sB s ((vwS (s.A 514) (s.A 515)).wedW (s.A 515 2) (s.A 623) (s.A 624)).2.1 ((vwS (s.A 514) (s.A 515)).wedW (s.A 515 2) (s.A 623) (s.A 624)).2.2 ((vwS (s.A 514) (s.A 515)).wedW (s.A 515 2) (s.A 623) (s.A 624)).1)) 38 _ _ _ _
  refine AW.iload_n dX0_weddings_38 rfl rfl ?_
  refine AW.iconst (v := (-1)) dX0_weddings_39 (by decide) rfl ?_
  refine AW.icmp_ne (tgt := 50) dX0_weddings_40 (by decide) rfl (fun _ => ?_) (fun c_ => by first | exact absurd c_ h1 | exact absurd h1 c_ | exact absurd c_ (not_not_intro h1) | exact Bool.noConfusion (c_.symm.trans h1))
  refine AW.aload_n dX0_weddings_50 rfl rfl ?_
  refine AW.iload_n dX0_weddings_51 rfl rfl ?_
  refine AW.callV (Y := mX0_isThere) (n := 1) (r_X0_isThere (s := sB s ((vwS (s.A 514) (s.A 515)).wedW (s.A 515 2) (s.A 623) (s.A 624)).2.1 ((vwS (s.A 514) (s.A 515)).wedW (s.A 515 2) (s.A 623) (s.A 624)).2.2 ((vwS (s.A 514) (s.A 515)).wedW (s.A 515 2) (s.A 623) (s.A 624)).1) _) (by decide) (by decide) rfl gX q980 q982 qs33 q138 q983 dX0_weddings_52 (by decide +kernel) rfl rfl (Nat.le_of_ble_eq_true rfl) rfl ?_
  refine AW.if_eqB (tgt := 67) dX0_weddings_55 (by decide) rfl (fun c55 => ?_) (fun c55 => ?_)
  · refine AW.iconst (v := (-1)) dX0_weddings_67 (by decide) rfl ?_
    exact AW.iretE dX0_weddings_68 rfl rfl (by first | rfl | (exact (if_pos (show (vwS (s.A 514) (s.A 515)).her h = true from c55)).symm) | (exact (if_neg (show ¬ (vwS (s.A 514) (s.A 515)).her h = true from by rw [show (vwS (s.A 514) (s.A 515)).her h = false from c55]; decide)).symm)) rfl
  · refine AW.aload_n dX0_weddings_58 rfl rfl ?_
    refine AW.get ci0 10 (by decide) q239 dX0_weddings_59 gX rfl rfl ?_
    refine AW.iload_n dX0_weddings_62 rfl rfl ?_
    refine AW.iald dX0_weddings_63 gB4 (by have q := Vw.hou_b hn h2; exact vp_in_iff.mpr (by omega)) rfl rfl ?_
    refine AW.goto (tgt := 68) dX0_weddings_64 (by decide) ?_
    exact AW.iretE dX0_weddings_68 rfl rfl (by first | rfl | (exact (if_pos (show (vwS (s.A 514) (s.A 515)).her h = true from c55)).symm) | (exact (if_neg (show ¬ (vwS (s.A 514) (s.A 515)).her h = true from by rw [show (vwS (s.A 514) (s.A 515)).her h = false from c55]; decide)).symm)) rfl
