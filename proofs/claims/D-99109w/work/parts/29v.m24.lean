/-! MODEL 24: appointments (printed by tools/m24.py) -/
set_option maxRecDepth 100000
/-- the state while days are laid down -/
def sp (s : Sg) (M D : Nat → Int32) : Sg := (s.setA 636 M).setA 637 D
section SPP
variable {s : Sg} {M D : Nat → Int32}
theorem sp_636 : (sp s M D).A 636 = M := (setA_ne (by decide)).trans setA_at
theorem sp_637 : (sp s M D).A 637 = D := setA_at
theorem sp_id : sp s (s.A 636) (s.A 637) = s := by
  unfold sp
  rw [setA_id, setA_id]
theorem gp626 : (hp (sp s M D)).g 626 = some (ia 2308 (s.A 626)) := g626
theorem gp636 : (hp (sp s M D)).g 636 = some (ia 7 M) := by rw [g636, sp_636]
theorem gp637 : (hp (sp s M D)).g 637 = some (ia 7 D) := by rw [g637, sp_637]
theorem sp636 {f : Nat → Int32} : (hp (sp s M D)).set 636 (ia 7 f) = hp (sp s f D) := by
  rw [s636]
  unfold sp
  rw [setA_com (j := 637) (k := 636) (by decide), setA_setA]
theorem sp637 {f : Nat → Int32} : (hp (sp s M D)).set 637 (ia 7 f) = hp (sp s M f) := by
  rw [s637]
  unfold sp
  rw [setA_setA]
theorem r_pX2_get (h w : Int32) (hi : vp_in (12 + 8 * h + w) 2308) : Run 1 mX2_get [.ref 625, .int h, .int w] (hp (sp s M D)) (.inl (some (.int (gtM (s.A 626) h w)))) (hp (sp s M D)) := r_X2_get (s := sp s M D) h w hi
end SPP
def Vw.areHere (v : Vw) (x : Int32) : Nat → Bool := allUp (fun k => !hasI x (nI k) || v.her (nI k))
theorem allUp_false {p : Nat → Bool} {k n : Nat} (hk : k < n) (h : p k = false) : allUp p n = false := by
  induction n with
  | zero => omega
  | succ n ih =>
    show (allUp p n && p n) = false
    by_cases e : k = n
    · rw [← e, h, Bool.and_false]
    · rw [ih (by omega), Bool.false_and]
theorem nI_inj {a b : Nat} (ha : a < 2147483648) (hb : b < 2147483648) (h : nI a = nI b) : a = b := by
  have h1 := nI_t ha
  have h2 := nI_t hb
  rw [h] at h1
  omega
theorem i_sub1 {x : Int32} : x - 1 - x = -1 := by
  rw [Int32.sub_eq_add_neg, Int32.sub_eq_add_neg, Int32.add_comm x, Int32.add_assoc, ← Int32.sub_eq_add_neg, Int32.sub_self]
  rfl
/-- who they are, one after the other -/
def memF (x : Int32) (M : Nat → Int32) : Nat → Nat × (Nat → Int32)
  | 0 => (0, M)
  | k + 1 => if hasI x (nI k) = true then ((memF x M k).1 + 1, up (memF x M k).2 (memF x M k).1 (nI k)) else memF x M k
theorem memF_le {x : Int32} {M : Nat → Int32} : ∀ k, (memF x M k).1 ≤ k
  | 0 => Nat.le_refl _
  | k + 1 => by
    have := memF_le (x := x) (M := M) k
    unfold memF
    split
    · show (memF x M k).1 + 1 ≤ k + 1
      omega
    · omega
/-- days laid down by a code, from the last on -/
def laidF (v : Vw) (M : Nat → Int32) (day : Int32) (n : Nat) : Nat → Nat → Int32 → (Nat → Int32) → Bool × (Nat → Int32)
  | 0, _, g, D => (decide (g = (1 <<< (nI n &&& 31)) - 1), D)
  | k + 1, left, g, D => if left % (n + 1) = n then laidF v M day n k (left / (n + 1)) g D
      else if hasI g (nI (left % (n + 1))) = true ∨ hasI (v.sh (M (left % (n + 1)))) ((day + nI k) % 20) = true then (false, D)
      else laidF v M day n k (left / (n + 1)) (g ||| bit (nI (left % (n + 1)))) (up D (cI (M (left % (n + 1)))) (nI k))
theorem r_X2_areHere {s : Sg} (hn : (vwM (s.A 626)).ok) (x : Int32) : Run 4 mX2_areHere [.ref 625, .int x] (hp s) (.inl (some (.int (b2i ((vwM (s.A 626)).areHere x 7))))) (hp s) := by
  refine Run.of rfl (Nat.le_of_ble_eq_true rfl) rfl ?_
  refine AW.iconst (v := 0) dX2_areHere_0 (by decide) rfl ?_
  refine AW.istore_n (i := 2) dX2_areHere_1 rfl rfl (Nat.le_of_ble_eq_true rfl) rfl rfl ?_
  refine loopUp (P := fun k => (vwM (s.A 626)).areHere x k = true → AW 4 mX2_areHere (hp s) 2 [some (.ref 625), some (.int (x)), some (.int (nI k))] [] (.inl (some (.int (b2i ((vwM (s.A 626)).areHere x 7))))) (hp s)) 7 ?_ ?_ 0 (by first | exact Nat.zero_le _ | omega) rfl
  · intro hq
    refine AW.iload_n dX2_areHere_2 rfl rfl ?_
    refine AW.bipush (v := 7) dX2_areHere_3 (by decide) rfl ?_
    refine AW.icmp_ge (tgt := 32) dX2_areHere_5 (by decide) rfl (fun _ => ?_) (fun c_ => by first | exact absurd c_ (by decide) | exact absurd (by decide) c_ | exact absurd c_ (not_not_intro (by decide)) | exact Bool.noConfusion (c_.symm.trans (by decide)))
    refine AW.iconst (v := 1) dX2_areHere_32 (by decide) rfl ?_
    rw [hq]
    exact AW.bretE dX2_areHere_33 rfl rfl rfl rfl
  · intro k hk ihk
    intro hq
    have es : (vwM (s.A 626)).areHere x (k + 1) = ((vwM (s.A 626)).areHere x k && (!hasI x (nI k) || (vwM (s.A 626)).her (nI k))) := rfl
    refine AW.iload_n dX2_areHere_2 rfl rfl ?_
    refine AW.bipush (v := 7) dX2_areHere_3 (by decide) rfl ?_
    refine AW.icmp_ge (tgt := 32) dX2_areHere_5 (by decide) rfl (fun c_ => by first | exact absurd c_ (by rw [Int32.le_iff_toInt_le, nI_t (by omega)]; show ¬ (7 : Int) ≤ _; omega) | exact absurd (by rw [Int32.le_iff_toInt_le, nI_t (by omega)]; show ¬ (7 : Int) ≤ _; omega) c_ | exact Bool.noConfusion (c_.symm.trans (by rw [Int32.le_iff_toInt_le, nI_t (by omega)]; show ¬ (7 : Int) ≤ _; omega))) (fun _ => ?_)
    refine AW.iload_n dX2_areHere_8 rfl rfl ?_
    refine AW.iload_n dX2_areHere_9 rfl rfl ?_
    refine AW.callS (Y := mX2_has) (n := 2) (r_X2_has _ _) (by decide) (by decide) q1547 q1548 q141 q1549 dX2_areHere_10 (by decide +kernel) rfl rfl (Nat.le_of_ble_eq_true rfl) rfl ?_
    refine AW.if_eqB (tgt := 26) dX2_areHere_13 (by decide) rfl (fun c13 => ?_) (fun c13 => ?_)
    · refine AW.iinc (v := 1) dX2_areHere_26 rfl (by decide) rfl rfl rfl ?_
      refine AW.goto (tgt := 2) dX2_areHere_29 (by decide) ?_
      exact AW.ls (by rw [nI_succ k]; rfl) (ihk (by rw [es, hq, c13]; rfl))
    · refine AW.aload_n dX2_areHere_16 rfl rfl ?_
      refine AW.iload_n dX2_areHere_17 rfl rfl ?_
      refine AW.callV (Y := mX2_isHere) (n := 1) (r_X2_isHere hn _) (by decide) (by decide) rfl gM q1649 q1651 qs91 q141 q1652 dX2_areHere_18 (by decide +kernel) rfl rfl (Nat.le_of_ble_eq_true rfl) rfl ?_
      refine AW.if_neB (tgt := 26) dX2_areHere_21 (by decide) rfl (fun c21 => ?_) (fun c21 => ?_)
      · refine AW.iinc (v := 1) dX2_areHere_26 rfl (by decide) rfl rfl rfl ?_
        refine AW.goto (tgt := 2) dX2_areHere_29 (by decide) ?_
        exact AW.ls (by rw [nI_succ k]; rfl) (ihk (by rw [es, hq, c13, c21]; rfl))
      · refine AW.iconst (v := 0) dX2_areHere_24 (by decide) rfl ?_
        have e7 : (vwM (s.A 626)).areHere x 7 = false := allUp_false hk (by rw [c13, c21]; rfl)
        rw [e7]
        exact AW.bretE dX2_areHere_25 rfl rfl rfl rfl

theorem r_X2_layMembers {s : Sg} {M D : Nat → Int32} (hn : (vwM (s.A 626)).ok) (x : Int32) : Run 2 mX2_layMembers [.ref 625, .int x] (hp (sp s M D)) (.inl (some (.int (nI (memF x M (vwM (s.A 626)).n).1)))) (hp (sp s (memF x M (vwM (s.A 626)).n).2 D)) := by
  refine Run.of rfl (Nat.le_of_ble_eq_true rfl) rfl ?_
  refine AW.iconst (v := 0) dX2_layMembers_0 (by decide) rfl ?_
  refine AW.istore_n (i := 2) dX2_layMembers_1 rfl rfl (Nat.le_of_ble_eq_true rfl) rfl rfl ?_
  refine AW.iconst (v := 0) dX2_layMembers_2 (by decide) rfl ?_
  refine AW.istore_n (i := 3) dX2_layMembers_3 rfl rfl (Nat.le_of_ble_eq_true rfl) rfl rfl ?_
  refine loopUp (P := fun k => AW 2 mX2_layMembers (hp (sp s (memF x M k).2 D)) 4 [some (.ref 625), some (.int (x)), some (.int (nI (memF x M k).1)), some (.int (nI k))] [] (.inl (some (.int (nI (memF x M (vwM (s.A 626)).n).1)))) (hp (sp s (memF x M (vwM (s.A 626)).n).2 D))) (vwM (s.A 626)).n ?_ ?_ 0 (by first | exact Nat.zero_le _ | omega)
  · refine AW.iload_n dX2_layMembers_4 rfl rfl ?_
    refine AW.aload_n dX2_layMembers_5 rfl rfl ?_
    refine AW.get ci2 0 (by decide) q1351 dX2_layMembers_6 gM rfl rfl ?_
    refine AW.iconst (v := 0) dX2_layMembers_9 (by decide) rfl ?_
    refine AW.iald dX2_layMembers_10 gp626 (vp_in_iff.mpr (by decide)) (j := 0) (by decide) rfl ?_
    refine AW.icmp_ge (tgt := 41) dX2_layMembers_11 (by decide) rfl (fun _ => ?_) (fun c_ => by first | exact absurd c_ (loop_end (by have := Vw.n7 hn; omega) (Vw.nN hn)) | exact absurd (loop_end (by have := Vw.n7 hn; omega) (Vw.nN hn)) c_ | exact absurd c_ (not_not_intro (loop_end (by have := Vw.n7 hn; omega) (Vw.nN hn))) | exact Bool.noConfusion (c_.symm.trans (loop_end (by have := Vw.n7 hn; omega) (Vw.nN hn))))
    refine AW.iload_n dX2_layMembers_41 rfl rfl ?_
    exact AW.iretE dX2_layMembers_42 rfl rfl rfl rfl
  · intro k hk ihk
    have hle := memF_le (x := x) (M := M) k
    have h7 := Vw.n7 hn
    have es : memF x M (k + 1) = if hasI x (nI k) = true then ((memF x M k).1 + 1, up (memF x M k).2 (memF x M k).1 (nI k)) else memF x M k := rfl
    refine AW.iload_n dX2_layMembers_4 rfl rfl ?_
    refine AW.aload_n dX2_layMembers_5 rfl rfl ?_
    refine AW.get ci2 0 (by decide) q1351 dX2_layMembers_6 gM rfl rfl ?_
    refine AW.iconst (v := 0) dX2_layMembers_9 (by decide) rfl ?_
    refine AW.iald dX2_layMembers_10 gp626 (vp_in_iff.mpr (by decide)) (j := 0) (by decide) rfl ?_
    refine AW.icmp_ge (tgt := 41) dX2_layMembers_11 (by decide) rfl (fun c_ => by first | exact absurd c_ (loop_in hk (by have := Vw.n7 hn; omega) (Vw.nN hn)) | exact absurd (loop_in hk (by have := Vw.n7 hn; omega) (Vw.nN hn)) c_ | exact Bool.noConfusion (c_.symm.trans (loop_in hk (by have := Vw.n7 hn; omega) (Vw.nN hn)))) (fun _ => ?_)
    refine AW.iload_n dX2_layMembers_14 rfl rfl ?_
    refine AW.iload_n dX2_layMembers_15 rfl rfl ?_
    refine AW.callS (Y := mX2_has) (n := 2) (r_X2_has _ _) (by decide) (by decide) q1547 q1548 q141 q1549 dX2_layMembers_16 (by decide +kernel) rfl rfl (Nat.le_of_ble_eq_true rfl) rfl ?_
    refine AW.if_neB (tgt := 25) dX2_layMembers_19 (by decide) rfl (fun c19 => ?_) (fun c19 => ?_)
    · refine AW.aload_n dX2_layMembers_25 rfl rfl ?_
      refine AW.get ci2 32 (by decide) q1383 dX2_layMembers_26 gM rfl rfl ?_
      refine AW.iload_n dX2_layMembers_29 rfl rfl ?_
      refine AW.iload_n dX2_layMembers_30 rfl rfl ?_
      refine AW.iast dX2_layMembers_31 (by decide) gp636 (in0 _ (by omega) (by decide)) (j := (memF x M k).1) (cI_nI (by omega)) sp636 rfl ?_
      refine AW.iinc (v := 1) dX2_layMembers_32 rfl (by decide) rfl rfl rfl ?_
      refine AW.iinc (v := 1) dX2_layMembers_35 rfl (by decide) rfl rfl rfl ?_
      refine AW.goto (tgt := 4) dX2_layMembers_38 (by decide) ?_
      rw [if_pos c19] at es
      rw [es] at ihk
      exact AW.ls (by rw [nI_succ k, nI_succ (memF x M k).1]; rfl) ihk
    · refine AW.goto (tgt := 35) dX2_layMembers_22 (by decide) ?_
      refine AW.iinc (v := 1) dX2_layMembers_35 rfl (by decide) rfl rfl rfl ?_
      refine AW.goto (tgt := 4) dX2_layMembers_38 (by decide) ?_
      rw [if_neg (by rw [c19]; decide)] at es
      rw [es] at ihk
      exact AW.ls (by rw [nI_succ k]; rfl) ihk
theorem r_X2_isLaid {s : Sg} {M D : Nat → Int32} (n days code : Nat) (hn : (vwM (s.A 626)).ok) (hn7 : n ≤ 7) (hd : days < 1000) (hc : code < 2147483648) (hM : ∀ i, i < n → (vwM (s.A 626)).hou (M i) = true) : Run 3 mX2_isLaid [.ref 625, .int (nI code), .int (nI n), .int (nI days)] (hp (sp s M D)) (.inl (some (.int (b2i ((laidF (vwM (s.A 626)) M (s.A 626 8) n) days code 0 D).1)))) (hp (sp s M ((laidF (vwM (s.A 626)) M (s.A 626 8) n) days code 0 D).2)) := by
  refine Run.of rfl (Nat.le_of_ble_eq_true rfl) rfl ?_
  refine AW.iload_n dX2_isLaid_0 rfl rfl ?_
  refine AW.istore dX2_isLaid_1 rfl (Nat.le_of_ble_eq_true rfl) rfl rfl ?_
  refine AW.iconst (v := 0) dX2_isLaid_3 (by decide) rfl ?_
  refine AW.istore dX2_isLaid_4 rfl (Nat.le_of_ble_eq_true rfl) rfl rfl ?_
  refine AW.iload_n dX2_isLaid_6 rfl rfl ?_
  refine AW.iconst (v := 1) dX2_isLaid_7 (by decide) rfl ?_
  refine AW.isub dX2_isLaid_8 rfl ?_
  refine AW.istore dX2_isLaid_9 rfl (Nat.le_of_ble_eq_true rfl) rfl rfl ?_
  generalize hR0 : (laidF (vwM (s.A 626)) M (s.A 626 8) n) days code 0 D = R
  refine AW.ls (ls' := [some (.ref 625), some (.int (nI code)), some (.int (nI n)), some (.int (nI days)), some (.int (nI code)), some (.int (0)), some (.int (nI days - 1 - nI 0)), none]) (by rw [show nI 0 = 0 from rfl, Int32.sub_zero]; rfl) ?_
  refine loopUp (P := fun k => ∀ (left : Nat) (g : Int32) (D1 : Nat → Int32), left < 2147483648 → (laidF (vwM (s.A 626)) M (s.A 626 8) n) (days - k) left g D1 = R → AW 3 mX2_isLaid (hp (sp s M D1)) 11 [some (.ref 625), some (.int (nI code)), some (.int (nI n)), some (.int (nI days)), some (.int (nI left)), some (.int (g)), some (.int (nI days - 1 - nI k)), none] [] (.inl (some (.int (b2i R.1)))) (hp (sp s M R.2))) days ?_ ?_ 0 (by first | exact Nat.zero_le _ | omega) code 0 D hc hR0
  · intro left g D1 hlt hR
    rw [Nat.sub_self] at hR
    refine AW.iload dX2_isLaid_11 rfl rfl ?_
    refine AW.if_lt (tgt := 113) dX2_isLaid_13 (by decide) rfl (fun _ => ?_) (fun c_ => by first | exact absurd c_ (by rw [i_sub1, Int32.lt_iff_toInt_lt]; decide) | exact absurd (by rw [i_sub1, Int32.lt_iff_toInt_lt]; decide) c_ | exact absurd c_ (not_not_intro (by rw [i_sub1, Int32.lt_iff_toInt_lt]; decide)) | exact Bool.noConfusion (c_.symm.trans (by rw [i_sub1, Int32.lt_iff_toInt_lt]; decide)))
    refine AW.iload dX2_isLaid_113 rfl rfl ?_
    refine AW.iconst (v := 1) dX2_isLaid_115 (by decide) rfl ?_
    refine AW.iload_n dX2_isLaid_116 rfl rfl ?_
    refine AW.ishl dX2_isLaid_117 rfl ?_
    refine AW.iconst (v := 1) dX2_isLaid_118 (by decide) rfl ?_
    refine AW.isub dX2_isLaid_119 rfl ?_
    refine AW.icmp_ne (tgt := 127) dX2_isLaid_120 (by decide) rfl (fun c120 => ?_) (fun c120 => ?_)
    · refine AW.iconst (v := 0) dX2_isLaid_127 (by decide) rfl ?_
      have hR2 : (decide (g = (1 <<< (nI n &&& 31)) - 1), D1) = R := hR
      rw [← hR2]
      exact AW.bretE dX2_isLaid_128 rfl rfl (by first | (rw [decide_eq_false c120]; rfl) | (rw [decide_eq_true c120]; rfl)) rfl
    · refine AW.iconst (v := 1) dX2_isLaid_123 (by decide) rfl ?_
      refine AW.goto (tgt := 128) dX2_isLaid_124 (by decide) ?_
      have hR2 : (decide (g = (1 <<< (nI n &&& 31)) - 1), D1) = R := hR
      rw [← hR2]
      exact AW.bretE dX2_isLaid_128 rfl rfl (by first | (rw [decide_eq_false c120]; rfl) | (rw [decide_eq_true c120]; rfl)) rfl
  · intro k hk ihk
    intro left g D1 hlt hR
    have hk1 : nI days - 1 - nI k = nI (days - 1 - k) := by rw [nI_s1 (by omega), nI_subN (by omega)]
    have hk9 : nI days - 1 - nI k + (-1) = nI days - 1 - nI (k + 1) := by rw [nI_succ k, Int32.sub_eq_add_neg, Int32.sub_eq_add_neg, Int32.sub_eq_add_neg (b := nI k + 1), Int32.neg_add, Int32.sub_eq_add_neg, Int32.add_assoc (nI days + -1)]
    have hn1 : nI n + 1 = nI (n + 1) := (nI_succ n).symm
    have hlt2 : left / (n + 1) < 2147483648 := by have := Nat.div_le_self left (n + 1); omega
    have hr : left % (n + 1) < n + 1 := Nat.mod_lt _ (by omega)
    have hs1 : (laidF (vwM (s.A 626)) M (s.A 626 8) n) (days - k) left g D1 = if left % (n + 1) = n then (laidF (vwM (s.A 626)) M (s.A 626 8) n) (days - (k + 1)) (left / (n + 1)) g D1 else if hasI g (nI (left % (n + 1))) = true ∨ hasI ((vwM (s.A 626)).sh (M (left % (n + 1)))) ((s.A 626 8 + nI (days - 1 - k)) % 20) = true then (false, D1) else (laidF (vwM (s.A 626)) M (s.A 626 8) n) (days - (k + 1)) (left / (n + 1)) (g ||| bit (nI (left % (n + 1)))) (up D1 (cI (M (left % (n + 1)))) (nI (days - 1 - k))) := by
      rw [show days - k = (days - (k + 1)) + 1 by omega, show days - 1 - k = days - (k + 1) by omega]
      rfl
    refine AW.iload dX2_isLaid_11 rfl rfl ?_
    refine AW.if_lt (tgt := 113) dX2_isLaid_13 (by decide) rfl (fun c_ => by first | exact absurd c_ (by rw [hk1]; exact nI_pos (by omega)) | exact absurd (by rw [hk1]; exact nI_pos (by omega)) c_ | exact Bool.noConfusion (c_.symm.trans (by rw [hk1]; exact nI_pos (by omega)))) (fun _ => ?_)
    refine AW.iload dX2_isLaid_16 rfl rfl ?_
    refine AW.iload_n dX2_isLaid_18 rfl rfl ?_
    refine AW.iconst (v := 1) dX2_isLaid_19 (by decide) rfl ?_
    refine AW.iadd dX2_isLaid_20 rfl ?_
    refine AW.irem dX2_isLaid_21 (by rw [hn1]; exact nI_nz (by omega) (by omega)) rfl ?_
    refine AW.st (st' := [.int (nI (left % (n + 1)))]) (by rw [hn1, nI_rem (by omega) (by omega)]) ?_
    refine AW.istore dX2_isLaid_22 rfl (Nat.le_of_ble_eq_true rfl) rfl rfl ?_
    refine AW.iload dX2_isLaid_24 rfl rfl ?_
    refine AW.iload_n dX2_isLaid_26 rfl rfl ?_
    refine AW.iconst (v := 1) dX2_isLaid_27 (by decide) rfl ?_
    refine AW.iadd dX2_isLaid_28 rfl ?_
    refine AW.idiv dX2_isLaid_29 (by rw [hn1]; exact nI_nz (by omega) (by omega)) rfl ?_
    refine AW.st (st' := [.int (nI (left / (n + 1)))]) (by rw [hn1, nI_div (by omega) (by omega)]) ?_
    refine AW.istore dX2_isLaid_30 rfl (Nat.le_of_ble_eq_true rfl) rfl rfl ?_
    refine AW.iload dX2_isLaid_32 rfl rfl ?_
    refine AW.iload_n dX2_isLaid_34 rfl rfl ?_
    refine AW.icmp_ne (tgt := 41) dX2_isLaid_35 (by decide) rfl (fun c35 => ?_) (fun c35 => ?_)
    · have hi : left % (n + 1) < n := by have : left % (n + 1) ≠ n := fun q => c35 (by rw [q]); omega
      refine AW.iload dX2_isLaid_41 rfl rfl ?_
      refine AW.iload dX2_isLaid_43 rfl rfl ?_
      refine AW.callS (Y := mX2_has) (n := 2) (r_X2_has _ _) (by decide) (by decide) q1547 q1548 q141 q1549 dX2_isLaid_45 (by decide +kernel) rfl rfl (Nat.le_of_ble_eq_true rfl) rfl ?_
      refine AW.if_neB (tgt := 82) dX2_isLaid_48 (by decide) rfl (fun c48 => ?_) (fun c48 => ?_)
      · refine AW.iconst (v := 0) dX2_isLaid_82 (by decide) rfl ?_
        rw [hs1] at hR
        rw [if_neg (fun q => c35 (by rw [q])), if_pos (by first | exact Or.inl c48 | exact Or.inr cS)] at hR
        rw [← hR]
        exact AW.bretE dX2_isLaid_83 rfl rfl rfl rfl
      · have hsh := vwM_sh (hM _ hi)
        refine AW.aload_n dX2_isLaid_51 rfl rfl ?_
        refine AW.aload_n dX2_isLaid_52 rfl rfl ?_
        refine AW.get ci2 32 (by decide) q1383 dX2_isLaid_53 gM rfl rfl ?_
        refine AW.iload dX2_isLaid_56 rfl rfl ?_
        refine AW.iald dX2_isLaid_58 gp636 (in0 _ (by omega) (by decide)) (j := left % (n + 1)) (cI_nI (by omega)) rfl ?_
        refine AW.iconst (v := 0) dX2_isLaid_59 (by decide) rfl ?_
        refine AW.callV (Y := mX2_get) (n := 2) (r_pX2_get _ 0 (in_get hn (hM _ hi) (by decide) (by decide))) (by decide) (by decide) rfl gM q1477 q1479 qs63 q141 q1480 dX2_isLaid_60 (by decide +kernel) rfl rfl (Nat.le_of_ble_eq_true rfl) rfl ?_
        refine AW.aload_n dX2_isLaid_63 rfl rfl ?_
        refine AW.get ci2 0 (by decide) q1351 dX2_isLaid_64 gM rfl rfl ?_
        refine AW.bipush (v := 8) dX2_isLaid_67 (by decide) rfl ?_
        refine AW.iald dX2_isLaid_69 gp626 (vp_in_iff.mpr (by decide)) (j := 8) (by decide) rfl ?_
        refine AW.iload dX2_isLaid_70 rfl rfl ?_
        refine AW.iadd dX2_isLaid_72 rfl ?_
        refine AW.bipush (v := 20) dX2_isLaid_73 (by decide) rfl ?_
        refine AW.irem dX2_isLaid_75 (by decide) rfl ?_
        refine AW.callS (Y := mX2_has) (n := 2) (r_X2_has _ _) (by decide) (by decide) q1547 q1548 q141 q1549 dX2_isLaid_76 (by decide +kernel) rfl rfl (Nat.le_of_ble_eq_true rfl) rfl ?_
        refine AW.if_eqB (tgt := 84) dX2_isLaid_79 (by decide) rfl (fun c79 => ?_) (fun c79 => ?_)
        · have cS : hasI ((vwM (s.A 626)).sh (M (left % (n + 1)))) ((s.A 626 8 + nI (days - 1 - k)) % 20) = false := by rw [hsh, ← hk1]; exact c79
          refine AW.iload dX2_isLaid_84 rfl rfl ?_
          refine AW.iconst (v := 1) dX2_isLaid_86 (by decide) rfl ?_
          refine AW.iload dX2_isLaid_87 rfl rfl ?_
          refine AW.ishl dX2_isLaid_89 rfl ?_
          refine AW.ior dX2_isLaid_90 rfl ?_
          refine AW.istore dX2_isLaid_91 rfl (Nat.le_of_ble_eq_true rfl) rfl rfl ?_
          refine AW.aload_n dX2_isLaid_93 rfl rfl ?_
          refine AW.get ci2 33 (by decide) q1384 dX2_isLaid_94 gM rfl rfl ?_
          refine AW.aload_n dX2_isLaid_97 rfl rfl ?_
          refine AW.get ci2 32 (by decide) q1383 dX2_isLaid_98 gM rfl rfl ?_
          refine AW.iload dX2_isLaid_101 rfl rfl ?_
          refine AW.iald dX2_isLaid_103 gp636 (in0 _ (by omega) (by decide)) (j := left % (n + 1)) (cI_nI (by omega)) rfl ?_
          refine AW.iload dX2_isLaid_104 rfl rfl ?_
          refine AW.iast dX2_isLaid_106 (by decide) gp637 (by have q := Vw.hou_b hn (hM _ hi); exact vp_in_iff.mpr (by omega)) (j := cI (M (left % (n + 1)))) rfl sp637 rfl ?_
          refine AW.iinc (v := (-1)) dX2_isLaid_107 rfl (by decide) rfl rfl rfl ?_
          refine AW.goto (tgt := 11) dX2_isLaid_110 (by decide) ?_
          rw [hs1] at hR
          rw [if_neg (fun q => c35 (by rw [q])), if_neg (by rw [c48, cS]; simp), ← hk1] at hR
          exact AW.fg 7 rfl (AW.ls (by rw [hk9]; rfl) (ihk _ _ _ hlt2 hR))
        · have cS : hasI ((vwM (s.A 626)).sh (M (left % (n + 1)))) ((s.A 626 8 + nI (days - 1 - k)) % 20) = true := by rw [hsh, ← hk1]; exact c79
          refine AW.iconst (v := 0) dX2_isLaid_82 (by decide) rfl ?_
          rw [hs1] at hR
          rw [if_neg (fun q => c35 (by rw [q])), if_pos (by first | exact Or.inl c48 | exact Or.inr cS)] at hR
          rw [← hR]
          exact AW.bretE dX2_isLaid_83 rfl rfl rfl rfl
    · refine AW.goto (tgt := 107) dX2_isLaid_38 (by decide) ?_
      refine AW.iinc (v := (-1)) dX2_isLaid_107 rfl (by decide) rfl rfl rfl ?_
      refine AW.goto (tgt := 11) dX2_isLaid_110 (by decide) ?_
      rw [hs1] at hR
      rw [if_pos (nI_inj (by omega) (by omega) c35)] at hR
      exact AW.fg 7 rfl (AW.ls (by rw [hk9]; rfl) (ihk _ _ _ hlt2 hR))
