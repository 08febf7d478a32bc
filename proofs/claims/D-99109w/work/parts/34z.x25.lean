/-! SYSTEM 25: tokens: one (printed by tools/x25.py) -/
set_option maxRecDepth 100000
theorem cm_one {T n : Nat} {t : Nat → Int32} {L0 : Lq} {kd : Int32} {f : Nat} (h1 : CM T n t L0 kd mX3_one GS 0 0 0 0 0 f) (h3 : CM T n t L0 kd mX3_sum GS 3 2 6 18 2 f) : CM T n t L0 kd mX3_one GS 0 0 0 0 0 (f + 1) := by
  intro s i o nu hC ho hN hz
  have hT := hC.1
  have hTb := hC.2.1
  have h300 := hC.2.2.2.1
  have hB := hC.2.2.2.2
  have hb := hB.1
  have e0 : RF n t L0 kd (f + 1) 0 [] i o = rdOne (byteF t n) (tkL t n L0) (decide (kd = 202)) (rd (byteF t n) (tkL t n L0) (decide (kd = 202)) f) i (nI o) := rfl
  unfold rdOne at e0
  rw [nI_succ' o] at e0
  have wr : ∀ r : Int32, Run 8 mX3_wrong [.ref T, .int r] (hp (Tk s T n t (tkL t n L0 i) nu (nI o) kd)) (.inl (some (.ref (512 + s.b.n)))) (hp (Tk (s.setb (s.b.push (wrC (512 + s.b.n) r (tkL t n L0 i).2.1) 8)) T n t (tkL t n L0 i) nu (nI o) kd)) := fun r => r_X3_wrong hT hTb hb r
  by_cases k1 : (tkL t n L0 i).2.2.1 = 1
  · rw [if_pos k1] at e0
    have hs : sortS (byteF t n) (tkL t n L0 i) = 300 := (so_c i (c := 300) (v := 1) (by decide) (by decide +kernel) (by decide +kernel)).mpr k1
    have n0 := tk_nu (t := t) (n := n) (L0 := L0) i k1
    have hnu := hN k1
    have x1 : ExT T (512 + s.b.n) 1 1 s.b (s.b.push (.inr (7, [.int 0])) 1) := ExT.push (Nat.le_refl _)
    by_cases k9 : 9999 < (tkL t n L0 i).2.2.2.1
    · rw [if_pos k9] at e0
      have h2 : inI nu 0 9999 = false := by
        rw [hnu, (min_in _ _ (by decide)).1, num_in n0, decide_eq_true k9]
        rfl
      have w1 := r_X3_number_2 (s := s.setb (s.b.push (.inr (7, [.int 0])) 1)) (n := n) (at_ := (tkL t n L0 i).1) (tk := (tkL t n L0 i).2.1) (op := nI o) (kd := kd) hT (by show T < 512 + (s.b.n + 1); omega) (by show 128 ≤ s.b.n + 1; omega) 0 9999 hs h2
      have q8 : EQ T n t L0 kd (512 + s.b.n) 0 0 s i 2 i (.inr (512 + (s.b.n + 1)), hp (Tk (s.setb ((s.b.push (.inr (7, [.int 0])) 1).push (wrC (512 + (s.b.n + 1)) 2 (tkL t n L0 i).2.1) 8)) T n t (tkL t n L0 i) nu (nI o) kd)) := ⟨Nat.le_refl _, _, _, nu, nI o, (x1.trans (ExT.push (lo := (512 + s.b.n)) (by show _ ≤ 512 + (s.b.n + 1); omega)) (Nat.le_refl _)).mono (Nat.le_refl _) (by omega) (by omega), ⟨by show 512 + s.b.n ≤ 512 + (s.b.n + 1); omega, by show 512 + (s.b.n + 1) < 512 + (s.b.n + 1 + 1); omega, push_g⟩, rfl⟩
      refine ⟨_, PQ.l e0 q8, ?_⟩
      refine Run.ofX rfl (Nat.le_of_ble_eq_true rfl) rfl ?_
      refine AW.aload_n dX3_one_0 rfl rfl ?_
      refine AW.get ci3 4 (by decide) q308 dX3_one_1 (gTk hT) rfl rfl ?_
      refine AW.sipush (v := 300) dX3_one_4 (by decide) rfl ?_
      refine AW.icmp_ne (tgt := 26) dX3_one_7 (by decide) rfl (fun c_ => by first | exact absurd c_ hs | exact absurd hs c_ | exact Bool.noConfusion (c_.symm.trans hs)) (fun _ => ?_)
      refine AW.new ci7 dX3_one_10 q537 q538 q157 dfX7 (tk_push hTb hb) rfl ?_
      refine AW.dup dX3_one_13 rfl rfl ?_
      refine AW.aload_n dX3_one_14 rfl rfl ?_
      refine AW.iconst (v := 0) dX3_one_15 (by decide) rfl ?_
      refine AW.sipush (v := 9999) dX3_one_16 (by decide) rfl ?_
      exact AW.callVX (Y := mX3_number) (n := 2) (w1) (by omega) (by decide) rfl (gTk hT) q539 q541 qs8 q142 q542 dX3_one_19 (by decide +kernel) rfl rfl (Nat.le_of_ble_eq_true rfl) q536 rfl
    · rw [if_neg k9] at e0
      have h2 : inI nu 0 9999 = true := by
        rw [hnu, (min_in _ _ (by decide)).1, num_in n0, decide_eq_false k9]
        rfl
      have hnum : nu = (tkL t n L0 i).2.2.2.1 := hnu.trans ((min_in _ 0 (hi := 9999) (by decide)).2 (by rw [num_in n0, decide_eq_false k9]; rfl))
      have hC1 : TC (s.setb (s.b.push (.inr (7, [.int 0])) 1)) T n t := hC.ext x1 (by omega)
      obtain ⟨nu2, hN2, w1⟩ := r_X3_number_t hC1 i (L0 := L0) (nu := nu) (op := nI o) (kd := kd) 0 9999 hs h2
      have w3 := r_X7_init (s := Tk (s.setb (s.b.push (.inr (7, [.int 0])) 1)) T n t (tkL t n L0 (i + 1)) nu2 (nI o) kd) (a := (512 + s.b.n)) (by omega) ((Tk_g (by omega)).trans push_g) nu
      have hw3 : hp ((Tk (s.setb (s.b.push (.inr (7, [.int 0])) 1)) T n t (tkL t n L0 (i + 1)) nu2 (nI o) kd).setb ((Tk (s.setb (s.b.push (.inr (7, [.int 0])) 1)) T n t (tkL t n L0 (i + 1)) nu2 (nI o) kd).b.set (512 + s.b.n) (.inr (7, [.int nu])))) = hp (Tk (s.setb (s.b.push (.inr (7, [.int nu])) 1)) T n t (tkL t n L0 (i + 1)) nu2 (nI o) kd) := (tk_cm (s := s.setb (s.b.push (.inr (7, [.int 0])) 1)) (by omega)).trans (congrArg (fun z => hp (Tk (s.setb z) T n t (tkL t n L0 (i + 1)) nu2 (nI o) kd)) push_set)
      have gB : GS (6 + 3 * (8 - o) + 0) [(0, (tkL t n L0 i).2.2.2.1)] (512 + s.b.n) (s.b.push (.inr (7, [.int nu])) 1) (512 + s.b.n) := by
        refine ⟨fun _ => nu.toInt64, by rw [← hnum]; exact CS.num nu, ?_⟩
        exact FnO.widen (mk7 (lo := (512 + s.b.n)) (D := 0) (by omega) (Nat.le_refl _) (by show _ < 512 + (s.b.n + 1); omega) nu push_g) (by omega) (Nat.le_refl _) (Nat.le_refl _) (Nat.le_refl _) (by omega)
      refine ⟨_, PQ.r e0 ⟨Nat.le_refl _, (512 + s.b.n), _, nu2, (ExT.push (Nat.le_refl _)).mono (Nat.le_refl _) (by show 1 ≤ 16 * (i + 1 - i) + 0; omega) (by show 1 ≤ 120 * (i + 1 - i) + 0; omega), gB, hN2, rfl⟩, ?_⟩
      refine Run.of rfl (Nat.le_of_ble_eq_true rfl) rfl ?_
      refine AW.aload_n dX3_one_0 rfl rfl ?_
      refine AW.get ci3 4 (by decide) q308 dX3_one_1 (gTk hT) rfl rfl ?_
      refine AW.sipush (v := 300) dX3_one_4 (by decide) rfl ?_
      refine AW.icmp_ne (tgt := 26) dX3_one_7 (by decide) rfl (fun c_ => by first | exact absurd c_ hs | exact absurd hs c_ | exact Bool.noConfusion (c_.symm.trans hs)) (fun _ => ?_)
      refine AW.new ci7 dX3_one_10 q537 q538 q157 dfX7 (tk_push hTb hb) rfl ?_
      refine AW.dup dX3_one_13 rfl rfl ?_
      refine AW.aload_n dX3_one_14 rfl rfl ?_
      refine AW.iconst (v := 0) dX3_one_15 (by decide) rfl ?_
      refine AW.sipush (v := 9999) dX3_one_16 (by decide) rfl ?_
      refine AW.callV (Y := mX3_number) (n := 2) (w1) (by omega) (by decide) rfl (gTk hT) q539 q541 qs8 q142 q542 dX3_one_19 (by decide +kernel) rfl rfl (Nat.le_of_ble_eq_true rfl) rfl ?_
      refine AW.callIN (Y := mX7_init) (n := 1) (w3) (by omega) (by decide) rfl q543 q544 q157 q545 dX3_one_22 rfl (by decide +kernel) rfl rfl (Nat.le_of_ble_eq_true rfl) rfl ?_
      refine AW.hp hw3 ?_
      exact AW.aretE dX3_one_25 rfl (Or.inl ⟨_, rfl⟩) (Or.inr ⟨_, rfl⟩) rfl rfl rfl
  rw [if_neg k1] at e0
  have hs : ¬ sortS (byteF t n) (tkL t n L0 i) = 300 := fun q => k1 ((so_c i (c := 300) (v := 1) (by decide) (by decide +kernel) (by decide +kernel)).mp q)
  have hnm := nm_tk (t := t) (L0 := L0) h300 i
  have hin := nmT_in (sortS (byteF t n) (tkL t n L0 i))
  by_cases cd : isWd (tkL t n L0 i) (w5F 100 105 103 105 116) = true
  · have hs17 : sortS (byteF t n) (tkL t n L0 i) = 217 := (so_w h300 i (k := 17) (by decide) (by decide) (by decide +kernel)).mpr cd
    have hn0 : ¬ 0 ≤ nmK (byteF t n) (tkL t n L0) i := by
      rw [← hnm, hs17]
      decide
    have k2 := of_decide_eq_true (Bool.and_eq_true_iff.mp cd).1
    rw [if_neg hn0, if_neg (by rw [k2]; decide), if_neg (by rw [k2]; decide), if_pos cd] at e0
    obtain ⟨⟨o9, h9⟩, q9, w9⟩ := q_digit h1 hC ho (nu := nu) cd e0 hz
    refine ⟨_, q9, ?_⟩
    cases hx : RF n t L0 kd (f + 1) 0 [] i o with
    | inl e =>
      rw [hx] at q9
      obtain ⟨-, q, b2, nu3, op3, -, -, qe⟩ := PQ.le q9
      obtain ⟨rfl, rfl⟩ := Prod.mk.inj qe
      refine Run.ofX rfl (Nat.le_of_ble_eq_true rfl) rfl ?_
      refine AW.aload_n dX3_one_0 rfl rfl ?_
      refine AW.get ci3 4 (by decide) q308 dX3_one_1 (gTk hT) rfl rfl ?_
      refine AW.sipush (v := 300) dX3_one_4 (by decide) rfl ?_
      refine AW.icmp_ne (tgt := 26) dX3_one_7 (by decide) rfl (fun _ => ?_) (fun c_ => by first | exact absurd c_ hs | exact absurd hs c_ | exact absurd c_ (not_not_intro hs) | exact Bool.noConfusion (c_.symm.trans hs))
      refine AW.aload_n dX3_one_26 rfl rfl ?_
      refine AW.get ci3 4 (by decide) q308 dX3_one_27 (gTk hT) rfl rfl ?_
      refine AW.sipush (v := 217) dX3_one_30 (by decide) rfl ?_
      refine AW.icmp_ne (tgt := 41) dX3_one_33 (by decide) rfl (fun c_ => by first | exact absurd c_ hs17 | exact absurd hs17 c_ | exact Bool.noConfusion (c_.symm.trans hs17)) (fun _ => ?_)
      refine AW.aload_n dX3_one_36 rfl rfl ?_
      exact AW.callVX (Y := mX3_digit) (n := 0) (w9) (by omega) (by decide) rfl (gTk hT) q554 q556 qs9 q142 q557 dX3_one_37 (by decide +kernel) rfl rfl (Nat.le_of_ble_eq_true rfl) q536 rfl
    | inr e =>
      rw [hx] at q9
      obtain ⟨-, y, b2, nu3, -, -, -, qe⟩ := q9
      obtain ⟨rfl, rfl⟩ := Prod.mk.inj qe
      refine Run.of rfl (Nat.le_of_ble_eq_true rfl) rfl ?_
      refine AW.aload_n dX3_one_0 rfl rfl ?_
      refine AW.get ci3 4 (by decide) q308 dX3_one_1 (gTk hT) rfl rfl ?_
      refine AW.sipush (v := 300) dX3_one_4 (by decide) rfl ?_
      refine AW.icmp_ne (tgt := 26) dX3_one_7 (by decide) rfl (fun _ => ?_) (fun c_ => by first | exact absurd c_ hs | exact absurd hs c_ | exact absurd c_ (not_not_intro hs) | exact Bool.noConfusion (c_.symm.trans hs))
      refine AW.aload_n dX3_one_26 rfl rfl ?_
      refine AW.get ci3 4 (by decide) q308 dX3_one_27 (gTk hT) rfl rfl ?_
      refine AW.sipush (v := 217) dX3_one_30 (by decide) rfl ?_
      refine AW.icmp_ne (tgt := 41) dX3_one_33 (by decide) rfl (fun c_ => by first | exact absurd c_ hs17 | exact absurd hs17 c_ | exact Bool.noConfusion (c_.symm.trans hs17)) (fun _ => ?_)
      refine AW.aload_n dX3_one_36 rfl rfl ?_
      refine AW.callV (Y := mX3_digit) (n := 0) (w9) (by omega) (by decide) rfl (gTk hT) q554 q556 qs9 q142 q557 dX3_one_37 (by decide +kernel) rfl rfl (Nat.le_of_ble_eq_true rfl) rfl ?_
      exact AW.aretE dX3_one_40 rfl (Or.inl ⟨_, rfl⟩) (Or.inr ⟨_, rfl⟩) rfl rfl rfl
  have hs17 : ¬ sortS (byteF t n) (tkL t n L0 i) = 217 := fun q => cd ((so_w h300 i (k := 17) (by decide) (by decide) (by decide +kernel)).mp q)
  by_cases cn : 0 ≤ nmK (byteF t n) (tkL t n L0) i
  · rw [if_pos cn] at e0
    have hm1 : ¬ nmT (sortS (byteF t n) (tkL t n L0 i)) = -1 := fun q => by
      rw [← hnm, q] at cn
      exact absurd cn (by decide)
    obtain ⟨w0, w8⟩ := hin.resolve_left hm1
    by_cases c7 : nmK (byteF t n) (tkL t n L0) i = 7 ∧ decide (kd = 202) = true
    · rw [if_pos c7] at e0
      have hmn : (decide (nmT (sortS (byteF t n) (tkL t n L0 i)) < 7) || !decide (kd = 202)) = false := by
        rw [hnm, c7.1, c7.2]
        decide
      refine ⟨_, PQ.l e0 (EQ.wr (nu := nu) (op := nI o) (Nat.le_refl _) 5), ?_⟩
      refine Run.ofX rfl (Nat.le_of_ble_eq_true rfl) rfl ?_
      refine AW.aload_n dX3_one_0 rfl rfl ?_
      refine AW.get ci3 4 (by decide) q308 dX3_one_1 (gTk hT) rfl rfl ?_
      refine AW.sipush (v := 300) dX3_one_4 (by decide) rfl ?_
      refine AW.icmp_ne (tgt := 26) dX3_one_7 (by decide) rfl (fun _ => ?_) (fun c_ => by first | exact absurd c_ hs | exact absurd hs c_ | exact absurd c_ (not_not_intro hs) | exact Bool.noConfusion (c_.symm.trans hs))
      refine AW.aload_n dX3_one_26 rfl rfl ?_
      refine AW.get ci3 4 (by decide) q308 dX3_one_27 (gTk hT) rfl rfl ?_
      refine AW.sipush (v := 217) dX3_one_30 (by decide) rfl ?_
      refine AW.icmp_ne (tgt := 41) dX3_one_33 (by decide) rfl (fun _ => ?_) (fun c_ => by first | exact absurd c_ hs17 | exact absurd hs17 c_ | exact absurd c_ (not_not_intro hs17) | exact Bool.noConfusion (c_.symm.trans hs17))
      refine AW.aload_n dX3_one_41 rfl rfl ?_
      refine AW.callV (Y := mX3_nameNow) (n := 0) (r_X3_nameNow hT) (by omega) (by decide) rfl (gTk hT) q579 q581 qs12 q142 q582 dX3_one_42 (by decide +kernel) rfl rfl (Nat.le_of_ble_eq_true rfl) rfl ?_
      refine AW.istore_n (i := 1) dX3_one_45 rfl rfl (Nat.le_of_ble_eq_true rfl) rfl rfl ?_
      refine AW.iload_n dX3_one_46 rfl rfl ?_
      refine AW.iconst (v := (-1)) dX3_one_47 (by decide) rfl ?_
      refine AW.icmp_eq (tgt := 78) dX3_one_48 (by decide) rfl (fun c_ => by first | exact absurd c_ hm1 | exact absurd hm1 c_ | exact Bool.noConfusion (c_.symm.trans hm1)) (fun _ => ?_)
      refine AW.aload_n dX3_one_51 rfl rfl ?_
      refine AW.iload_n dX3_one_52 rfl rfl ?_
      refine AW.callV (Y := mX3_mayName) (n := 1) (r_X3_mayName hT _) (by omega) (by decide) rfl (gTk hT) q583 q585 qs13 q142 q586 dX3_one_53 (by decide +kernel) rfl rfl (Nat.le_of_ble_eq_true rfl) rfl ?_
      refine AW.if_neB (tgt := 65) dX3_one_56 (by decide) rfl (fun c_ => by first | exact absurd c_ hmn | exact absurd hmn c_ | exact Bool.noConfusion (c_.symm.trans hmn)) (fun _ => ?_)
      refine AW.aload_n dX3_one_59 rfl rfl ?_
      refine AW.iconst (v := 5) dX3_one_60 (by decide) rfl ?_
      refine AW.callV (Y := mX3_wrong) (n := 1) (wr 5) (by omega) (by decide) rfl (gTk hT) q455 q457 qs3 q142 q458 dX3_one_61 (by decide +kernel) rfl rfl (Nat.le_of_ble_eq_true rfl) rfl ?_
      exact AW.athrow dX3_one_64 q536 (by omega) ((tk_g (nfx (by omega)) (by omega)).trans push_g) rfl
    · rw [if_neg c7] at e0
      have hmn : (decide (nmT (sortS (byteF t n) (tkL t n L0 i)) < 7) || !decide (kd = 202)) = true := by
        by_cases z : kd = 202
        · have e7 : (7 : Int32).toInt = 7 := rfl
          rw [decide_eq_true (by
            rw [Int32.lt_iff_toInt_lt, e7]
            have : ¬ (nmT (sortS (byteF t n) (tkL t n L0 i))).toInt = 7 := fun q => c7 ⟨by rw [← hnm]; exact Int32.toInt_inj.mp (q.trans e7.symm), decide_eq_true z⟩
            omega : nmT (sortS (byteF t n) (tkL t n L0 i)) < 7)]
          rfl
        · rw [decide_eq_false z, Bool.or_comm]
          rfl
      obtain ⟨nu2, hN2, w1⟩ := tk_next hC L0 i (nu := nu) (op := nI o) (kd := kd)
      have w3 := r_X9_init (s := Tk (s.setb (s.b.push (.inr (9, [.int 0])) 1)) T n t (tkL t n L0 (i + 1)) nu2 (nI o) kd) (a := (512 + s.b.n)) (by omega) ((Tk_g (by omega)).trans push_g) (nmT (sortS (byteF t n) (tkL t n L0 i)))
      have hw3 : hp ((Tk (s.setb (s.b.push (.inr (9, [.int 0])) 1)) T n t (tkL t n L0 (i + 1)) nu2 (nI o) kd).setb ((Tk (s.setb (s.b.push (.inr (9, [.int 0])) 1)) T n t (tkL t n L0 (i + 1)) nu2 (nI o) kd).b.set (512 + s.b.n) (.inr (9, [.int (nmT (sortS (byteF t n) (tkL t n L0 i)))])))) = hp (Tk (s.setb (s.b.push (.inr (9, [.int (nmT (sortS (byteF t n) (tkL t n L0 i)))])) 1)) T n t (tkL t n L0 (i + 1)) nu2 (nI o) kd) := (tk_cm (s := s.setb (s.b.push (.inr (9, [.int 0])) 1)) (by omega)).trans (congrArg (fun z => hp (Tk (s.setb z) T n t (tkL t n L0 (i + 1)) nu2 (nI o) kd)) push_set)
      have gB : GS (6 + 3 * (8 - o) + 0) [(1, nmK (byteF t n) (tkL t n L0) i)] (512 + s.b.n) (s.b.push (.inr (9, [.int (nmT (sortS (byteF t n) (tkL t n L0 i)))])) 1) (512 + s.b.n) := by
        refine ⟨fun N => (N (cI (nmT (sortS (byteF t n) (tkL t n L0 i))))).toInt64, by rw [← hnm]; exact CS.name w0 w8, ?_⟩
        exact FnO.widen (mk9 (lo := (512 + s.b.n)) (D := 0) (by omega) (Nat.le_refl _) (by show _ < 512 + (s.b.n + 1); omega) w0 w8 push_g) (by omega) (Nat.le_refl _) (Nat.le_refl _) (Nat.le_refl _) (by omega)
      refine ⟨_, PQ.r e0 ⟨Nat.le_refl _, (512 + s.b.n), _, nu2, (ExT.push (Nat.le_refl _)).mono (Nat.le_refl _) (by show 1 ≤ 16 * (i + 1 - i) + 0; omega) (by show 1 ≤ 120 * (i + 1 - i) + 0; omega), gB, hN2, rfl⟩, ?_⟩
      refine Run.of rfl (Nat.le_of_ble_eq_true rfl) rfl ?_
      refine AW.aload_n dX3_one_0 rfl rfl ?_
      refine AW.get ci3 4 (by decide) q308 dX3_one_1 (gTk hT) rfl rfl ?_
      refine AW.sipush (v := 300) dX3_one_4 (by decide) rfl ?_
      refine AW.icmp_ne (tgt := 26) dX3_one_7 (by decide) rfl (fun _ => ?_) (fun c_ => by first | exact absurd c_ hs | exact absurd hs c_ | exact absurd c_ (not_not_intro hs) | exact Bool.noConfusion (c_.symm.trans hs))
      refine AW.aload_n dX3_one_26 rfl rfl ?_
      refine AW.get ci3 4 (by decide) q308 dX3_one_27 (gTk hT) rfl rfl ?_
      refine AW.sipush (v := 217) dX3_one_30 (by decide) rfl ?_
      refine AW.icmp_ne (tgt := 41) dX3_one_33 (by decide) rfl (fun _ => ?_) (fun c_ => by first | exact absurd c_ hs17 | exact absurd hs17 c_ | exact absurd c_ (not_not_intro hs17) | exact Bool.noConfusion (c_.symm.trans hs17))
      refine AW.aload_n dX3_one_41 rfl rfl ?_
      refine AW.callV (Y := mX3_nameNow) (n := 0) (r_X3_nameNow hT) (by omega) (by decide) rfl (gTk hT) q579 q581 qs12 q142 q582 dX3_one_42 (by decide +kernel) rfl rfl (Nat.le_of_ble_eq_true rfl) rfl ?_
      refine AW.istore_n (i := 1) dX3_one_45 rfl rfl (Nat.le_of_ble_eq_true rfl) rfl rfl ?_
      refine AW.iload_n dX3_one_46 rfl rfl ?_
      refine AW.iconst (v := (-1)) dX3_one_47 (by decide) rfl ?_
      refine AW.icmp_eq (tgt := 78) dX3_one_48 (by decide) rfl (fun c_ => by first | exact absurd c_ hm1 | exact absurd hm1 c_ | exact Bool.noConfusion (c_.symm.trans hm1)) (fun _ => ?_)
      refine AW.aload_n dX3_one_51 rfl rfl ?_
      refine AW.iload_n dX3_one_52 rfl rfl ?_
      refine AW.callV (Y := mX3_mayName) (n := 1) (r_X3_mayName hT _) (by omega) (by decide) rfl (gTk hT) q583 q585 qs13 q142 q586 dX3_one_53 (by decide +kernel) rfl rfl (Nat.le_of_ble_eq_true rfl) rfl ?_
      refine AW.if_neB (tgt := 65) dX3_one_56 (by decide) rfl (fun _ => ?_) (fun c_ => by first | exact absurd c_ hmn | exact absurd hmn c_ | exact absurd c_ (not_not_intro hmn) | exact Bool.noConfusion (c_.symm.trans hmn))
      refine AW.aload_n dX3_one_65 rfl rfl ?_
      refine AW.callV (Y := mX3_next) (n := 0) (w1) (by omega) (by decide) rfl (gTk hT) q386 q388 qs1 q142 q389 dX3_one_66 (by decide +kernel) rfl rfl (Nat.le_of_ble_eq_true rfl) rfl ?_
      refine AW.new ci9 dX3_one_69 q587 q588 q159 dfX9 (tk_push hTb hb) rfl ?_
      refine AW.dup dX3_one_72 rfl rfl ?_
      refine AW.iload_n dX3_one_73 rfl rfl ?_
      refine AW.callIN (Y := mX9_init) (n := 1) (w3) (by omega) (by decide) rfl q589 q590 q159 q591 dX3_one_74 rfl (by decide +kernel) rfl rfl (Nat.le_of_ble_eq_true rfl) rfl ?_
      refine AW.hp hw3 ?_
      exact AW.aretE dX3_one_77 rfl (Or.inl ⟨_, rfl⟩) (Or.inr ⟨_, rfl⟩) rfl rfl rfl
  have hm1 : nmT (sortS (byteF t n) (tkL t n L0 i)) = -1 := hin.resolve_right (fun q => cn (by rw [← hnm, Int32.le_iff_toInt_le]; exact q.1))
  rw [if_neg cn] at e0
  by_cases c40 : (tkL t n L0 i).2.2.1 = 40
  · rw [if_pos c40] at e0
    have hs40 : sortS (byteF t n) (tkL t n L0 i) = 40 := (so_c i (c := 40) (v := 40) (by decide) (by decide +kernel) (by decide +kernel)).mpr c40
    by_cases c8 : nI o = 8
    · rw [if_pos c8] at e0
      have w1 := r_X3_opens_f (s := s) (n := n) (at_ := (tkL t n L0 i).1) (tk := (tkL t n L0 i).2.1) (so := sortS (byteF t n) (tkL t n L0 i)) (nu := nu) (kd := kd) hT hTb hb c8
      refine ⟨_, PQ.l e0 (EQ.wr (nu := nu) (op := nI o) (Nat.le_refl _) 3), ?_⟩
      refine Run.ofX rfl (Nat.le_of_ble_eq_true rfl) rfl ?_
      refine AW.aload_n dX3_one_0 rfl rfl ?_
      refine AW.get ci3 4 (by decide) q308 dX3_one_1 (gTk hT) rfl rfl ?_
      refine AW.sipush (v := 300) dX3_one_4 (by decide) rfl ?_
      refine AW.icmp_ne (tgt := 26) dX3_one_7 (by decide) rfl (fun _ => ?_) (fun c_ => by first | exact absurd c_ hs | exact absurd hs c_ | exact absurd c_ (not_not_intro hs) | exact Bool.noConfusion (c_.symm.trans hs))
      refine AW.aload_n dX3_one_26 rfl rfl ?_
      refine AW.get ci3 4 (by decide) q308 dX3_one_27 (gTk hT) rfl rfl ?_
      refine AW.sipush (v := 217) dX3_one_30 (by decide) rfl ?_
      refine AW.icmp_ne (tgt := 41) dX3_one_33 (by decide) rfl (fun _ => ?_) (fun c_ => by first | exact absurd c_ hs17 | exact absurd hs17 c_ | exact absurd c_ (not_not_intro hs17) | exact Bool.noConfusion (c_.symm.trans hs17))
      refine AW.aload_n dX3_one_41 rfl rfl ?_
      refine AW.callV (Y := mX3_nameNow) (n := 0) (r_X3_nameNow hT) (by omega) (by decide) rfl (gTk hT) q579 q581 qs12 q142 q582 dX3_one_42 (by decide +kernel) rfl rfl (Nat.le_of_ble_eq_true rfl) rfl ?_
      refine AW.istore_n (i := 1) dX3_one_45 rfl rfl (Nat.le_of_ble_eq_true rfl) rfl rfl ?_
      refine AW.iload_n dX3_one_46 rfl rfl ?_
      refine AW.iconst (v := (-1)) dX3_one_47 (by decide) rfl ?_
      refine AW.icmp_eq (tgt := 78) dX3_one_48 (by decide) rfl (fun _ => ?_) (fun c_ => by first | exact absurd c_ hm1 | exact absurd hm1 c_ | exact absurd c_ (not_not_intro hm1) | exact Bool.noConfusion (c_.symm.trans hm1))
      refine AW.aload_n dX3_one_78 rfl rfl ?_
      refine AW.get ci3 4 (by decide) q308 dX3_one_79 (gTk hT) rfl rfl ?_
      refine AW.bipush (v := 40) dX3_one_82 (by decide) rfl ?_
      refine AW.icmp_ne (tgt := 105) dX3_one_84 (by decide) rfl (fun c_ => by first | exact absurd c_ hs40 | exact absurd hs40 c_ | exact Bool.noConfusion (c_.symm.trans hs40)) (fun _ => ?_)
      refine AW.aload_n dX3_one_87 rfl rfl ?_
      exact AW.callVX (Y := mX3_opens) (n := 0) (w1) (by omega) (by decide) rfl (gTk hT) q558 q560 qs10 q142 q561 dX3_one_88 (by decide +kernel) rfl rfl (Nat.le_of_ble_eq_true rfl) q536 rfl
    · rw [if_neg c8] at e0
      have o8 : o < 8 := Nat.lt_of_le_of_ne ho (fun q => c8 ((nI_e8 ho).mpr q))
      have hop : nI (o + 1) - 1 = nI o := by rw [show (1 : Int32) = nI 1 from rfl, nI_subN (by omega)]; rfl
      obtain ⟨nu2, hN2, w1⟩ := r_X3_opens_t hC i (L0 := L0) (nu := nu) (op := nI o) (kd := kd) c8
      rw [nI_succ' o] at w1
      have e0 : RF n t L0 kd (f + 1) 0 [] i o = bd (RF n t L0 kd f 3 [] (i + 1) (o + 1)) fun c j => if (tkL t n L0 j).2.2.1 = 41 then .inr (c, j + 1) else .inl (1, j) := e0
      obtain ⟨⟨o9, h9⟩, q9, w9⟩ := h3 s (i + 1) (o + 1) nu2 hC (by omega) hN2 (nz_bd (by rw [← e0]; exact hz))
      cases hx : RF n t L0 kd f 3 [] (i + 1) (o + 1) with
      | inl e =>
        rw [hx] at q9 e0
        have q8 : EQ T n t L0 kd (512 + s.b.n) 0 0 s i e.1 e.2 (o9, h9) := EQ.up (b1 := s.b) (show EQ T n t L0 kd (512 + s.b.n) 6 18 (s.setb s.b) (i + 1) e.1 e.2 (o9, h9) from q9) (ExT.refl T (512 + s.b.n) s.b) (by omega) (by omega) (by omega) (by omega)
        obtain ⟨-, q, b2, nu3, op3, -, -, qe⟩ := id q8
        obtain ⟨rfl, rfl⟩ := Prod.mk.inj qe
        refine ⟨_, PQ.l e0 q8, ?_⟩
        refine Run.ofX rfl (Nat.le_of_ble_eq_true rfl) rfl ?_
        refine AW.aload_n dX3_one_0 rfl rfl ?_
        refine AW.get ci3 4 (by decide) q308 dX3_one_1 (gTk hT) rfl rfl ?_
        refine AW.sipush (v := 300) dX3_one_4 (by decide) rfl ?_
        refine AW.icmp_ne (tgt := 26) dX3_one_7 (by decide) rfl (fun _ => ?_) (fun c_ => by first | exact absurd c_ hs | exact absurd hs c_ | exact absurd c_ (not_not_intro hs) | exact Bool.noConfusion (c_.symm.trans hs))
        refine AW.aload_n dX3_one_26 rfl rfl ?_
        refine AW.get ci3 4 (by decide) q308 dX3_one_27 (gTk hT) rfl rfl ?_
        refine AW.sipush (v := 217) dX3_one_30 (by decide) rfl ?_
        refine AW.icmp_ne (tgt := 41) dX3_one_33 (by decide) rfl (fun _ => ?_) (fun c_ => by first | exact absurd c_ hs17 | exact absurd hs17 c_ | exact absurd c_ (not_not_intro hs17) | exact Bool.noConfusion (c_.symm.trans hs17))
        refine AW.aload_n dX3_one_41 rfl rfl ?_
        refine AW.callV (Y := mX3_nameNow) (n := 0) (r_X3_nameNow hT) (by omega) (by decide) rfl (gTk hT) q579 q581 qs12 q142 q582 dX3_one_42 (by decide +kernel) rfl rfl (Nat.le_of_ble_eq_true rfl) rfl ?_
        refine AW.istore_n (i := 1) dX3_one_45 rfl rfl (Nat.le_of_ble_eq_true rfl) rfl rfl ?_
        refine AW.iload_n dX3_one_46 rfl rfl ?_
        refine AW.iconst (v := (-1)) dX3_one_47 (by decide) rfl ?_
        refine AW.icmp_eq (tgt := 78) dX3_one_48 (by decide) rfl (fun _ => ?_) (fun c_ => by first | exact absurd c_ hm1 | exact absurd hm1 c_ | exact absurd c_ (not_not_intro hm1) | exact Bool.noConfusion (c_.symm.trans hm1))
        refine AW.aload_n dX3_one_78 rfl rfl ?_
        refine AW.get ci3 4 (by decide) q308 dX3_one_79 (gTk hT) rfl rfl ?_
        refine AW.bipush (v := 40) dX3_one_82 (by decide) rfl ?_
        refine AW.icmp_ne (tgt := 105) dX3_one_84 (by decide) rfl (fun c_ => by first | exact absurd c_ hs40 | exact absurd hs40 c_ | exact Bool.noConfusion (c_.symm.trans hs40)) (fun _ => ?_)
        refine AW.aload_n dX3_one_87 rfl rfl ?_
        refine AW.callV (Y := mX3_opens) (n := 0) (w1) (by omega) (by decide) rfl (gTk hT) q558 q560 qs10 q142 q561 dX3_one_88 (by decide +kernel) rfl rfl (Nat.le_of_ble_eq_true rfl) rfl ?_
        refine AW.aload_n dX3_one_91 rfl rfl ?_
        exact AW.callVX (Y := mX3_sum) (n := 0) (w9) (by omega) (by decide) rfl (gTk hT) q523 q525 qs5 q142 q526 dX3_one_92 (by decide +kernel) rfl rfl (Nat.le_of_ble_eq_true rfl) q536 rfl
      | inr e =>
        obtain ⟨c, j⟩ := e
        rw [hx] at q9 e0
        obtain ⟨j1, y, b2, nu3, x2, gG, hN3, qe⟩ := q9
        obtain ⟨rfl, rfl⟩ := Prod.mk.inj qe
        have j1' : i + 1 + 1 ≤ j := j1
        have hC2 : TC (s.setb b2) T n t := hC.ext x2 (by omega)
        have x2n := x2.1
        by_cases cf : (tkL t n L0 j).2.2.1 = 41
        · have hs41 : sortS (byteF t n) (tkL t n L0 j) = 41 := (so_c j (c := 41) (v := 41) (by decide) (by decide +kernel) (by decide +kernel)).mpr cf
          have e0 : RF n t L0 kd (f + 1) 0 [] i o = .inr (c, j + 1) := e0.trans (if_pos cf)
          obtain ⟨nu4, hN4, w2⟩ := r_X3_want_t hC2 j (L0 := L0) (nu := nu3) (op := nI (o + 1)) (kd := kd) 41 hs41
          refine ⟨_, PQ.r e0 ⟨by show i + 1 ≤ j + 1; omega, y, b2, nu4, x2.mono (Nat.le_refl _) (by show _ ≤ 16 * (j + 1 - i) + 0; omega) (by show _ ≤ 120 * (j + 1 - i) + 0; omega), GS.wid gG (by omega) (Nat.le_refl _) (by omega), hN4, rfl⟩, ?_⟩
          refine Run.of rfl (Nat.le_of_ble_eq_true rfl) rfl ?_
          refine AW.aload_n dX3_one_0 rfl rfl ?_
          refine AW.get ci3 4 (by decide) q308 dX3_one_1 (gTk hT) rfl rfl ?_
          refine AW.sipush (v := 300) dX3_one_4 (by decide) rfl ?_
          refine AW.icmp_ne (tgt := 26) dX3_one_7 (by decide) rfl (fun _ => ?_) (fun c_ => by first | exact absurd c_ hs | exact absurd hs c_ | exact absurd c_ (not_not_intro hs) | exact Bool.noConfusion (c_.symm.trans hs))
          refine AW.aload_n dX3_one_26 rfl rfl ?_
          refine AW.get ci3 4 (by decide) q308 dX3_one_27 (gTk hT) rfl rfl ?_
          refine AW.sipush (v := 217) dX3_one_30 (by decide) rfl ?_
          refine AW.icmp_ne (tgt := 41) dX3_one_33 (by decide) rfl (fun _ => ?_) (fun c_ => by first | exact absurd c_ hs17 | exact absurd hs17 c_ | exact absurd c_ (not_not_intro hs17) | exact Bool.noConfusion (c_.symm.trans hs17))
          refine AW.aload_n dX3_one_41 rfl rfl ?_
          refine AW.callV (Y := mX3_nameNow) (n := 0) (r_X3_nameNow hT) (by omega) (by decide) rfl (gTk hT) q579 q581 qs12 q142 q582 dX3_one_42 (by decide +kernel) rfl rfl (Nat.le_of_ble_eq_true rfl) rfl ?_
          refine AW.istore_n (i := 1) dX3_one_45 rfl rfl (Nat.le_of_ble_eq_true rfl) rfl rfl ?_
          refine AW.iload_n dX3_one_46 rfl rfl ?_
          refine AW.iconst (v := (-1)) dX3_one_47 (by decide) rfl ?_
          refine AW.icmp_eq (tgt := 78) dX3_one_48 (by decide) rfl (fun _ => ?_) (fun c_ => by first | exact absurd c_ hm1 | exact absurd hm1 c_ | exact absurd c_ (not_not_intro hm1) | exact Bool.noConfusion (c_.symm.trans hm1))
          refine AW.aload_n dX3_one_78 rfl rfl ?_
          refine AW.get ci3 4 (by decide) q308 dX3_one_79 (gTk hT) rfl rfl ?_
          refine AW.bipush (v := 40) dX3_one_82 (by decide) rfl ?_
          refine AW.icmp_ne (tgt := 105) dX3_one_84 (by decide) rfl (fun c_ => by first | exact absurd c_ hs40 | exact absurd hs40 c_ | exact Bool.noConfusion (c_.symm.trans hs40)) (fun _ => ?_)
          refine AW.aload_n dX3_one_87 rfl rfl ?_
          refine AW.callV (Y := mX3_opens) (n := 0) (w1) (by omega) (by decide) rfl (gTk hT) q558 q560 qs10 q142 q561 dX3_one_88 (by decide +kernel) rfl rfl (Nat.le_of_ble_eq_true rfl) rfl ?_
          refine AW.aload_n dX3_one_91 rfl rfl ?_
          refine AW.callV (Y := mX3_sum) (n := 0) (w9) (by omega) (by decide) rfl (gTk hT) q523 q525 qs5 q142 q526 dX3_one_92 (by decide +kernel) rfl rfl (Nat.le_of_ble_eq_true rfl) rfl ?_
          refine AW.astore_n (i := 2) dX3_one_95 rfl rfl (Nat.le_of_ble_eq_true rfl) rfl rfl ?_
          refine AW.aload_n dX3_one_96 rfl rfl ?_
          refine AW.bipush (v := 41) dX3_one_97 (by decide) rfl ?_
          refine AW.callV (Y := mX3_want) (n := 1) (w2) (by omega) (by decide) rfl (gTk hT) q562 q564 qs11 q142 q565 dX3_one_99 (by decide +kernel) rfl rfl (Nat.le_of_ble_eq_true rfl) rfl ?_
          refine AW.goto (tgt := 139) dX3_one_102 (by decide) ?_
          refine AW.aload_n dX3_one_139 rfl rfl ?_
          refine AW.dup dX3_one_140 rfl rfl ?_
          refine AW.get ci3 6 (by decide) q310 dX3_one_141 (gTk hT) rfl rfl ?_
          refine AW.iconst (v := 1) dX3_one_144 (by decide) rfl ?_
          refine AW.isub dX3_one_145 rfl ?_
          refine AW.put ci3 6 (by decide) q310 dX3_one_146 (by omega) (gTk hT) rfl (fun _ => rfl) (fun _ => rfl) (Nat.le_of_ble_eq_true rfl) ((sTk6 hT).trans (congrArg (fun z => (hp (Tk (s.setb b2) T n t (tkL t n L0 (j + 1)) nu4 z kd))) hop)) rfl ?_
          refine AW.aload_n dX3_one_149 rfl rfl ?_
          exact AW.aretE dX3_one_150 rfl (Or.inl ⟨_, rfl⟩) (Or.inr ⟨_, rfl⟩) rfl rfl rfl
        · have hs41 : ¬ sortS (byteF t n) (tkL t n L0 j) = 41 := fun q => cf ((so_c j (c := 41) (v := 41) (by decide) (by decide +kernel) (by decide +kernel)).mp q)
          have e0 : RF n t L0 kd (f + 1) 0 [] i o = .inl (1, j) := e0.trans (if_neg cf)
          have w2 := r_X3_want_f (s := s.setb b2) (n := n) (at_ := (tkL t n L0 j).1) (tk := (tkL t n L0 j).2.1) (nu := nu3) (op := nI (o + 1)) (kd := kd) hT (by show T < 512 + b2.n; omega) (by show 128 ≤ b2.n; omega) 41 hs41
          have q7 : EQ T n t L0 kd (512 + b2.n) 0 0 (s.setb b2) j 1 j _ := EQ.wr (s := s.setb b2) (L0 := L0) (nu := nu3) (op := nI (o + 1)) (Nat.le_refl _) 1
          have q8 : EQ T n t L0 kd (512 + s.b.n) 0 0 s i 1 j _ := EQ.up q7 x2 (by omega) (by omega) (by omega) (by omega)
          refine ⟨_, PQ.l e0 q8, ?_⟩
          refine Run.ofX rfl (Nat.le_of_ble_eq_true rfl) rfl ?_
          refine AW.aload_n dX3_one_0 rfl rfl ?_
          refine AW.get ci3 4 (by decide) q308 dX3_one_1 (gTk hT) rfl rfl ?_
          refine AW.sipush (v := 300) dX3_one_4 (by decide) rfl ?_
          refine AW.icmp_ne (tgt := 26) dX3_one_7 (by decide) rfl (fun _ => ?_) (fun c_ => by first | exact absurd c_ hs | exact absurd hs c_ | exact absurd c_ (not_not_intro hs) | exact Bool.noConfusion (c_.symm.trans hs))
          refine AW.aload_n dX3_one_26 rfl rfl ?_
          refine AW.get ci3 4 (by decide) q308 dX3_one_27 (gTk hT) rfl rfl ?_
          refine AW.sipush (v := 217) dX3_one_30 (by decide) rfl ?_
          refine AW.icmp_ne (tgt := 41) dX3_one_33 (by decide) rfl (fun _ => ?_) (fun c_ => by first | exact absurd c_ hs17 | exact absurd hs17 c_ | exact absurd c_ (not_not_intro hs17) | exact Bool.noConfusion (c_.symm.trans hs17))
          refine AW.aload_n dX3_one_41 rfl rfl ?_
          refine AW.callV (Y := mX3_nameNow) (n := 0) (r_X3_nameNow hT) (by omega) (by decide) rfl (gTk hT) q579 q581 qs12 q142 q582 dX3_one_42 (by decide +kernel) rfl rfl (Nat.le_of_ble_eq_true rfl) rfl ?_
          refine AW.istore_n (i := 1) dX3_one_45 rfl rfl (Nat.le_of_ble_eq_true rfl) rfl rfl ?_
          refine AW.iload_n dX3_one_46 rfl rfl ?_
          refine AW.iconst (v := (-1)) dX3_one_47 (by decide) rfl ?_
          refine AW.icmp_eq (tgt := 78) dX3_one_48 (by decide) rfl (fun _ => ?_) (fun c_ => by first | exact absurd c_ hm1 | exact absurd hm1 c_ | exact absurd c_ (not_not_intro hm1) | exact Bool.noConfusion (c_.symm.trans hm1))
          refine AW.aload_n dX3_one_78 rfl rfl ?_
          refine AW.get ci3 4 (by decide) q308 dX3_one_79 (gTk hT) rfl rfl ?_
          refine AW.bipush (v := 40) dX3_one_82 (by decide) rfl ?_
          refine AW.icmp_ne (tgt := 105) dX3_one_84 (by decide) rfl (fun c_ => by first | exact absurd c_ hs40 | exact absurd hs40 c_ | exact Bool.noConfusion (c_.symm.trans hs40)) (fun _ => ?_)
          refine AW.aload_n dX3_one_87 rfl rfl ?_
          refine AW.callV (Y := mX3_opens) (n := 0) (w1) (by omega) (by decide) rfl (gTk hT) q558 q560 qs10 q142 q561 dX3_one_88 (by decide +kernel) rfl rfl (Nat.le_of_ble_eq_true rfl) rfl ?_
          refine AW.aload_n dX3_one_91 rfl rfl ?_
          refine AW.callV (Y := mX3_sum) (n := 0) (w9) (by omega) (by decide) rfl (gTk hT) q523 q525 qs5 q142 q526 dX3_one_92 (by decide +kernel) rfl rfl (Nat.le_of_ble_eq_true rfl) rfl ?_
          refine AW.astore_n (i := 2) dX3_one_95 rfl rfl (Nat.le_of_ble_eq_true rfl) rfl rfl ?_
          refine AW.aload_n dX3_one_96 rfl rfl ?_
          refine AW.bipush (v := 41) dX3_one_97 (by decide) rfl ?_
          exact AW.callVX (Y := mX3_want) (n := 1) (w2) (by omega) (by decide) rfl (gTk hT) q562 q564 qs11 q142 q565 dX3_one_99 (by decide +kernel) rfl rfl (Nat.le_of_ble_eq_true rfl) q536 rfl
  rw [if_neg c40] at e0
  have hs40 : ¬ sortS (byteF t n) (tkL t n L0 i) = 40 := fun q => c40 ((so_c i (c := 40) (v := 40) (by decide) (by decide +kernel) (by decide +kernel)).mp q)
  by_cases c45 : (tkL t n L0 i).2.2.1 = 45
  · rw [if_pos c45] at e0
    have hs45 : sortS (byteF t n) (tkL t n L0 i) = 45 := (so_c i (c := 45) (v := 45) (by decide) (by decide +kernel) (by decide +kernel)).mpr c45
    by_cases c8 : nI o = 8
    · rw [if_pos c8] at e0
      have w1 := r_X3_opens_f (s := s) (n := n) (at_ := (tkL t n L0 i).1) (tk := (tkL t n L0 i).2.1) (so := sortS (byteF t n) (tkL t n L0 i)) (nu := nu) (kd := kd) hT hTb hb c8
      refine ⟨_, PQ.l e0 (EQ.wr (nu := nu) (op := nI o) (Nat.le_refl _) 3), ?_⟩
      refine Run.ofX rfl (Nat.le_of_ble_eq_true rfl) rfl ?_
      refine AW.aload_n dX3_one_0 rfl rfl ?_
      refine AW.get ci3 4 (by decide) q308 dX3_one_1 (gTk hT) rfl rfl ?_
      refine AW.sipush (v := 300) dX3_one_4 (by decide) rfl ?_
      refine AW.icmp_ne (tgt := 26) dX3_one_7 (by decide) rfl (fun _ => ?_) (fun c_ => by first | exact absurd c_ hs | exact absurd hs c_ | exact absurd c_ (not_not_intro hs) | exact Bool.noConfusion (c_.symm.trans hs))
      refine AW.aload_n dX3_one_26 rfl rfl ?_
      refine AW.get ci3 4 (by decide) q308 dX3_one_27 (gTk hT) rfl rfl ?_
      refine AW.sipush (v := 217) dX3_one_30 (by decide) rfl ?_
      refine AW.icmp_ne (tgt := 41) dX3_one_33 (by decide) rfl (fun _ => ?_) (fun c_ => by first | exact absurd c_ hs17 | exact absurd hs17 c_ | exact absurd c_ (not_not_intro hs17) | exact Bool.noConfusion (c_.symm.trans hs17))
      refine AW.aload_n dX3_one_41 rfl rfl ?_
      refine AW.callV (Y := mX3_nameNow) (n := 0) (r_X3_nameNow hT) (by omega) (by decide) rfl (gTk hT) q579 q581 qs12 q142 q582 dX3_one_42 (by decide +kernel) rfl rfl (Nat.le_of_ble_eq_true rfl) rfl ?_
      refine AW.istore_n (i := 1) dX3_one_45 rfl rfl (Nat.le_of_ble_eq_true rfl) rfl rfl ?_
      refine AW.iload_n dX3_one_46 rfl rfl ?_
      refine AW.iconst (v := (-1)) dX3_one_47 (by decide) rfl ?_
      refine AW.icmp_eq (tgt := 78) dX3_one_48 (by decide) rfl (fun _ => ?_) (fun c_ => by first | exact absurd c_ hm1 | exact absurd hm1 c_ | exact absurd c_ (not_not_intro hm1) | exact Bool.noConfusion (c_.symm.trans hm1))
      refine AW.aload_n dX3_one_78 rfl rfl ?_
      refine AW.get ci3 4 (by decide) q308 dX3_one_79 (gTk hT) rfl rfl ?_
      refine AW.bipush (v := 40) dX3_one_82 (by decide) rfl ?_
      refine AW.icmp_ne (tgt := 105) dX3_one_84 (by decide) rfl (fun _ => ?_) (fun c_ => by first | exact absurd c_ hs40 | exact absurd hs40 c_ | exact absurd c_ (not_not_intro hs40) | exact Bool.noConfusion (c_.symm.trans hs40))
      refine AW.aload_n dX3_one_105 rfl rfl ?_
      refine AW.get ci3 4 (by decide) q308 dX3_one_106 (gTk hT) rfl rfl ?_
      refine AW.bipush (v := 45) dX3_one_109 (by decide) rfl ?_
      refine AW.icmp_ne (tgt := 133) dX3_one_111 (by decide) rfl (fun c_ => by first | exact absurd c_ hs45 | exact absurd hs45 c_ | exact Bool.noConfusion (c_.symm.trans hs45)) (fun _ => ?_)
      refine AW.aload_n dX3_one_114 rfl rfl ?_
      exact AW.callVX (Y := mX3_opens) (n := 0) (w1) (by omega) (by decide) rfl (gTk hT) q558 q560 qs10 q142 q561 dX3_one_115 (by decide +kernel) rfl rfl (Nat.le_of_ble_eq_true rfl) q536 rfl
    · rw [if_neg c8] at e0
      have o8 : o < 8 := Nat.lt_of_le_of_ne ho (fun q => c8 ((nI_e8 ho).mpr q))
      have hop : nI (o + 1) - 1 = nI o := by rw [show (1 : Int32) = nI 1 from rfl, nI_subN (by omega)]; rfl
      obtain ⟨nu2, hN2, w1⟩ := r_X3_opens_t hC i (L0 := L0) (nu := nu) (op := nI o) (kd := kd) c8
      rw [nI_succ' o] at w1
      have x1 : ExT T (512 + s.b.n) 1 1 s.b (s.b.push (.inr (10, [.null])) 1) := ExT.push (Nat.le_refl _)
      have hC1 : TC (s.setb (s.b.push (.inr (10, [.null])) 1)) T n t := hC.ext x1 (by omega)
      have e0 : RF n t L0 kd (f + 1) 0 [] i o = bd (RF n t L0 kd f 0 [] (i + 1) (o + 1)) fun c j => .inr (c ++ [(2, 0)], j) := e0
      obtain ⟨⟨o9, h9⟩, q9, w9⟩ := h1 (s.setb (s.b.push (.inr (10, [.null])) 1)) (i + 1) (o + 1) nu2 hC1 (by omega) hN2 (nz_bd (by rw [← e0]; exact hz))
      cases hx : RF n t L0 kd f 0 [] (i + 1) (o + 1) with
      | inl e =>
        rw [hx] at q9 e0
        have q8 : EQ T n t L0 kd (512 + s.b.n) 0 0 s i e.1 e.2 (o9, h9) := EQ.up (PQ.le q9) x1 (by show _ ≤ 512 + (s.b.n + 1); omega) (by omega) (by omega) (by omega)
        obtain ⟨-, q, b2, nu3, op3, -, -, qe⟩ := id q8
        obtain ⟨rfl, rfl⟩ := Prod.mk.inj qe
        refine ⟨_, PQ.l e0 q8, ?_⟩
        refine Run.ofX rfl (Nat.le_of_ble_eq_true rfl) rfl ?_
        refine AW.aload_n dX3_one_0 rfl rfl ?_
        refine AW.get ci3 4 (by decide) q308 dX3_one_1 (gTk hT) rfl rfl ?_
        refine AW.sipush (v := 300) dX3_one_4 (by decide) rfl ?_
        refine AW.icmp_ne (tgt := 26) dX3_one_7 (by decide) rfl (fun _ => ?_) (fun c_ => by first | exact absurd c_ hs | exact absurd hs c_ | exact absurd c_ (not_not_intro hs) | exact Bool.noConfusion (c_.symm.trans hs))
        refine AW.aload_n dX3_one_26 rfl rfl ?_
        refine AW.get ci3 4 (by decide) q308 dX3_one_27 (gTk hT) rfl rfl ?_
        refine AW.sipush (v := 217) dX3_one_30 (by decide) rfl ?_
        refine AW.icmp_ne (tgt := 41) dX3_one_33 (by decide) rfl (fun _ => ?_) (fun c_ => by first | exact absurd c_ hs17 | exact absurd hs17 c_ | exact absurd c_ (not_not_intro hs17) | exact Bool.noConfusion (c_.symm.trans hs17))
        refine AW.aload_n dX3_one_41 rfl rfl ?_
        refine AW.callV (Y := mX3_nameNow) (n := 0) (r_X3_nameNow hT) (by omega) (by decide) rfl (gTk hT) q579 q581 qs12 q142 q582 dX3_one_42 (by decide +kernel) rfl rfl (Nat.le_of_ble_eq_true rfl) rfl ?_
        refine AW.istore_n (i := 1) dX3_one_45 rfl rfl (Nat.le_of_ble_eq_true rfl) rfl rfl ?_
        refine AW.iload_n dX3_one_46 rfl rfl ?_
        refine AW.iconst (v := (-1)) dX3_one_47 (by decide) rfl ?_
        refine AW.icmp_eq (tgt := 78) dX3_one_48 (by decide) rfl (fun _ => ?_) (fun c_ => by first | exact absurd c_ hm1 | exact absurd hm1 c_ | exact absurd c_ (not_not_intro hm1) | exact Bool.noConfusion (c_.symm.trans hm1))
        refine AW.aload_n dX3_one_78 rfl rfl ?_
        refine AW.get ci3 4 (by decide) q308 dX3_one_79 (gTk hT) rfl rfl ?_
        refine AW.bipush (v := 40) dX3_one_82 (by decide) rfl ?_
        refine AW.icmp_ne (tgt := 105) dX3_one_84 (by decide) rfl (fun _ => ?_) (fun c_ => by first | exact absurd c_ hs40 | exact absurd hs40 c_ | exact absurd c_ (not_not_intro hs40) | exact Bool.noConfusion (c_.symm.trans hs40))
        refine AW.aload_n dX3_one_105 rfl rfl ?_
        refine AW.get ci3 4 (by decide) q308 dX3_one_106 (gTk hT) rfl rfl ?_
        refine AW.bipush (v := 45) dX3_one_109 (by decide) rfl ?_
        refine AW.icmp_ne (tgt := 133) dX3_one_111 (by decide) rfl (fun c_ => by first | exact absurd c_ hs45 | exact absurd hs45 c_ | exact Bool.noConfusion (c_.symm.trans hs45)) (fun _ => ?_)
        refine AW.aload_n dX3_one_114 rfl rfl ?_
        refine AW.callV (Y := mX3_opens) (n := 0) (w1) (by omega) (by decide) rfl (gTk hT) q558 q560 qs10 q142 q561 dX3_one_115 (by decide +kernel) rfl rfl (Nat.le_of_ble_eq_true rfl) rfl ?_
        refine AW.new ci10 dX3_one_118 q597 q598 q160 dfX10 (tk_push hTb hb) rfl ?_
        refine AW.dup dX3_one_121 rfl rfl ?_
        refine AW.aload_n dX3_one_122 rfl rfl ?_
        exact AW.callVX (Y := mX3_one) (n := 0) (w9) (by omega) (by decide) rfl (gTk hT) q533 q535 qs7 q142 q536 dX3_one_123 (by decide +kernel) rfl rfl (Nat.le_of_ble_eq_true rfl) q536 rfl
      | inr e =>
        obtain ⟨c, j⟩ := e
        rw [hx] at q9 e0
        obtain ⟨j1, y, b2, nu3, x2, ⟨F, hF1, hF2⟩, hN3, qe⟩ := q9
        obtain ⟨rfl, rfl⟩ := Prod.mk.inj qe
        have j1' : i + 1 + 1 ≤ j := j1
        have x2n : s.b.n + 1 ≤ b2.n := x2.1
        have x2c : b2.n ≤ s.b.n + 1 + (16 * (j - (i + 1)) + 0) := x2.2.1
        have x2u : s.b.u + 1 ≤ b2.u := x2.2.2.1
        have x2v : b2.u ≤ s.b.u + 1 + (120 * (j - (i + 1)) + 0) := x2.2.2.2.1
        have x2g := x2.2.2.2.2
        have gz : b2.g (512 + s.b.n) = some (.inr (10, [.null])) := (x2g _ (by show _ < 512 + (s.b.n + 1); omega) (by omega)).trans push_g
        have w3 := r_X10_init (s := Tk (s.setb b2) T n t (tkL t n L0 j) nu3 (nI (o + 1)) kd) (a := (512 + s.b.n)) (by omega) ((Tk_g (by omega)).trans gz) y
        have hw3 : hp ((Tk (s.setb b2) T n t (tkL t n L0 j) nu3 (nI (o + 1)) kd).setb ((Tk (s.setb b2) T n t (tkL t n L0 j) nu3 (nI (o + 1)) kd).b.set (512 + s.b.n) (.inr (10, [.ref y])))) = hp (Tk (s.setb (b2.set (512 + s.b.n) (.inr (10, [.ref y])))) T n t (tkL t n L0 j) nu3 (nI (o + 1)) kd) := tk_cm (s := s.setb b2) (by omega)
        have z1 := FnO.at_ hF2
        have z1' : 512 + (s.b.n + 1) ≤ y := z1.2.1
        have gB : GS (6 + 3 * (8 - o) + 0) (c ++ [(2, 0)]) (512 + s.b.n) (b2.set (512 + s.b.n) (.inr (10, [.ref y]))) (512 + s.b.n) := by
          refine ⟨fun N => -(F N), CS.minus hF1, ?_⟩
          exact FnO.widen (mk10 (lo := (512 + s.b.n)) (D := 6 + 3 * (8 - (o + 1)) + 0) (by omega) (Nat.le_refl _) (by show _ < 512 + b2.n; omega) (FnO.ext hF2 (Nat.le_refl _) (fun k hk => set_go (by have : 512 + (s.b.n + 1) = 512 + (s.setb (s.b.push (.inr (10, [.null])) 1)).b.n := rfl; omega))) (by show _ ≤ 512 + (s.b.n + 1); omega) set_g) (by omega) (Nat.le_refl _) (Nat.le_refl _) (Nat.le_refl _) (by omega)
        have xf : ExT T (512 + s.b.n) (b2.n - s.b.n) (b2.u - s.b.u) s.b (b2.set (512 + s.b.n) (.inr (10, [.ref y]))) := ⟨by show s.b.n ≤ b2.n; omega, by show b2.n ≤ _; omega, by show s.b.u ≤ b2.u; omega, by show b2.u ≤ _; omega, fun k hk hkT => (set_go (by omega)).trans ((x2g k (by show k < 512 + (s.b.n + 1); omega) hkT).trans (push_go (by omega)))⟩
        refine ⟨_, PQ.r e0 ⟨by show i + 1 ≤ j; omega, (512 + s.b.n), _, nu3, xf.mono (Nat.le_refl _) (by show _ ≤ 16 * (j - i) + 0; omega) (by show _ ≤ 120 * (j - i) + 0; omega), gB, hN3, rfl⟩, ?_⟩
        refine Run.of rfl (Nat.le_of_ble_eq_true rfl) rfl ?_
        refine AW.aload_n dX3_one_0 rfl rfl ?_
        refine AW.get ci3 4 (by decide) q308 dX3_one_1 (gTk hT) rfl rfl ?_
        refine AW.sipush (v := 300) dX3_one_4 (by decide) rfl ?_
        refine AW.icmp_ne (tgt := 26) dX3_one_7 (by decide) rfl (fun _ => ?_) (fun c_ => by first | exact absurd c_ hs | exact absurd hs c_ | exact absurd c_ (not_not_intro hs) | exact Bool.noConfusion (c_.symm.trans hs))
        refine AW.aload_n dX3_one_26 rfl rfl ?_
        refine AW.get ci3 4 (by decide) q308 dX3_one_27 (gTk hT) rfl rfl ?_
        refine AW.sipush (v := 217) dX3_one_30 (by decide) rfl ?_
        refine AW.icmp_ne (tgt := 41) dX3_one_33 (by decide) rfl (fun _ => ?_) (fun c_ => by first | exact absurd c_ hs17 | exact absurd hs17 c_ | exact absurd c_ (not_not_intro hs17) | exact Bool.noConfusion (c_.symm.trans hs17))
        refine AW.aload_n dX3_one_41 rfl rfl ?_
        refine AW.callV (Y := mX3_nameNow) (n := 0) (r_X3_nameNow hT) (by omega) (by decide) rfl (gTk hT) q579 q581 qs12 q142 q582 dX3_one_42 (by decide +kernel) rfl rfl (Nat.le_of_ble_eq_true rfl) rfl ?_
        refine AW.istore_n (i := 1) dX3_one_45 rfl rfl (Nat.le_of_ble_eq_true rfl) rfl rfl ?_
        refine AW.iload_n dX3_one_46 rfl rfl ?_
        refine AW.iconst (v := (-1)) dX3_one_47 (by decide) rfl ?_
        refine AW.icmp_eq (tgt := 78) dX3_one_48 (by decide) rfl (fun _ => ?_) (fun c_ => by first | exact absurd c_ hm1 | exact absurd hm1 c_ | exact absurd c_ (not_not_intro hm1) | exact Bool.noConfusion (c_.symm.trans hm1))
        refine AW.aload_n dX3_one_78 rfl rfl ?_
        refine AW.get ci3 4 (by decide) q308 dX3_one_79 (gTk hT) rfl rfl ?_
        refine AW.bipush (v := 40) dX3_one_82 (by decide) rfl ?_
        refine AW.icmp_ne (tgt := 105) dX3_one_84 (by decide) rfl (fun _ => ?_) (fun c_ => by first | exact absurd c_ hs40 | exact absurd hs40 c_ | exact absurd c_ (not_not_intro hs40) | exact Bool.noConfusion (c_.symm.trans hs40))
        refine AW.aload_n dX3_one_105 rfl rfl ?_
        refine AW.get ci3 4 (by decide) q308 dX3_one_106 (gTk hT) rfl rfl ?_
        refine AW.bipush (v := 45) dX3_one_109 (by decide) rfl ?_
        refine AW.icmp_ne (tgt := 133) dX3_one_111 (by decide) rfl (fun c_ => by first | exact absurd c_ hs45 | exact absurd hs45 c_ | exact Bool.noConfusion (c_.symm.trans hs45)) (fun _ => ?_)
        refine AW.aload_n dX3_one_114 rfl rfl ?_
        refine AW.callV (Y := mX3_opens) (n := 0) (w1) (by omega) (by decide) rfl (gTk hT) q558 q560 qs10 q142 q561 dX3_one_115 (by decide +kernel) rfl rfl (Nat.le_of_ble_eq_true rfl) rfl ?_
        refine AW.new ci10 dX3_one_118 q597 q598 q160 dfX10 (tk_push hTb hb) rfl ?_
        refine AW.dup dX3_one_121 rfl rfl ?_
        refine AW.aload_n dX3_one_122 rfl rfl ?_
        refine AW.callV (Y := mX3_one) (n := 0) (w9) (by omega) (by decide) rfl (gTk hT) q533 q535 qs7 q142 q536 dX3_one_123 (by decide +kernel) rfl rfl (Nat.le_of_ble_eq_true rfl) rfl ?_
        refine AW.callIN (Y := mX10_init) (n := 1) (w3) (by omega) (by decide) rfl q599 q600 q160 q601 dX3_one_126 rfl (by decide +kernel) rfl rfl (Nat.le_of_ble_eq_true rfl) rfl ?_
        refine AW.hp hw3 ?_
        refine AW.astore_n (i := 2) dX3_one_129 rfl rfl (Nat.le_of_ble_eq_true rfl) rfl rfl ?_
        refine AW.goto (tgt := 139) dX3_one_130 (by decide) ?_
        refine AW.aload_n dX3_one_139 rfl rfl ?_
        refine AW.dup dX3_one_140 rfl rfl ?_
        refine AW.get ci3 6 (by decide) q310 dX3_one_141 (gTk hT) rfl rfl ?_
        refine AW.iconst (v := 1) dX3_one_144 (by decide) rfl ?_
        refine AW.isub dX3_one_145 rfl ?_
        refine AW.put ci3 6 (by decide) q310 dX3_one_146 (by omega) (gTk hT) rfl (fun _ => rfl) (fun _ => rfl) (Nat.le_of_ble_eq_true rfl) ((sTk6 hT).trans (congrArg (fun z => (hp (Tk (s.setb (b2.set (512 + s.b.n) (.inr (10, [.ref y])))) T n t (tkL t n L0 j) nu3 z kd))) hop)) rfl ?_
        refine AW.aload_n dX3_one_149 rfl rfl ?_
        exact AW.aretE dX3_one_150 rfl (Or.inl ⟨_, rfl⟩) (Or.inr ⟨_, rfl⟩) rfl rfl rfl
  rw [if_neg c45, if_neg cd] at e0
  have hs45 : ¬ sortS (byteF t n) (tkL t n L0 i) = 45 := fun q => c45 ((so_c i (c := 45) (v := 45) (by decide) (by decide +kernel) (by decide +kernel)).mp q)
  refine ⟨_, PQ.l e0 (EQ.wr (nu := nu) (op := nI o) (Nat.le_refl _) 1), ?_⟩
  refine Run.ofX rfl (Nat.le_of_ble_eq_true rfl) rfl ?_
  refine AW.aload_n dX3_one_0 rfl rfl ?_
  refine AW.get ci3 4 (by decide) q308 dX3_one_1 (gTk hT) rfl rfl ?_
  refine AW.sipush (v := 300) dX3_one_4 (by decide) rfl ?_
  refine AW.icmp_ne (tgt := 26) dX3_one_7 (by decide) rfl (fun _ => ?_) (fun c_ => by first | exact absurd c_ hs | exact absurd hs c_ | exact absurd c_ (not_not_intro hs) | exact Bool.noConfusion (c_.symm.trans hs))
  refine AW.aload_n dX3_one_26 rfl rfl ?_
  refine AW.get ci3 4 (by decide) q308 dX3_one_27 (gTk hT) rfl rfl ?_
  refine AW.sipush (v := 217) dX3_one_30 (by decide) rfl ?_
  refine AW.icmp_ne (tgt := 41) dX3_one_33 (by decide) rfl (fun _ => ?_) (fun c_ => by first | exact absurd c_ hs17 | exact absurd hs17 c_ | exact absurd c_ (not_not_intro hs17) | exact Bool.noConfusion (c_.symm.trans hs17))
  refine AW.aload_n dX3_one_41 rfl rfl ?_
  refine AW.callV (Y := mX3_nameNow) (n := 0) (r_X3_nameNow hT) (by omega) (by decide) rfl (gTk hT) q579 q581 qs12 q142 q582 dX3_one_42 (by decide +kernel) rfl rfl (Nat.le_of_ble_eq_true rfl) rfl ?_
  refine AW.istore_n (i := 1) dX3_one_45 rfl rfl (Nat.le_of_ble_eq_true rfl) rfl rfl ?_
  refine AW.iload_n dX3_one_46 rfl rfl ?_
  refine AW.iconst (v := (-1)) dX3_one_47 (by decide) rfl ?_
  refine AW.icmp_eq (tgt := 78) dX3_one_48 (by decide) rfl (fun _ => ?_) (fun c_ => by first | exact absurd c_ hm1 | exact absurd hm1 c_ | exact absurd c_ (not_not_intro hm1) | exact Bool.noConfusion (c_.symm.trans hm1))
  refine AW.aload_n dX3_one_78 rfl rfl ?_
  refine AW.get ci3 4 (by decide) q308 dX3_one_79 (gTk hT) rfl rfl ?_
  refine AW.bipush (v := 40) dX3_one_82 (by decide) rfl ?_
  refine AW.icmp_ne (tgt := 105) dX3_one_84 (by decide) rfl (fun _ => ?_) (fun c_ => by first | exact absurd c_ hs40 | exact absurd hs40 c_ | exact absurd c_ (not_not_intro hs40) | exact Bool.noConfusion (c_.symm.trans hs40))
  refine AW.aload_n dX3_one_105 rfl rfl ?_
  refine AW.get ci3 4 (by decide) q308 dX3_one_106 (gTk hT) rfl rfl ?_
  refine AW.bipush (v := 45) dX3_one_109 (by decide) rfl ?_
  refine AW.icmp_ne (tgt := 133) dX3_one_111 (by decide) rfl (fun _ => ?_) (fun c_ => by first | exact absurd c_ hs45 | exact absurd hs45 c_ | exact absurd c_ (not_not_intro hs45) | exact Bool.noConfusion (c_.symm.trans hs45))
  refine AW.aload_n dX3_one_133 rfl rfl ?_
  refine AW.iconst (v := 1) dX3_one_134 (by decide) rfl ?_
  refine AW.callV (Y := mX3_wrong) (n := 1) (wr 1) (by omega) (by decide) rfl (gTk hT) q455 q457 qs3 q142 q458 dX3_one_135 (by decide +kernel) rfl rfl (Nat.le_of_ble_eq_true rfl) rfl ?_
  exact AW.athrow dX3_one_138 q536 (by omega) ((tk_g (nfx (by omega)) (by omega)).trans push_g) rfl
