/-! SYSTEM 30: tokens: clauses that do (printed by tools/x30.py) -/
set_option maxRecDepth 100000
theorem rc_3 {T n : Nat} {t : Nat → Int32} {L0 : Lq} {lo X Dl ix : Nat} {s : Sg} {i : Nat} {kd nu : Int32} {cls : List Cl} {C : Cd} {L : Lw} {x : CR} (hC : TC s T n t) (hTlo : T < lo) (hR : RdS s.b lo X Dl ix cls C L) (hs : sortS (byteF t n) (tkL t n L0 i) = 203) (h24_ : cls.length < 24) (e0 : x = semi (tkL t n L0) (clB (byteF t n) (tkL t n L0) 3 C (i + 1))) : StQ T n t L0 lo X Dl ix s i kd 203 nu cls x := by
  have hT := hC.1
  have hTb := hC.2.1
  have h300 := hC.2.2.2.1
  have hB := hC.2.2.2.2
  have hb := hB.1
  have h24 := nI_24 h24_
  obtain ⟨E, ve, vl, vq, dv, ⟨r1, r2, r3, r4, r5, r6, r7⟩, gX, hA, hD, ⟨s1, s2, s3⟩, hl0, hl1, hl2⟩ := hR
  have hX6 : 640 ≤ X := by omega
  have hXT : X ≠ T := by omega
  obtain ⟨nu2, hN2, w1⟩ := tk_next hC L0 i (nu := nu) (op := nI 0) (kd := 203)
  have e1 : x = semi (tkL t n L0) (match bodyR (byteF t n) (tkL t n L0) 3 (i + 1) with
      | .inl e => .inl e
      | .inr q => .inr ((3, q.1), C, q.2)) := by
    rw [e0]
    unfold clB
    rw [if_neg (by decide)]
    rfl
  obtain ⟨⟨o9, h9⟩, q9, w9⟩ := do_3 hC (L0 := L0) (i + 1) (nu := nu2) (op := nI 0) (nI cls.length) hN2
  cases hx : bodyR (byteF t n) (tkL t n L0) 3 (i + 1) with
  | inl e =>
    rw [hx] at q9 e1
    obtain ⟨r, j⟩ := e
    have q8 : EQ T n t L0 203 lo 0 1000 s i r j (o9, h9) := EQ.up (b1 := s.b) (show EQ T n t L0 203 (512 + s.b.n) 0 0 (s.setb s.b) (i + 1) r j (o9, h9) from q9) (ExT.refl T lo s.b) (by omega) (by omega) (by omega) (by omega)
    obtain ⟨-, q, b2, nu3, op3, -, -, qe⟩ := id q8
    obtain ⟨rfl, rfl⟩ := Prod.mk.inj qe
    refine StQ.l e1 q8 ?_
    refine AW.aload_n dX3_read_12 rfl rfl ?_
    refine AW.get ci3 4 (by decide) q308 dX3_read_13 (gTk hT) rfl rfl ?_
    refine AW.sipush (v := 301) dX3_read_16 (by decide) rfl ?_
    refine AW.icmp_eq (tgt := 231) dX3_read_19 (by decide) rfl (fun c_ => by first | exact absurd c_ (show ¬ sortS (byteF t n) (tkL t n L0 i) = 301 by rw [hs]; decide) | exact absurd (show ¬ sortS (byteF t n) (tkL t n L0 i) = 301 by rw [hs]; decide) c_ | exact Bool.noConfusion (c_.symm.trans (show ¬ sortS (byteF t n) (tkL t n L0 i) = 301 by rw [hs]; decide))) (fun _ => ?_)
    refine AW.aload_n dX3_read_22 rfl rfl ?_
    refine AW.get ci3 4 (by decide) q308 dX3_read_23 (gTk hT) rfl rfl ?_
    refine AW.sipush (v := 200) dX3_read_26 (by decide) rfl ?_
    refine AW.icmp_lt (tgt := 42) dX3_read_29 (by decide) rfl (fun c_ => by first | exact absurd c_ (show ¬ sortS (byteF t n) (tkL t n L0 i) < 200 by rw [hs]; decide) | exact absurd (show ¬ sortS (byteF t n) (tkL t n L0 i) < 200 by rw [hs]; decide) c_ | exact Bool.noConfusion (c_.symm.trans (show ¬ sortS (byteF t n) (tkL t n L0 i) < 200 by rw [hs]; decide))) (fun _ => ?_)
    refine AW.aload_n dX3_read_32 rfl rfl ?_
    refine AW.get ci3 4 (by decide) q308 dX3_read_33 (gTk hT) rfl rfl ?_
    refine AW.sipush (v := 208) dX3_read_36 (by decide) rfl ?_
    refine AW.icmp_le (tgt := 48) dX3_read_39 (by decide) rfl (fun _ => ?_) (fun c_ => by first | exact absurd c_ (show sortS (byteF t n) (tkL t n L0 i) ≤ 208 by rw [hs]; decide) | exact absurd (show sortS (byteF t n) (tkL t n L0 i) ≤ 208 by rw [hs]; decide) c_ | exact absurd c_ (not_not_intro (show sortS (byteF t n) (tkL t n L0 i) ≤ 208 by rw [hs]; decide)) | exact Bool.noConfusion (c_.symm.trans (show sortS (byteF t n) (tkL t n L0 i) ≤ 208 by rw [hs]; decide)))
    refine AW.aload_n dX3_read_48 rfl rfl ?_
    refine AW.aload_n dX3_read_49 rfl rfl ?_
    refine AW.get ci3 4 (by decide) q308 dX3_read_50 (gTk hT) rfl rfl ?_
    refine AW.put ci3 7 (by decide) q311 dX3_read_53 (by omega) (gTk hT) rfl (fun _ => rfl) (fun _ => rfl) (Nat.le_of_ble_eq_true rfl) ((sTk7 hT).trans (congrArg (fun z => hp (Tk s T n t (tkL t n L0 i) nu (nI 0) z)) hs)) rfl ?_
    refine AW.aload_n dX3_read_56 rfl rfl ?_
    refine AW.get ci3 7 (by decide) q311 dX3_read_57 (gTk hT) rfl rfl ?_
    refine AW.sipush (v := 200) dX3_read_60 (by decide) rfl ?_
    refine AW.icmp_ne (tgt := 73) dX3_read_63 (by decide) rfl (fun _ => ?_) (fun c_ => by first | exact absurd c_ (show ¬ (203 : Int32) = 200 by decide) | exact absurd (show ¬ (203 : Int32) = 200 by decide) c_ | exact absurd c_ (not_not_intro (show ¬ (203 : Int32) = 200 by decide)) | exact Bool.noConfusion (c_.symm.trans (show ¬ (203 : Int32) = 200 by decide)))
    refine AW.aload_n dX3_read_73 rfl rfl ?_
    refine AW.get ci3 7 (by decide) q311 dX3_read_74 (gTk hT) rfl rfl ?_
    refine AW.sipush (v := 201) dX3_read_77 (by decide) rfl ?_
    refine AW.icmp_ne (tgt := 90) dX3_read_80 (by decide) rfl (fun _ => ?_) (fun c_ => by first | exact absurd c_ (show ¬ (203 : Int32) = 201 by decide) | exact absurd (show ¬ (203 : Int32) = 201 by decide) c_ | exact absurd c_ (not_not_intro (show ¬ (203 : Int32) = 201 by decide)) | exact Bool.noConfusion (c_.symm.trans (show ¬ (203 : Int32) = 201 by decide)))
    refine AW.aload_n dX3_read_90 rfl rfl ?_
    refine AW.get ci3 7 (by decide) q311 dX3_read_91 (gTk hT) rfl rfl ?_
    refine AW.sipush (v := 202) dX3_read_94 (by decide) rfl ?_
    refine AW.icmp_ne (tgt := 113) dX3_read_97 (by decide) rfl (fun _ => ?_) (fun c_ => by first | exact absurd c_ (show ¬ (203 : Int32) = 202 by decide) | exact absurd (show ¬ (203 : Int32) = 202 by decide) c_ | exact absurd c_ (not_not_intro (show ¬ (203 : Int32) = 202 by decide)) | exact Bool.noConfusion (c_.symm.trans (show ¬ (203 : Int32) = 202 by decide)))
    refine AW.aload_n dX3_read_113 rfl rfl ?_
    refine AW.getN ci4 3 (by decide) q371 dX3_read_114 (by first | exact ((hp_gb (nfx hX6)).trans ((Tk_g hXT).trans gX)) | exact ((hp_gb (nfx hX6)).trans ((Tk_g hXT).trans gX2)) | exact ((hp_gb (nfx hX6)).trans ((Tk_g hXT).trans gX3))) rfl rfl ?_
    refine AW.bipush (v := 24) dX3_read_117 (by decide) rfl ?_
    refine AW.icmp_ne (tgt := 129) dX3_read_119 (by decide) rfl (fun _ => ?_) (fun c_ => by first | exact absurd c_ h24 | exact absurd h24 c_ | exact absurd c_ (not_not_intro h24) | exact Bool.noConfusion (c_.symm.trans h24))
    refine AW.aload_n dX3_read_129 rfl rfl ?_
    refine AW.callV (Y := mX3_next) (n := 0) (w1) (by omega) (by decide) rfl (gTk hT) q386 q388 qs1 q142 q389 dX3_read_130 (by decide +kernel) rfl rfl (Nat.le_of_ble_eq_true rfl) rfl ?_
    refine AW.aload_n dX3_read_133 rfl rfl ?_
    refine AW.get ci3 7 (by decide) q311 dX3_read_134 (gTk hT) rfl rfl ?_
    refine AW.sipush (v := 200) dX3_read_137 (by decide) rfl ?_
    refine AW.icmp_ne (tgt := 154) dX3_read_140 (by decide) rfl (fun _ => ?_) (fun c_ => by first | exact absurd c_ (show ¬ (203 : Int32) = 200 by decide) | exact absurd (show ¬ (203 : Int32) = 200 by decide) c_ | exact absurd c_ (not_not_intro (show ¬ (203 : Int32) = 200 by decide)) | exact Bool.noConfusion (c_.symm.trans (show ¬ (203 : Int32) = 200 by decide)))
    refine AW.aload_n dX3_read_154 rfl rfl ?_
    refine AW.get ci3 7 (by decide) q311 dX3_read_155 (gTk hT) rfl rfl ?_
    refine AW.sipush (v := 201) dX3_read_158 (by decide) rfl ?_
    refine AW.icmp_ne (tgt := 175) dX3_read_161 (by decide) rfl (fun _ => ?_) (fun c_ => by first | exact absurd c_ (show ¬ (203 : Int32) = 201 by decide) | exact absurd (show ¬ (203 : Int32) = 201 by decide) c_ | exact absurd c_ (not_not_intro (show ¬ (203 : Int32) = 201 by decide)) | exact Bool.noConfusion (c_.symm.trans (show ¬ (203 : Int32) = 201 by decide)))
    refine AW.aload_n dX3_read_175 rfl rfl ?_
    refine AW.get ci3 7 (by decide) q311 dX3_read_176 (gTk hT) rfl rfl ?_
    refine AW.sipush (v := 202) dX3_read_179 (by decide) rfl ?_
    refine AW.icmp_ne (tgt := 196) dX3_read_182 (by decide) rfl (fun _ => ?_) (fun c_ => by first | exact absurd c_ (show ¬ (203 : Int32) = 202 by decide) | exact absurd (show ¬ (203 : Int32) = 202 by decide) c_ | exact absurd c_ (not_not_intro (show ¬ (203 : Int32) = 202 by decide)) | exact Bool.noConfusion (c_.symm.trans (show ¬ (203 : Int32) = 202 by decide)))
    refine AW.aload_n dX3_read_196 rfl rfl ?_
    refine AW.getN ci4 4 (by decide) q373 dX3_read_197 (by first | exact ((hp_gb (nfx hX6)).trans ((Tk_g hXT).trans gX)) | exact ((hp_gb (nfx hX6)).trans ((Tk_g hXT).trans gX2)) | exact ((hp_gb (nfx hX6)).trans ((Tk_g hXT).trans gX3))) rfl rfl ?_
    refine AW.aload_n dX3_read_200 rfl rfl ?_
    refine AW.aload_n dX3_read_201 rfl rfl ?_
    refine AW.getN ci4 3 (by decide) q371 dX3_read_202 (by first | exact ((hp_gb (nfx hX6)).trans ((Tk_g hXT).trans gX)) | exact ((hp_gb (nfx hX6)).trans ((Tk_g hXT).trans gX2)) | exact ((hp_gb (nfx hX6)).trans ((Tk_g hXT).trans gX3))) rfl rfl ?_
    exact AW.callVX (Y := mX3_doing) (n := 1) (w9) (by decide) (by decide) rfl (gTk hT) q804 q806 qs21 q142 q807 dX3_read_205 (by decide +kernel) rfl rfl (Nat.le_of_ble_eq_true rfl) q332 rfl
  | inr e =>
    obtain ⟨⟨a, b, c⟩, j⟩ := e
    rw [hx] at q9 e1
    obtain ⟨j1, nu3, hN3, qe⟩ := q9
    obtain ⟨rfl, rfl⟩ := Prod.mk.inj qe
    have j1' : i + 1 + 1 ≤ j := j1
    have d := hA.D_
    have hET : E ≠ T := by rcases r7 with q | q <;> omega
    have hEl : E < (512 + s.b.n) := by rcases d.2.2.1 with q | q <;> omega
    have x1 : ExT T (512 + s.b.n) 1 5 s.b (s.b.push (.inr (15, [.int 203, .int a, .int b, .int c, .int (nI cls.length)])) 5) := ExT.push (Nat.le_refl _)
    have hC1 : TC (s.setb (s.b.push (.inr (15, [.int 203, .int a, .int b, .int c, .int (nI cls.length)])) 5)) T n t := hC.ext x1 (by omega)
    have g1 : ∀ k, k < (512 + s.b.n) → k ≠ T → (Tk (s.setb (s.b.push (.inr (15, [.int 203, .int a, .int b, .int c, .int (nI cls.length)])) 5)) T n t (tkL t n L0 j) nu3 (nI 0) 203).b.g k = s.b.g k := fun k hk hkT => (Tk_g hkT).trans (push_go (by omega))
    have gn : (Tk (s.setb (s.b.push (.inr (15, [.int 203, .int a, .int b, .int c, .int (nI cls.length)])) 5)) T n t (tkL t n L0 j) nu3 (nI 0) 203).b.g (512 + s.b.n) = some (.inr (15, [.int 203, .int a, .int b, .int c, .int (nI cls.length)])) := (Tk_g (by omega)).trans push_g
    have hobj : ∀ (b9 : AH) (z : Nat) (dd : Int32 × Int32 × Int32 × Int32 × Int32), 640 ≤ z → z < 512 + b9.n → b9.g z = some (.inr (15, [.int dd.1, .int dd.2.1, .int dd.2.2.1, .int dd.2.2.2.1, .int dd.2.2.2.2])) → ObjR b9 (.ref z) := fun b9 z dd h1 h2 h3 => ⟨z, 15, _, _, rfl, nfx h1, h2, h3, rfl, q2045⟩
    have hdT : ∀ k dd, (dosL cls 0)[k]? = some dd → dv k ≠ T := fun k dd hk => by have := (hD k dd hk).1; omega
    have hA1 : AL (Tk (s.setb (s.b.push (.inr (15, [.int 203, .int a, .int b, .int c, .int (nI cls.length)])) 5)) T n t (tkL t n L0 j) nu3 (nI 0) 203).b Dl E (dosL cls 0).length ix (fun k => .ref (dv k)) := hA.by_ (by show s.b.n ≤ s.b.n + 1; omega) (g1 Dl d.2.1 (by omega)) (Or.inr (g1 E hEl hET)) (fun k hk => by
      obtain ⟨a1, a2, a3⟩ := hD k _ (List.getElem?_eq_getElem hk)
      exact hobj _ _ _ (by omega) (by show _ < 512 + (s.b.n + 1); omega) ((g1 _ a2 (by omega)).trans a3))
    have hdl := dosL_len cls 0
    obtain ⟨_, ⟨b2, ⟨E2, i2, a1, a2, a3, a4, a5, a6, a7⟩, rfl⟩, w3⟩ := AL.add (s := (Tk (s.setb (s.b.push (.inr (15, [.int 203, .int a, .int b, .int c, .int (nI cls.length)])) 5)) T n t (tkL t n L0 j) nu3 (nI 0) 203)) (v := (512 + s.b.n)) hA1 hC1.bh (by omega) (hobj _ _ (203, a, b, c, nI cls.length) (by omega) (by show (512 + s.b.n) < 512 + (s.b.n + 1); omega) gn) (by omega) (by omega)
    have hb3 : hp ((Tk (s.setb (s.b.push (.inr (15, [.int 203, .int a, .int b, .int c, .int (nI cls.length)])) 5)) T n t (tkL t n L0 j) nu3 (nI 0) 203).setb b2) = hp (Tk (s.setb b2) T n t (tkL t n L0 j) nu3 (nI 0) 203) := Tk_in (s := s.setb (s.b.push (.inr (15, [.int 203, .int a, .int b, .int c, .int (nI cls.length)])) 5)) (a3 T (by show T < 512 + (s.b.n + 1); omega) (by omega) (Or.inl (Ne.symm hET)))
    have a4' : s.b.n + 1 ≤ b2.n := a4
    have a5' : b2.n ≤ s.b.n + 1 + 1 := a5
    have a6' : s.b.u + 5 ≤ b2.u := a6
    have a7' : b2.u + 4 * capN ix ≤ s.b.u + 5 + 4 * capN i2 := a7
    have a2' : E2 = E ∨ E2 = 512 + (s.b.n + 1) := a2
    have d2 := a1.D_
    have f2 : ∀ k, k < (512 + s.b.n) → k ≠ T → k ≠ Dl → (k ≠ E ∨ k < 640) → b2.g k = s.b.g k := fun k hk hkT h1 h2 => (a3 k (by show k < 512 + (s.b.n + 1); omega) h1 h2).trans (g1 k hk hkT)
    have gL1 : (hp (Tk (s.setb (s.b.push (.inr (15, [.int 203, .int a, .int b, .int c, .int (nI cls.length)])) 5)) T n t (tkL t n L0 j) nu3 (nI 0) 203)).g Dl = some (.inr (16, [.int (Classical.choose hA.2.2.1), .ref E, .int (nI (dosL cls 0).length)])) := (hp_gb (nfx (by omega))).trans ((g1 Dl d.2.1 (by omega)).trans (Classical.choose_spec hA.2.2.1))
    have gX2 : b2.g X = some (.inr (4, [ve, vl, vq, .int (nI cls.length), .ref Dl])) := (f2 X r3 hXT r5 (Or.inl r6)).trans gX
    have x2 : ExT T lo (b2.n - s.b.n) (b2.u - s.b.u) s.b b2 := ⟨by omega, by omega, by omega, by omega, fun k hk hkT => f2 k (by omega) hkT (by omega) (by omega)⟩
    have hC2 : TC (s.setb b2) T n t := hC.ext x2 (by omega)
    have e1 : x = (if (tkL t n L0 j).2.2.1 = 59 then .inr ((3, a, b, c), C, j + 1) else .inl (1, j)) := e1
    by_cases cf : (tkL t n L0 j).2.2.1 = 59
    · have hs59 : sortS (byteF t n) (tkL t n L0 j) = 59 := (so_c j (c := 59) (v := 59) (by decide) (by decide +kernel) (by decide +kernel)).mpr cf
      rw [if_pos cf] at e1
      obtain ⟨nu4, hN4, w2⟩ := r_X3_want_t hC2 j (L0 := L0) (nu := nu3) (op := nI 0) (kd := 203) 59 hs59
      have hlen : nI cls.length + 1 = nI (cls ++ [((3, a, b, c) : Cl)]).length := by
        rw [nI_succ', List.length_append]
        rfl
      have hdo : dosL (cls ++ [((3, a, b, c) : Cl)]) 0 = dosL cls 0 ++ [(203, a, b, c, nI cls.length)] := by
        rw [dosL_app, if_neg (show ¬ (3 : Int32) ≤ 2 by decide), Nat.zero_add]
        rfl
      have hdn : (dosL (cls ++ [((3, a, b, c) : Cl)]) 0).length = (dosL cls 0).length + 1 := by
        rw [hdo, List.length_append]
        rfl
      have e3 : ∀ k, k < (512 + s.b.n) → (k < 512 ∨ lo ≤ k) → k ≠ X → k ≠ Dl → k ≠ E → (b2.set X (.inr (4, [ve, vl, vq, .int (nI cls.length + 1), .ref Dl]))).g k = s.b.g k := fun k hk hl hX h1 h2 => (set_go hX).trans (f2 k hk (by omega) h1 (Or.inl h2))
      have e32 : (b2.set X (.inr (4, [ve, vl, vq, .int (nI cls.length + 1), .ref Dl]))).g 2 = s.b.g 2 := (set_go (by omega)).trans (f2 2 (by omega) (by omega) (by omega) (Or.inr (by decide)))
      have sl : ∀ {β : Type} {Y : MethodName} {g : β → (Nat → Int32) → Value} {v : Value} {f : Option β}, SlotG Y g s.b lo X Dl E v f → SlotG Y g (b2.set X (.inr (4, [ve, vl, vq, .int (nI cls.length + 1), .ref Dl]))) lo X Dl E2 v f := fun h => h.by_ (by show s.b.n ≤ b2.n; omega) e3 (by omega) (by omega) e32
      have hD3 : ∀ k dd, (dosL (cls ++ [((3, a, b, c) : Cl)]) 0)[k]? = some dd → lo ≤ up dv (dosL cls 0).length (512 + s.b.n) k ∧ up dv (dosL cls 0).length (512 + s.b.n) k < 512 + b2.n ∧ (b2.set X (.inr (4, [ve, vl, vq, .int (nI cls.length + 1), .ref Dl]))).g (up dv (dosL cls 0).length (512 + s.b.n) k) = some (.inr (15, [.int dd.1, .int dd.2.1, .int dd.2.2.1, .int dd.2.2.2.1, .int dd.2.2.2.2])) := fun k dd hk => by
        rw [hdo] at hk
        by_cases hkl : k < (dosL cls 0).length
        · rw [List.getElem?_append_left hkl] at hk
          obtain ⟨p1, p2, p3⟩ := hD k dd hk
          rw [up_ne (by omega)]
          have nX : dv k ≠ X := fun q => by
            rw [q, gX] at p3
            exact absurd (show (4 : Nat) = 15 from congrArg Prod.fst (Sum.inr.inj (Option.some.inj p3))) (by decide)
          have nD : dv k ≠ Dl := fun q => by
            rw [q, Classical.choose_spec hA.2.2.1] at p3
            exact absurd (show (16 : Nat) = 15 from congrArg Prod.fst (Sum.inr.inj (Option.some.inj p3))) (by decide)
          have nE : dv k ≠ E := fun q => by
            rcases hA.2.2.2.2.2.2.2 with z | ⟨-, -, -, -, gg, z, -⟩
            · have := z.2
              omega
            · rw [q, z] at p3
              exact Sum.inl_ne_inr (Option.some.inj p3)
          exact ⟨p1, by omega, (e3 _ p2 (Or.inr p1) nX nD nE).trans p3⟩
        · have hkl2 := (List.getElem?_eq_some_iff.mp hk).1
          rw [List.length_append] at hkl2
          have hke : k = (dosL cls 0).length := by simp only [List.length_cons, List.length_nil] at hkl2; omega
          subst hke
          rw [List.getElem?_append_right (Nat.le_refl _), Nat.sub_self] at hk
          have hk2 := Option.some.inj hk
          subst hk2
          rw [up_eq]
          exact ⟨by omega, by omega, (set_go (by omega)).trans ((a3 (512 + s.b.n) (by show _ < 512 + (s.b.n + 1); omega) (by omega) (Or.inl (by omega))).trans gn)⟩
      have hA3 : AL (b2.set X (.inr (4, [ve, vl, vq, .int (nI cls.length + 1), .ref Dl]))) Dl E2 (dosL (cls ++ [((3, a, b, c) : Cl)]) 0).length i2 (fun k => .ref (up dv (dosL cls 0).length (512 + s.b.n) k)) := by
        have z := AL.cg a1 (g := fun k => .ref (up dv (dosL cls 0).length (512 + s.b.n) k)) (fun j hj => by unfold up; split <;> rfl)
        rw [hdn]
        refine z.by_ (Nat.le_refl _) (set_go (Ne.symm r5)) (Or.inr (set_go (by omega))) (fun k hk => ?_)
        obtain ⟨p1, p2, p3⟩ := hD3 k _ (List.getElem?_eq_getElem (by rw [hdn]; exact hk))
        exact hobj _ _ _ (by omega) p2 p3
      have ap : ∀ {β : Type} {P : Cd → β → Prop} {z : Int32} {o : Option β}, ¬ (3 : Int32) = z → lwOne P z cls C o → lwOne P z (cls ++ [((3, a, b, c) : Cl)]) C o := fun hz h => by
        have := h.app ((3, a, b, c) : Cl) [] hz
        rw [List.append_nil] at this
        exact this
      have hR3 : RdS (b2.set X (.inr (4, [ve, vl, vq, .int (nI cls.length + 1), .ref Dl]))) lo X Dl i2 (cls ++ [((3, a, b, c) : Cl)]) C L := ⟨E2, ve, vl, vq, up dv (dosL cls 0).length (512 + s.b.n), ⟨r1, r2, by show X < 512 + b2.n; omega, r4, r5, by omega, by omega⟩, by rw [← hlen]; exact set_g, hA3, hD3, ⟨sl s1, sl s2, sl s3⟩, ap (by decide) hl0, ap (by decide) hl1, ap (by decide) hl2⟩
      refine StQ.r e1 (by omega) (b2 := b2.set X (.inr (4, [ve, vl, vq, .int (nI cls.length + 1), .ref Dl]))) ⟨by show s.b.n ≤ b2.n; omega, by show b2.n ≤ _; omega, by show s.b.u ≤ b2.u; omega, by show b2.u + _ ≤ _; omega, fun k hk hkT => (set_go (by omega)).trans (x2.2.2.2.2 k hk hkT)⟩ hR3 hN4 (fun o h' kk => ?_)
      refine AW.aload_n dX3_read_12 rfl rfl ?_
      refine AW.get ci3 4 (by decide) q308 dX3_read_13 (gTk hT) rfl rfl ?_
      refine AW.sipush (v := 301) dX3_read_16 (by decide) rfl ?_
      refine AW.icmp_eq (tgt := 231) dX3_read_19 (by decide) rfl (fun c_ => by first | exact absurd c_ (show ¬ sortS (byteF t n) (tkL t n L0 i) = 301 by rw [hs]; decide) | exact absurd (show ¬ sortS (byteF t n) (tkL t n L0 i) = 301 by rw [hs]; decide) c_ | exact Bool.noConfusion (c_.symm.trans (show ¬ sortS (byteF t n) (tkL t n L0 i) = 301 by rw [hs]; decide))) (fun _ => ?_)
      refine AW.aload_n dX3_read_22 rfl rfl ?_
      refine AW.get ci3 4 (by decide) q308 dX3_read_23 (gTk hT) rfl rfl ?_
      refine AW.sipush (v := 200) dX3_read_26 (by decide) rfl ?_
      refine AW.icmp_lt (tgt := 42) dX3_read_29 (by decide) rfl (fun c_ => by first | exact absurd c_ (show ¬ sortS (byteF t n) (tkL t n L0 i) < 200 by rw [hs]; decide) | exact absurd (show ¬ sortS (byteF t n) (tkL t n L0 i) < 200 by rw [hs]; decide) c_ | exact Bool.noConfusion (c_.symm.trans (show ¬ sortS (byteF t n) (tkL t n L0 i) < 200 by rw [hs]; decide))) (fun _ => ?_)
      refine AW.aload_n dX3_read_32 rfl rfl ?_
      refine AW.get ci3 4 (by decide) q308 dX3_read_33 (gTk hT) rfl rfl ?_
      refine AW.sipush (v := 208) dX3_read_36 (by decide) rfl ?_
      refine AW.icmp_le (tgt := 48) dX3_read_39 (by decide) rfl (fun _ => ?_) (fun c_ => by first | exact absurd c_ (show sortS (byteF t n) (tkL t n L0 i) ≤ 208 by rw [hs]; decide) | exact absurd (show sortS (byteF t n) (tkL t n L0 i) ≤ 208 by rw [hs]; decide) c_ | exact absurd c_ (not_not_intro (show sortS (byteF t n) (tkL t n L0 i) ≤ 208 by rw [hs]; decide)) | exact Bool.noConfusion (c_.symm.trans (show sortS (byteF t n) (tkL t n L0 i) ≤ 208 by rw [hs]; decide)))
      refine AW.aload_n dX3_read_48 rfl rfl ?_
      refine AW.aload_n dX3_read_49 rfl rfl ?_
      refine AW.get ci3 4 (by decide) q308 dX3_read_50 (gTk hT) rfl rfl ?_
      refine AW.put ci3 7 (by decide) q311 dX3_read_53 (by omega) (gTk hT) rfl (fun _ => rfl) (fun _ => rfl) (Nat.le_of_ble_eq_true rfl) ((sTk7 hT).trans (congrArg (fun z => hp (Tk s T n t (tkL t n L0 i) nu (nI 0) z)) hs)) rfl ?_
      refine AW.aload_n dX3_read_56 rfl rfl ?_
      refine AW.get ci3 7 (by decide) q311 dX3_read_57 (gTk hT) rfl rfl ?_
      refine AW.sipush (v := 200) dX3_read_60 (by decide) rfl ?_
      refine AW.icmp_ne (tgt := 73) dX3_read_63 (by decide) rfl (fun _ => ?_) (fun c_ => by first | exact absurd c_ (show ¬ (203 : Int32) = 200 by decide) | exact absurd (show ¬ (203 : Int32) = 200 by decide) c_ | exact absurd c_ (not_not_intro (show ¬ (203 : Int32) = 200 by decide)) | exact Bool.noConfusion (c_.symm.trans (show ¬ (203 : Int32) = 200 by decide)))
      refine AW.aload_n dX3_read_73 rfl rfl ?_
      refine AW.get ci3 7 (by decide) q311 dX3_read_74 (gTk hT) rfl rfl ?_
      refine AW.sipush (v := 201) dX3_read_77 (by decide) rfl ?_
      refine AW.icmp_ne (tgt := 90) dX3_read_80 (by decide) rfl (fun _ => ?_) (fun c_ => by first | exact absurd c_ (show ¬ (203 : Int32) = 201 by decide) | exact absurd (show ¬ (203 : Int32) = 201 by decide) c_ | exact absurd c_ (not_not_intro (show ¬ (203 : Int32) = 201 by decide)) | exact Bool.noConfusion (c_.symm.trans (show ¬ (203 : Int32) = 201 by decide)))
      refine AW.aload_n dX3_read_90 rfl rfl ?_
      refine AW.get ci3 7 (by decide) q311 dX3_read_91 (gTk hT) rfl rfl ?_
      refine AW.sipush (v := 202) dX3_read_94 (by decide) rfl ?_
      refine AW.icmp_ne (tgt := 113) dX3_read_97 (by decide) rfl (fun _ => ?_) (fun c_ => by first | exact absurd c_ (show ¬ (203 : Int32) = 202 by decide) | exact absurd (show ¬ (203 : Int32) = 202 by decide) c_ | exact absurd c_ (not_not_intro (show ¬ (203 : Int32) = 202 by decide)) | exact Bool.noConfusion (c_.symm.trans (show ¬ (203 : Int32) = 202 by decide)))
      refine AW.aload_n dX3_read_113 rfl rfl ?_
      refine AW.getN ci4 3 (by decide) q371 dX3_read_114 (by first | exact ((hp_gb (nfx hX6)).trans ((Tk_g hXT).trans gX)) | exact ((hp_gb (nfx hX6)).trans ((Tk_g hXT).trans gX2)) | exact ((hp_gb (nfx hX6)).trans ((Tk_g hXT).trans gX3))) rfl rfl ?_
      refine AW.bipush (v := 24) dX3_read_117 (by decide) rfl ?_
      refine AW.icmp_ne (tgt := 129) dX3_read_119 (by decide) rfl (fun _ => ?_) (fun c_ => by first | exact absurd c_ h24 | exact absurd h24 c_ | exact absurd c_ (not_not_intro h24) | exact Bool.noConfusion (c_.symm.trans h24))
      refine AW.aload_n dX3_read_129 rfl rfl ?_
      refine AW.callV (Y := mX3_next) (n := 0) (w1) (by omega) (by decide) rfl (gTk hT) q386 q388 qs1 q142 q389 dX3_read_130 (by decide +kernel) rfl rfl (Nat.le_of_ble_eq_true rfl) rfl ?_
      refine AW.aload_n dX3_read_133 rfl rfl ?_
      refine AW.get ci3 7 (by decide) q311 dX3_read_134 (gTk hT) rfl rfl ?_
      refine AW.sipush (v := 200) dX3_read_137 (by decide) rfl ?_
      refine AW.icmp_ne (tgt := 154) dX3_read_140 (by decide) rfl (fun _ => ?_) (fun c_ => by first | exact absurd c_ (show ¬ (203 : Int32) = 200 by decide) | exact absurd (show ¬ (203 : Int32) = 200 by decide) c_ | exact absurd c_ (not_not_intro (show ¬ (203 : Int32) = 200 by decide)) | exact Bool.noConfusion (c_.symm.trans (show ¬ (203 : Int32) = 200 by decide)))
      refine AW.aload_n dX3_read_154 rfl rfl ?_
      refine AW.get ci3 7 (by decide) q311 dX3_read_155 (gTk hT) rfl rfl ?_
      refine AW.sipush (v := 201) dX3_read_158 (by decide) rfl ?_
      refine AW.icmp_ne (tgt := 175) dX3_read_161 (by decide) rfl (fun _ => ?_) (fun c_ => by first | exact absurd c_ (show ¬ (203 : Int32) = 201 by decide) | exact absurd (show ¬ (203 : Int32) = 201 by decide) c_ | exact absurd c_ (not_not_intro (show ¬ (203 : Int32) = 201 by decide)) | exact Bool.noConfusion (c_.symm.trans (show ¬ (203 : Int32) = 201 by decide)))
      refine AW.aload_n dX3_read_175 rfl rfl ?_
      refine AW.get ci3 7 (by decide) q311 dX3_read_176 (gTk hT) rfl rfl ?_
      refine AW.sipush (v := 202) dX3_read_179 (by decide) rfl ?_
      refine AW.icmp_ne (tgt := 196) dX3_read_182 (by decide) rfl (fun _ => ?_) (fun c_ => by first | exact absurd c_ (show ¬ (203 : Int32) = 202 by decide) | exact absurd (show ¬ (203 : Int32) = 202 by decide) c_ | exact absurd c_ (not_not_intro (show ¬ (203 : Int32) = 202 by decide)) | exact Bool.noConfusion (c_.symm.trans (show ¬ (203 : Int32) = 202 by decide)))
      refine AW.aload_n dX3_read_196 rfl rfl ?_
      refine AW.getN ci4 4 (by decide) q373 dX3_read_197 (by first | exact ((hp_gb (nfx hX6)).trans ((Tk_g hXT).trans gX)) | exact ((hp_gb (nfx hX6)).trans ((Tk_g hXT).trans gX2)) | exact ((hp_gb (nfx hX6)).trans ((Tk_g hXT).trans gX3))) rfl rfl ?_
      refine AW.aload_n dX3_read_200 rfl rfl ?_
      refine AW.aload_n dX3_read_201 rfl rfl ?_
      refine AW.getN ci4 3 (by decide) q371 dX3_read_202 (by first | exact ((hp_gb (nfx hX6)).trans ((Tk_g hXT).trans gX)) | exact ((hp_gb (nfx hX6)).trans ((Tk_g hXT).trans gX2)) | exact ((hp_gb (nfx hX6)).trans ((Tk_g hXT).trans gX3))) rfl rfl ?_
      refine AW.callV (Y := mX3_doing) (n := 1) (w9) (by omega) (by decide) rfl (gTk hT) q804 q806 qs21 q142 q807 dX3_read_205 (by decide +kernel) rfl rfl (Nat.le_of_ble_eq_true rfl) rfl ?_
      refine AW.callV (Y := mJ2_add) (n := 1) (w3) (by omega) (by decide) rfl gL1 q773 q648 q649 q146 q650 dX3_read_208 (by decide +kernel) rfl rfl (Nat.le_of_ble_eq_true rfl) rfl ?_
      refine AW.hp hb3 ?_
      refine AW.pop dX3_read_211 rfl rfl ?_
      refine AW.aload_n dX3_read_212 rfl rfl ?_
      refine AW.bipush (v := 59) dX3_read_213 (by decide) rfl ?_
      refine AW.callV (Y := mX3_want) (n := 1) (w2) (by omega) (by decide) rfl (gTk hT) q562 q564 qs11 q142 q565 dX3_read_215 (by decide +kernel) rfl rfl (Nat.le_of_ble_eq_true rfl) rfl ?_
      refine AW.aload_n dX3_read_218 rfl rfl ?_
      refine AW.dup dX3_read_219 rfl rfl ?_
      refine AW.getN ci4 3 (by decide) q371 dX3_read_220 (by first | exact ((hp_gb (nfx hX6)).trans ((Tk_g hXT).trans gX)) | exact ((hp_gb (nfx hX6)).trans ((Tk_g hXT).trans gX2)) | exact ((hp_gb (nfx hX6)).trans ((Tk_g hXT).trans gX3))) rfl rfl ?_
      refine AW.iconst (v := 1) dX3_read_223 (by decide) rfl ?_
      refine AW.iadd dX3_read_224 rfl ?_
      refine AW.putN ci4 3 (by decide) q371 dX3_read_225 (by omega) (by first | exact ((hp_gb (nfx hX6)).trans ((Tk_g hXT).trans gX)) | exact ((hp_gb (nfx hX6)).trans ((Tk_g hXT).trans gX2)) | exact ((hp_gb (nfx hX6)).trans ((Tk_g hXT).trans gX3))) rfl (fun _ => rfl) (fun _ => rfl) (Nat.le_of_ble_eq_true rfl) ((hp_set6 hX6).trans (tk_cm (s := s.setb b2) (Ne.symm hXT))) rfl ?_
      refine AW.goto (tgt := 12) dX3_read_228 (by decide) ?_
      exact kk
    · have hs59 : ¬ sortS (byteF t n) (tkL t n L0 j) = 59 := fun q => cf ((so_c j (c := 59) (v := 59) (by decide) (by decide +kernel) (by decide +kernel)).mp q)
      rw [if_neg cf] at e1
      have w2 := r_X3_want_f (s := s.setb b2) (n := n) (at_ := (tkL t n L0 j).1) (tk := (tkL t n L0 j).2.1) (nu := nu3) (op := nI 0) (kd := 203) hT (by show T < 512 + b2.n; omega) (by show 128 ≤ b2.n; omega) 59 hs59
      have q7 : EQ T n t L0 203 (512 + b2.n) 0 0 (s.setb b2) j 1 j _ := EQ.wr (s := s.setb b2) (L0 := L0) (nu := nu3) (op := nI 0) (Nat.le_refl _) 1
      have q8 : EQ T n t L0 203 lo 0 1000 s i 1 j _ := EQ.up q7 x2 (by omega) (by omega) (by omega) (by omega)
      refine StQ.l e1 q8 ?_
      refine AW.aload_n dX3_read_12 rfl rfl ?_
      refine AW.get ci3 4 (by decide) q308 dX3_read_13 (gTk hT) rfl rfl ?_
      refine AW.sipush (v := 301) dX3_read_16 (by decide) rfl ?_
      refine AW.icmp_eq (tgt := 231) dX3_read_19 (by decide) rfl (fun c_ => by first | exact absurd c_ (show ¬ sortS (byteF t n) (tkL t n L0 i) = 301 by rw [hs]; decide) | exact absurd (show ¬ sortS (byteF t n) (tkL t n L0 i) = 301 by rw [hs]; decide) c_ | exact Bool.noConfusion (c_.symm.trans (show ¬ sortS (byteF t n) (tkL t n L0 i) = 301 by rw [hs]; decide))) (fun _ => ?_)
      refine AW.aload_n dX3_read_22 rfl rfl ?_
      refine AW.get ci3 4 (by decide) q308 dX3_read_23 (gTk hT) rfl rfl ?_
      refine AW.sipush (v := 200) dX3_read_26 (by decide) rfl ?_
      refine AW.icmp_lt (tgt := 42) dX3_read_29 (by decide) rfl (fun c_ => by first | exact absurd c_ (show ¬ sortS (byteF t n) (tkL t n L0 i) < 200 by rw [hs]; decide) | exact absurd (show ¬ sortS (byteF t n) (tkL t n L0 i) < 200 by rw [hs]; decide) c_ | exact Bool.noConfusion (c_.symm.trans (show ¬ sortS (byteF t n) (tkL t n L0 i) < 200 by rw [hs]; decide))) (fun _ => ?_)
      refine AW.aload_n dX3_read_32 rfl rfl ?_
      refine AW.get ci3 4 (by decide) q308 dX3_read_33 (gTk hT) rfl rfl ?_
      refine AW.sipush (v := 208) dX3_read_36 (by decide) rfl ?_
      refine AW.icmp_le (tgt := 48) dX3_read_39 (by decide) rfl (fun _ => ?_) (fun c_ => by first | exact absurd c_ (show sortS (byteF t n) (tkL t n L0 i) ≤ 208 by rw [hs]; decide) | exact absurd (show sortS (byteF t n) (tkL t n L0 i) ≤ 208 by rw [hs]; decide) c_ | exact absurd c_ (not_not_intro (show sortS (byteF t n) (tkL t n L0 i) ≤ 208 by rw [hs]; decide)) | exact Bool.noConfusion (c_.symm.trans (show sortS (byteF t n) (tkL t n L0 i) ≤ 208 by rw [hs]; decide)))
      refine AW.aload_n dX3_read_48 rfl rfl ?_
      refine AW.aload_n dX3_read_49 rfl rfl ?_
      refine AW.get ci3 4 (by decide) q308 dX3_read_50 (gTk hT) rfl rfl ?_
      refine AW.put ci3 7 (by decide) q311 dX3_read_53 (by omega) (gTk hT) rfl (fun _ => rfl) (fun _ => rfl) (Nat.le_of_ble_eq_true rfl) ((sTk7 hT).trans (congrArg (fun z => hp (Tk s T n t (tkL t n L0 i) nu (nI 0) z)) hs)) rfl ?_
      refine AW.aload_n dX3_read_56 rfl rfl ?_
      refine AW.get ci3 7 (by decide) q311 dX3_read_57 (gTk hT) rfl rfl ?_
      refine AW.sipush (v := 200) dX3_read_60 (by decide) rfl ?_
      refine AW.icmp_ne (tgt := 73) dX3_read_63 (by decide) rfl (fun _ => ?_) (fun c_ => by first | exact absurd c_ (show ¬ (203 : Int32) = 200 by decide) | exact absurd (show ¬ (203 : Int32) = 200 by decide) c_ | exact absurd c_ (not_not_intro (show ¬ (203 : Int32) = 200 by decide)) | exact Bool.noConfusion (c_.symm.trans (show ¬ (203 : Int32) = 200 by decide)))
      refine AW.aload_n dX3_read_73 rfl rfl ?_
      refine AW.get ci3 7 (by decide) q311 dX3_read_74 (gTk hT) rfl rfl ?_
      refine AW.sipush (v := 201) dX3_read_77 (by decide) rfl ?_
      refine AW.icmp_ne (tgt := 90) dX3_read_80 (by decide) rfl (fun _ => ?_) (fun c_ => by first | exact absurd c_ (show ¬ (203 : Int32) = 201 by decide) | exact absurd (show ¬ (203 : Int32) = 201 by decide) c_ | exact absurd c_ (not_not_intro (show ¬ (203 : Int32) = 201 by decide)) | exact Bool.noConfusion (c_.symm.trans (show ¬ (203 : Int32) = 201 by decide)))
      refine AW.aload_n dX3_read_90 rfl rfl ?_
      refine AW.get ci3 7 (by decide) q311 dX3_read_91 (gTk hT) rfl rfl ?_
      refine AW.sipush (v := 202) dX3_read_94 (by decide) rfl ?_
      refine AW.icmp_ne (tgt := 113) dX3_read_97 (by decide) rfl (fun _ => ?_) (fun c_ => by first | exact absurd c_ (show ¬ (203 : Int32) = 202 by decide) | exact absurd (show ¬ (203 : Int32) = 202 by decide) c_ | exact absurd c_ (not_not_intro (show ¬ (203 : Int32) = 202 by decide)) | exact Bool.noConfusion (c_.symm.trans (show ¬ (203 : Int32) = 202 by decide)))
      refine AW.aload_n dX3_read_113 rfl rfl ?_
      refine AW.getN ci4 3 (by decide) q371 dX3_read_114 (by first | exact ((hp_gb (nfx hX6)).trans ((Tk_g hXT).trans gX)) | exact ((hp_gb (nfx hX6)).trans ((Tk_g hXT).trans gX2)) | exact ((hp_gb (nfx hX6)).trans ((Tk_g hXT).trans gX3))) rfl rfl ?_
      refine AW.bipush (v := 24) dX3_read_117 (by decide) rfl ?_
      refine AW.icmp_ne (tgt := 129) dX3_read_119 (by decide) rfl (fun _ => ?_) (fun c_ => by first | exact absurd c_ h24 | exact absurd h24 c_ | exact absurd c_ (not_not_intro h24) | exact Bool.noConfusion (c_.symm.trans h24))
      refine AW.aload_n dX3_read_129 rfl rfl ?_
      refine AW.callV (Y := mX3_next) (n := 0) (w1) (by omega) (by decide) rfl (gTk hT) q386 q388 qs1 q142 q389 dX3_read_130 (by decide +kernel) rfl rfl (Nat.le_of_ble_eq_true rfl) rfl ?_
      refine AW.aload_n dX3_read_133 rfl rfl ?_
      refine AW.get ci3 7 (by decide) q311 dX3_read_134 (gTk hT) rfl rfl ?_
      refine AW.sipush (v := 200) dX3_read_137 (by decide) rfl ?_
      refine AW.icmp_ne (tgt := 154) dX3_read_140 (by decide) rfl (fun _ => ?_) (fun c_ => by first | exact absurd c_ (show ¬ (203 : Int32) = 200 by decide) | exact absurd (show ¬ (203 : Int32) = 200 by decide) c_ | exact absurd c_ (not_not_intro (show ¬ (203 : Int32) = 200 by decide)) | exact Bool.noConfusion (c_.symm.trans (show ¬ (203 : Int32) = 200 by decide)))
      refine AW.aload_n dX3_read_154 rfl rfl ?_
      refine AW.get ci3 7 (by decide) q311 dX3_read_155 (gTk hT) rfl rfl ?_
      refine AW.sipush (v := 201) dX3_read_158 (by decide) rfl ?_
      refine AW.icmp_ne (tgt := 175) dX3_read_161 (by decide) rfl (fun _ => ?_) (fun c_ => by first | exact absurd c_ (show ¬ (203 : Int32) = 201 by decide) | exact absurd (show ¬ (203 : Int32) = 201 by decide) c_ | exact absurd c_ (not_not_intro (show ¬ (203 : Int32) = 201 by decide)) | exact Bool.noConfusion (c_.symm.trans (show ¬ (203 : Int32) = 201 by decide)))
      refine AW.aload_n dX3_read_175 rfl rfl ?_
      refine AW.get ci3 7 (by decide) q311 dX3_read_176 (gTk hT) rfl rfl ?_
      refine AW.sipush (v := 202) dX3_read_179 (by decide) rfl ?_
      refine AW.icmp_ne (tgt := 196) dX3_read_182 (by decide) rfl (fun _ => ?_) (fun c_ => by first | exact absurd c_ (show ¬ (203 : Int32) = 202 by decide) | exact absurd (show ¬ (203 : Int32) = 202 by decide) c_ | exact absurd c_ (not_not_intro (show ¬ (203 : Int32) = 202 by decide)) | exact Bool.noConfusion (c_.symm.trans (show ¬ (203 : Int32) = 202 by decide)))
      refine AW.aload_n dX3_read_196 rfl rfl ?_
      refine AW.getN ci4 4 (by decide) q373 dX3_read_197 (by first | exact ((hp_gb (nfx hX6)).trans ((Tk_g hXT).trans gX)) | exact ((hp_gb (nfx hX6)).trans ((Tk_g hXT).trans gX2)) | exact ((hp_gb (nfx hX6)).trans ((Tk_g hXT).trans gX3))) rfl rfl ?_
      refine AW.aload_n dX3_read_200 rfl rfl ?_
      refine AW.aload_n dX3_read_201 rfl rfl ?_
      refine AW.getN ci4 3 (by decide) q371 dX3_read_202 (by first | exact ((hp_gb (nfx hX6)).trans ((Tk_g hXT).trans gX)) | exact ((hp_gb (nfx hX6)).trans ((Tk_g hXT).trans gX2)) | exact ((hp_gb (nfx hX6)).trans ((Tk_g hXT).trans gX3))) rfl rfl ?_
      refine AW.callV (Y := mX3_doing) (n := 1) (w9) (by omega) (by decide) rfl (gTk hT) q804 q806 qs21 q142 q807 dX3_read_205 (by decide +kernel) rfl rfl (Nat.le_of_ble_eq_true rfl) rfl ?_
      refine AW.callV (Y := mJ2_add) (n := 1) (w3) (by omega) (by decide) rfl gL1 q773 q648 q649 q146 q650 dX3_read_208 (by decide +kernel) rfl rfl (Nat.le_of_ble_eq_true rfl) rfl ?_
      refine AW.hp hb3 ?_
      refine AW.pop dX3_read_211 rfl rfl ?_
      refine AW.aload_n dX3_read_212 rfl rfl ?_
      refine AW.bipush (v := 59) dX3_read_213 (by decide) rfl ?_
      exact AW.callVX (Y := mX3_want) (n := 1) (w2) (by decide) (by decide) rfl (gTk hT) q562 q564 qs11 q142 q565 dX3_read_215 (by decide +kernel) rfl rfl (Nat.le_of_ble_eq_true rfl) q332 rfl
theorem rc_4 {T n : Nat} {t : Nat → Int32} {L0 : Lq} {lo X Dl ix : Nat} {s : Sg} {i : Nat} {kd nu : Int32} {cls : List Cl} {C : Cd} {L : Lw} {x : CR} (hC : TC s T n t) (hTlo : T < lo) (hR : RdS s.b lo X Dl ix cls C L) (hs : sortS (byteF t n) (tkL t n L0 i) = 204) (h24_ : cls.length < 24) (e0 : x = semi (tkL t n L0) (clB (byteF t n) (tkL t n L0) 4 C (i + 1))) : StQ T n t L0 lo X Dl ix s i kd 204 nu cls x := by
  have hT := hC.1
  have hTb := hC.2.1
  have h300 := hC.2.2.2.1
  have hB := hC.2.2.2.2
  have hb := hB.1
  have h24 := nI_24 h24_
  obtain ⟨E, ve, vl, vq, dv, ⟨r1, r2, r3, r4, r5, r6, r7⟩, gX, hA, hD, ⟨s1, s2, s3⟩, hl0, hl1, hl2⟩ := hR
  have hX6 : 640 ≤ X := by omega
  have hXT : X ≠ T := by omega
  obtain ⟨nu2, hN2, w1⟩ := tk_next hC L0 i (nu := nu) (op := nI 0) (kd := 204)
  have e1 : x = semi (tkL t n L0) (match bodyR (byteF t n) (tkL t n L0) 4 (i + 1) with
      | .inl e => .inl e
      | .inr q => .inr ((4, q.1), C, q.2)) := by
    rw [e0]
    unfold clB
    rw [if_neg (by decide)]
    rfl
  obtain ⟨⟨o9, h9⟩, q9, w9⟩ := do_4 hC (L0 := L0) (i + 1) (nu := nu2) (op := nI 0) (nI cls.length) hN2
  cases hx : bodyR (byteF t n) (tkL t n L0) 4 (i + 1) with
  | inl e =>
    rw [hx] at q9 e1
    obtain ⟨r, j⟩ := e
    have q8 : EQ T n t L0 204 lo 0 1000 s i r j (o9, h9) := EQ.up (b1 := s.b) (show EQ T n t L0 204 (512 + s.b.n) 0 0 (s.setb s.b) (i + 1) r j (o9, h9) from q9) (ExT.refl T lo s.b) (by omega) (by omega) (by omega) (by omega)
    obtain ⟨-, q, b2, nu3, op3, -, -, qe⟩ := id q8
    obtain ⟨rfl, rfl⟩ := Prod.mk.inj qe
    refine StQ.l e1 q8 ?_
    refine AW.aload_n dX3_read_12 rfl rfl ?_
    refine AW.get ci3 4 (by decide) q308 dX3_read_13 (gTk hT) rfl rfl ?_
    refine AW.sipush (v := 301) dX3_read_16 (by decide) rfl ?_
    refine AW.icmp_eq (tgt := 231) dX3_read_19 (by decide) rfl (fun c_ => by first | exact absurd c_ (show ¬ sortS (byteF t n) (tkL t n L0 i) = 301 by rw [hs]; decide) | exact absurd (show ¬ sortS (byteF t n) (tkL t n L0 i) = 301 by rw [hs]; decide) c_ | exact Bool.noConfusion (c_.symm.trans (show ¬ sortS (byteF t n) (tkL t n L0 i) = 301 by rw [hs]; decide))) (fun _ => ?_)
    refine AW.aload_n dX3_read_22 rfl rfl ?_
    refine AW.get ci3 4 (by decide) q308 dX3_read_23 (gTk hT) rfl rfl ?_
    refine AW.sipush (v := 200) dX3_read_26 (by decide) rfl ?_
    refine AW.icmp_lt (tgt := 42) dX3_read_29 (by decide) rfl (fun c_ => by first | exact absurd c_ (show ¬ sortS (byteF t n) (tkL t n L0 i) < 200 by rw [hs]; decide) | exact absurd (show ¬ sortS (byteF t n) (tkL t n L0 i) < 200 by rw [hs]; decide) c_ | exact Bool.noConfusion (c_.symm.trans (show ¬ sortS (byteF t n) (tkL t n L0 i) < 200 by rw [hs]; decide))) (fun _ => ?_)
    refine AW.aload_n dX3_read_32 rfl rfl ?_
    refine AW.get ci3 4 (by decide) q308 dX3_read_33 (gTk hT) rfl rfl ?_
    refine AW.sipush (v := 208) dX3_read_36 (by decide) rfl ?_
    refine AW.icmp_le (tgt := 48) dX3_read_39 (by decide) rfl (fun _ => ?_) (fun c_ => by first | exact absurd c_ (show sortS (byteF t n) (tkL t n L0 i) ≤ 208 by rw [hs]; decide) | exact absurd (show sortS (byteF t n) (tkL t n L0 i) ≤ 208 by rw [hs]; decide) c_ | exact absurd c_ (not_not_intro (show sortS (byteF t n) (tkL t n L0 i) ≤ 208 by rw [hs]; decide)) | exact Bool.noConfusion (c_.symm.trans (show sortS (byteF t n) (tkL t n L0 i) ≤ 208 by rw [hs]; decide)))
    refine AW.aload_n dX3_read_48 rfl rfl ?_
    refine AW.aload_n dX3_read_49 rfl rfl ?_
    refine AW.get ci3 4 (by decide) q308 dX3_read_50 (gTk hT) rfl rfl ?_
    refine AW.put ci3 7 (by decide) q311 dX3_read_53 (by omega) (gTk hT) rfl (fun _ => rfl) (fun _ => rfl) (Nat.le_of_ble_eq_true rfl) ((sTk7 hT).trans (congrArg (fun z => hp (Tk s T n t (tkL t n L0 i) nu (nI 0) z)) hs)) rfl ?_
    refine AW.aload_n dX3_read_56 rfl rfl ?_
    refine AW.get ci3 7 (by decide) q311 dX3_read_57 (gTk hT) rfl rfl ?_
    refine AW.sipush (v := 200) dX3_read_60 (by decide) rfl ?_
    refine AW.icmp_ne (tgt := 73) dX3_read_63 (by decide) rfl (fun _ => ?_) (fun c_ => by first | exact absurd c_ (show ¬ (204 : Int32) = 200 by decide) | exact absurd (show ¬ (204 : Int32) = 200 by decide) c_ | exact absurd c_ (not_not_intro (show ¬ (204 : Int32) = 200 by decide)) | exact Bool.noConfusion (c_.symm.trans (show ¬ (204 : Int32) = 200 by decide)))
    refine AW.aload_n dX3_read_73 rfl rfl ?_
    refine AW.get ci3 7 (by decide) q311 dX3_read_74 (gTk hT) rfl rfl ?_
    refine AW.sipush (v := 201) dX3_read_77 (by decide) rfl ?_
    refine AW.icmp_ne (tgt := 90) dX3_read_80 (by decide) rfl (fun _ => ?_) (fun c_ => by first | exact absurd c_ (show ¬ (204 : Int32) = 201 by decide) | exact absurd (show ¬ (204 : Int32) = 201 by decide) c_ | exact absurd c_ (not_not_intro (show ¬ (204 : Int32) = 201 by decide)) | exact Bool.noConfusion (c_.symm.trans (show ¬ (204 : Int32) = 201 by decide)))
    refine AW.aload_n dX3_read_90 rfl rfl ?_
    refine AW.get ci3 7 (by decide) q311 dX3_read_91 (gTk hT) rfl rfl ?_
    refine AW.sipush (v := 202) dX3_read_94 (by decide) rfl ?_
    refine AW.icmp_ne (tgt := 113) dX3_read_97 (by decide) rfl (fun _ => ?_) (fun c_ => by first | exact absurd c_ (show ¬ (204 : Int32) = 202 by decide) | exact absurd (show ¬ (204 : Int32) = 202 by decide) c_ | exact absurd c_ (not_not_intro (show ¬ (204 : Int32) = 202 by decide)) | exact Bool.noConfusion (c_.symm.trans (show ¬ (204 : Int32) = 202 by decide)))
    refine AW.aload_n dX3_read_113 rfl rfl ?_
    refine AW.getN ci4 3 (by decide) q371 dX3_read_114 (by first | exact ((hp_gb (nfx hX6)).trans ((Tk_g hXT).trans gX)) | exact ((hp_gb (nfx hX6)).trans ((Tk_g hXT).trans gX2)) | exact ((hp_gb (nfx hX6)).trans ((Tk_g hXT).trans gX3))) rfl rfl ?_
    refine AW.bipush (v := 24) dX3_read_117 (by decide) rfl ?_
    refine AW.icmp_ne (tgt := 129) dX3_read_119 (by decide) rfl (fun _ => ?_) (fun c_ => by first | exact absurd c_ h24 | exact absurd h24 c_ | exact absurd c_ (not_not_intro h24) | exact Bool.noConfusion (c_.symm.trans h24))
    refine AW.aload_n dX3_read_129 rfl rfl ?_
    refine AW.callV (Y := mX3_next) (n := 0) (w1) (by omega) (by decide) rfl (gTk hT) q386 q388 qs1 q142 q389 dX3_read_130 (by decide +kernel) rfl rfl (Nat.le_of_ble_eq_true rfl) rfl ?_
    refine AW.aload_n dX3_read_133 rfl rfl ?_
    refine AW.get ci3 7 (by decide) q311 dX3_read_134 (gTk hT) rfl rfl ?_
    refine AW.sipush (v := 200) dX3_read_137 (by decide) rfl ?_
    refine AW.icmp_ne (tgt := 154) dX3_read_140 (by decide) rfl (fun _ => ?_) (fun c_ => by first | exact absurd c_ (show ¬ (204 : Int32) = 200 by decide) | exact absurd (show ¬ (204 : Int32) = 200 by decide) c_ | exact absurd c_ (not_not_intro (show ¬ (204 : Int32) = 200 by decide)) | exact Bool.noConfusion (c_.symm.trans (show ¬ (204 : Int32) = 200 by decide)))
    refine AW.aload_n dX3_read_154 rfl rfl ?_
    refine AW.get ci3 7 (by decide) q311 dX3_read_155 (gTk hT) rfl rfl ?_
    refine AW.sipush (v := 201) dX3_read_158 (by decide) rfl ?_
    refine AW.icmp_ne (tgt := 175) dX3_read_161 (by decide) rfl (fun _ => ?_) (fun c_ => by first | exact absurd c_ (show ¬ (204 : Int32) = 201 by decide) | exact absurd (show ¬ (204 : Int32) = 201 by decide) c_ | exact absurd c_ (not_not_intro (show ¬ (204 : Int32) = 201 by decide)) | exact Bool.noConfusion (c_.symm.trans (show ¬ (204 : Int32) = 201 by decide)))
    refine AW.aload_n dX3_read_175 rfl rfl ?_
    refine AW.get ci3 7 (by decide) q311 dX3_read_176 (gTk hT) rfl rfl ?_
    refine AW.sipush (v := 202) dX3_read_179 (by decide) rfl ?_
    refine AW.icmp_ne (tgt := 196) dX3_read_182 (by decide) rfl (fun _ => ?_) (fun c_ => by first | exact absurd c_ (show ¬ (204 : Int32) = 202 by decide) | exact absurd (show ¬ (204 : Int32) = 202 by decide) c_ | exact absurd c_ (not_not_intro (show ¬ (204 : Int32) = 202 by decide)) | exact Bool.noConfusion (c_.symm.trans (show ¬ (204 : Int32) = 202 by decide)))
    refine AW.aload_n dX3_read_196 rfl rfl ?_
    refine AW.getN ci4 4 (by decide) q373 dX3_read_197 (by first | exact ((hp_gb (nfx hX6)).trans ((Tk_g hXT).trans gX)) | exact ((hp_gb (nfx hX6)).trans ((Tk_g hXT).trans gX2)) | exact ((hp_gb (nfx hX6)).trans ((Tk_g hXT).trans gX3))) rfl rfl ?_
    refine AW.aload_n dX3_read_200 rfl rfl ?_
    refine AW.aload_n dX3_read_201 rfl rfl ?_
    refine AW.getN ci4 3 (by decide) q371 dX3_read_202 (by first | exact ((hp_gb (nfx hX6)).trans ((Tk_g hXT).trans gX)) | exact ((hp_gb (nfx hX6)).trans ((Tk_g hXT).trans gX2)) | exact ((hp_gb (nfx hX6)).trans ((Tk_g hXT).trans gX3))) rfl rfl ?_
    exact AW.callVX (Y := mX3_doing) (n := 1) (w9) (by decide) (by decide) rfl (gTk hT) q804 q806 qs21 q142 q807 dX3_read_205 (by decide +kernel) rfl rfl (Nat.le_of_ble_eq_true rfl) q332 rfl
  | inr e =>
    obtain ⟨⟨a, b, c⟩, j⟩ := e
    rw [hx] at q9 e1
    obtain ⟨j1, nu3, hN3, qe⟩ := q9
    obtain ⟨rfl, rfl⟩ := Prod.mk.inj qe
    have j1' : i + 1 + 1 ≤ j := j1
    have d := hA.D_
    have hET : E ≠ T := by rcases r7 with q | q <;> omega
    have hEl : E < (512 + s.b.n) := by rcases d.2.2.1 with q | q <;> omega
    have x1 : ExT T (512 + s.b.n) 1 5 s.b (s.b.push (.inr (15, [.int 204, .int a, .int b, .int c, .int (nI cls.length)])) 5) := ExT.push (Nat.le_refl _)
    have hC1 : TC (s.setb (s.b.push (.inr (15, [.int 204, .int a, .int b, .int c, .int (nI cls.length)])) 5)) T n t := hC.ext x1 (by omega)
    have g1 : ∀ k, k < (512 + s.b.n) → k ≠ T → (Tk (s.setb (s.b.push (.inr (15, [.int 204, .int a, .int b, .int c, .int (nI cls.length)])) 5)) T n t (tkL t n L0 j) nu3 (nI 0) 204).b.g k = s.b.g k := fun k hk hkT => (Tk_g hkT).trans (push_go (by omega))
    have gn : (Tk (s.setb (s.b.push (.inr (15, [.int 204, .int a, .int b, .int c, .int (nI cls.length)])) 5)) T n t (tkL t n L0 j) nu3 (nI 0) 204).b.g (512 + s.b.n) = some (.inr (15, [.int 204, .int a, .int b, .int c, .int (nI cls.length)])) := (Tk_g (by omega)).trans push_g
    have hobj : ∀ (b9 : AH) (z : Nat) (dd : Int32 × Int32 × Int32 × Int32 × Int32), 640 ≤ z → z < 512 + b9.n → b9.g z = some (.inr (15, [.int dd.1, .int dd.2.1, .int dd.2.2.1, .int dd.2.2.2.1, .int dd.2.2.2.2])) → ObjR b9 (.ref z) := fun b9 z dd h1 h2 h3 => ⟨z, 15, _, _, rfl, nfx h1, h2, h3, rfl, q2045⟩
    have hdT : ∀ k dd, (dosL cls 0)[k]? = some dd → dv k ≠ T := fun k dd hk => by have := (hD k dd hk).1; omega
    have hA1 : AL (Tk (s.setb (s.b.push (.inr (15, [.int 204, .int a, .int b, .int c, .int (nI cls.length)])) 5)) T n t (tkL t n L0 j) nu3 (nI 0) 204).b Dl E (dosL cls 0).length ix (fun k => .ref (dv k)) := hA.by_ (by show s.b.n ≤ s.b.n + 1; omega) (g1 Dl d.2.1 (by omega)) (Or.inr (g1 E hEl hET)) (fun k hk => by
      obtain ⟨a1, a2, a3⟩ := hD k _ (List.getElem?_eq_getElem hk)
      exact hobj _ _ _ (by omega) (by show _ < 512 + (s.b.n + 1); omega) ((g1 _ a2 (by omega)).trans a3))
    have hdl := dosL_len cls 0
    obtain ⟨_, ⟨b2, ⟨E2, i2, a1, a2, a3, a4, a5, a6, a7⟩, rfl⟩, w3⟩ := AL.add (s := (Tk (s.setb (s.b.push (.inr (15, [.int 204, .int a, .int b, .int c, .int (nI cls.length)])) 5)) T n t (tkL t n L0 j) nu3 (nI 0) 204)) (v := (512 + s.b.n)) hA1 hC1.bh (by omega) (hobj _ _ (204, a, b, c, nI cls.length) (by omega) (by show (512 + s.b.n) < 512 + (s.b.n + 1); omega) gn) (by omega) (by omega)
    have hb3 : hp ((Tk (s.setb (s.b.push (.inr (15, [.int 204, .int a, .int b, .int c, .int (nI cls.length)])) 5)) T n t (tkL t n L0 j) nu3 (nI 0) 204).setb b2) = hp (Tk (s.setb b2) T n t (tkL t n L0 j) nu3 (nI 0) 204) := Tk_in (s := s.setb (s.b.push (.inr (15, [.int 204, .int a, .int b, .int c, .int (nI cls.length)])) 5)) (a3 T (by show T < 512 + (s.b.n + 1); omega) (by omega) (Or.inl (Ne.symm hET)))
    have a4' : s.b.n + 1 ≤ b2.n := a4
    have a5' : b2.n ≤ s.b.n + 1 + 1 := a5
    have a6' : s.b.u + 5 ≤ b2.u := a6
    have a7' : b2.u + 4 * capN ix ≤ s.b.u + 5 + 4 * capN i2 := a7
    have a2' : E2 = E ∨ E2 = 512 + (s.b.n + 1) := a2
    have d2 := a1.D_
    have f2 : ∀ k, k < (512 + s.b.n) → k ≠ T → k ≠ Dl → (k ≠ E ∨ k < 640) → b2.g k = s.b.g k := fun k hk hkT h1 h2 => (a3 k (by show k < 512 + (s.b.n + 1); omega) h1 h2).trans (g1 k hk hkT)
    have gL1 : (hp (Tk (s.setb (s.b.push (.inr (15, [.int 204, .int a, .int b, .int c, .int (nI cls.length)])) 5)) T n t (tkL t n L0 j) nu3 (nI 0) 204)).g Dl = some (.inr (16, [.int (Classical.choose hA.2.2.1), .ref E, .int (nI (dosL cls 0).length)])) := (hp_gb (nfx (by omega))).trans ((g1 Dl d.2.1 (by omega)).trans (Classical.choose_spec hA.2.2.1))
    have gX2 : b2.g X = some (.inr (4, [ve, vl, vq, .int (nI cls.length), .ref Dl])) := (f2 X r3 hXT r5 (Or.inl r6)).trans gX
    have x2 : ExT T lo (b2.n - s.b.n) (b2.u - s.b.u) s.b b2 := ⟨by omega, by omega, by omega, by omega, fun k hk hkT => f2 k (by omega) hkT (by omega) (by omega)⟩
    have hC2 : TC (s.setb b2) T n t := hC.ext x2 (by omega)
    have e1 : x = (if (tkL t n L0 j).2.2.1 = 59 then .inr ((4, a, b, c), C, j + 1) else .inl (1, j)) := e1
    by_cases cf : (tkL t n L0 j).2.2.1 = 59
    · have hs59 : sortS (byteF t n) (tkL t n L0 j) = 59 := (so_c j (c := 59) (v := 59) (by decide) (by decide +kernel) (by decide +kernel)).mpr cf
      rw [if_pos cf] at e1
      obtain ⟨nu4, hN4, w2⟩ := r_X3_want_t hC2 j (L0 := L0) (nu := nu3) (op := nI 0) (kd := 204) 59 hs59
      have hlen : nI cls.length + 1 = nI (cls ++ [((4, a, b, c) : Cl)]).length := by
        rw [nI_succ', List.length_append]
        rfl
      have hdo : dosL (cls ++ [((4, a, b, c) : Cl)]) 0 = dosL cls 0 ++ [(204, a, b, c, nI cls.length)] := by
        rw [dosL_app, if_neg (show ¬ (4 : Int32) ≤ 2 by decide), Nat.zero_add]
        rfl
      have hdn : (dosL (cls ++ [((4, a, b, c) : Cl)]) 0).length = (dosL cls 0).length + 1 := by
        rw [hdo, List.length_append]
        rfl
      have e3 : ∀ k, k < (512 + s.b.n) → (k < 512 ∨ lo ≤ k) → k ≠ X → k ≠ Dl → k ≠ E → (b2.set X (.inr (4, [ve, vl, vq, .int (nI cls.length + 1), .ref Dl]))).g k = s.b.g k := fun k hk hl hX h1 h2 => (set_go hX).trans (f2 k hk (by omega) h1 (Or.inl h2))
      have e32 : (b2.set X (.inr (4, [ve, vl, vq, .int (nI cls.length + 1), .ref Dl]))).g 2 = s.b.g 2 := (set_go (by omega)).trans (f2 2 (by omega) (by omega) (by omega) (Or.inr (by decide)))
      have sl : ∀ {β : Type} {Y : MethodName} {g : β → (Nat → Int32) → Value} {v : Value} {f : Option β}, SlotG Y g s.b lo X Dl E v f → SlotG Y g (b2.set X (.inr (4, [ve, vl, vq, .int (nI cls.length + 1), .ref Dl]))) lo X Dl E2 v f := fun h => h.by_ (by show s.b.n ≤ b2.n; omega) e3 (by omega) (by omega) e32
      have hD3 : ∀ k dd, (dosL (cls ++ [((4, a, b, c) : Cl)]) 0)[k]? = some dd → lo ≤ up dv (dosL cls 0).length (512 + s.b.n) k ∧ up dv (dosL cls 0).length (512 + s.b.n) k < 512 + b2.n ∧ (b2.set X (.inr (4, [ve, vl, vq, .int (nI cls.length + 1), .ref Dl]))).g (up dv (dosL cls 0).length (512 + s.b.n) k) = some (.inr (15, [.int dd.1, .int dd.2.1, .int dd.2.2.1, .int dd.2.2.2.1, .int dd.2.2.2.2])) := fun k dd hk => by
        rw [hdo] at hk
        by_cases hkl : k < (dosL cls 0).length
        · rw [List.getElem?_append_left hkl] at hk
          obtain ⟨p1, p2, p3⟩ := hD k dd hk
          rw [up_ne (by omega)]
          have nX : dv k ≠ X := fun q => by
            rw [q, gX] at p3
            exact absurd (show (4 : Nat) = 15 from congrArg Prod.fst (Sum.inr.inj (Option.some.inj p3))) (by decide)
          have nD : dv k ≠ Dl := fun q => by
            rw [q, Classical.choose_spec hA.2.2.1] at p3
            exact absurd (show (16 : Nat) = 15 from congrArg Prod.fst (Sum.inr.inj (Option.some.inj p3))) (by decide)
          have nE : dv k ≠ E := fun q => by
            rcases hA.2.2.2.2.2.2.2 with z | ⟨-, -, -, -, gg, z, -⟩
            · have := z.2
              omega
            · rw [q, z] at p3
              exact Sum.inl_ne_inr (Option.some.inj p3)
          exact ⟨p1, by omega, (e3 _ p2 (Or.inr p1) nX nD nE).trans p3⟩
        · have hkl2 := (List.getElem?_eq_some_iff.mp hk).1
          rw [List.length_append] at hkl2
          have hke : k = (dosL cls 0).length := by simp only [List.length_cons, List.length_nil] at hkl2; omega
          subst hke
          rw [List.getElem?_append_right (Nat.le_refl _), Nat.sub_self] at hk
          have hk2 := Option.some.inj hk
          subst hk2
          rw [up_eq]
          exact ⟨by omega, by omega, (set_go (by omega)).trans ((a3 (512 + s.b.n) (by show _ < 512 + (s.b.n + 1); omega) (by omega) (Or.inl (by omega))).trans gn)⟩
      have hA3 : AL (b2.set X (.inr (4, [ve, vl, vq, .int (nI cls.length + 1), .ref Dl]))) Dl E2 (dosL (cls ++ [((4, a, b, c) : Cl)]) 0).length i2 (fun k => .ref (up dv (dosL cls 0).length (512 + s.b.n) k)) := by
        have z := AL.cg a1 (g := fun k => .ref (up dv (dosL cls 0).length (512 + s.b.n) k)) (fun j hj => by unfold up; split <;> rfl)
        rw [hdn]
        refine z.by_ (Nat.le_refl _) (set_go (Ne.symm r5)) (Or.inr (set_go (by omega))) (fun k hk => ?_)
        obtain ⟨p1, p2, p3⟩ := hD3 k _ (List.getElem?_eq_getElem (by rw [hdn]; exact hk))
        exact hobj _ _ _ (by omega) p2 p3
      have ap : ∀ {β : Type} {P : Cd → β → Prop} {z : Int32} {o : Option β}, ¬ (4 : Int32) = z → lwOne P z cls C o → lwOne P z (cls ++ [((4, a, b, c) : Cl)]) C o := fun hz h => by
        have := h.app ((4, a, b, c) : Cl) [] hz
        rw [List.append_nil] at this
        exact this
      have hR3 : RdS (b2.set X (.inr (4, [ve, vl, vq, .int (nI cls.length + 1), .ref Dl]))) lo X Dl i2 (cls ++ [((4, a, b, c) : Cl)]) C L := ⟨E2, ve, vl, vq, up dv (dosL cls 0).length (512 + s.b.n), ⟨r1, r2, by show X < 512 + b2.n; omega, r4, r5, by omega, by omega⟩, by rw [← hlen]; exact set_g, hA3, hD3, ⟨sl s1, sl s2, sl s3⟩, ap (by decide) hl0, ap (by decide) hl1, ap (by decide) hl2⟩
      refine StQ.r e1 (by omega) (b2 := b2.set X (.inr (4, [ve, vl, vq, .int (nI cls.length + 1), .ref Dl]))) ⟨by show s.b.n ≤ b2.n; omega, by show b2.n ≤ _; omega, by show s.b.u ≤ b2.u; omega, by show b2.u + _ ≤ _; omega, fun k hk hkT => (set_go (by omega)).trans (x2.2.2.2.2 k hk hkT)⟩ hR3 hN4 (fun o h' kk => ?_)
      refine AW.aload_n dX3_read_12 rfl rfl ?_
      refine AW.get ci3 4 (by decide) q308 dX3_read_13 (gTk hT) rfl rfl ?_
      refine AW.sipush (v := 301) dX3_read_16 (by decide) rfl ?_
      refine AW.icmp_eq (tgt := 231) dX3_read_19 (by decide) rfl (fun c_ => by first | exact absurd c_ (show ¬ sortS (byteF t n) (tkL t n L0 i) = 301 by rw [hs]; decide) | exact absurd (show ¬ sortS (byteF t n) (tkL t n L0 i) = 301 by rw [hs]; decide) c_ | exact Bool.noConfusion (c_.symm.trans (show ¬ sortS (byteF t n) (tkL t n L0 i) = 301 by rw [hs]; decide))) (fun _ => ?_)
      refine AW.aload_n dX3_read_22 rfl rfl ?_
      refine AW.get ci3 4 (by decide) q308 dX3_read_23 (gTk hT) rfl rfl ?_
      refine AW.sipush (v := 200) dX3_read_26 (by decide) rfl ?_
      refine AW.icmp_lt (tgt := 42) dX3_read_29 (by decide) rfl (fun c_ => by first | exact absurd c_ (show ¬ sortS (byteF t n) (tkL t n L0 i) < 200 by rw [hs]; decide) | exact absurd (show ¬ sortS (byteF t n) (tkL t n L0 i) < 200 by rw [hs]; decide) c_ | exact Bool.noConfusion (c_.symm.trans (show ¬ sortS (byteF t n) (tkL t n L0 i) < 200 by rw [hs]; decide))) (fun _ => ?_)
      refine AW.aload_n dX3_read_32 rfl rfl ?_
      refine AW.get ci3 4 (by decide) q308 dX3_read_33 (gTk hT) rfl rfl ?_
      refine AW.sipush (v := 208) dX3_read_36 (by decide) rfl ?_
      refine AW.icmp_le (tgt := 48) dX3_read_39 (by decide) rfl (fun _ => ?_) (fun c_ => by first | exact absurd c_ (show sortS (byteF t n) (tkL t n L0 i) ≤ 208 by rw [hs]; decide) | exact absurd (show sortS (byteF t n) (tkL t n L0 i) ≤ 208 by rw [hs]; decide) c_ | exact absurd c_ (not_not_intro (show sortS (byteF t n) (tkL t n L0 i) ≤ 208 by rw [hs]; decide)) | exact Bool.noConfusion (c_.symm.trans (show sortS (byteF t n) (tkL t n L0 i) ≤ 208 by rw [hs]; decide)))
      refine AW.aload_n dX3_read_48 rfl rfl ?_
      refine AW.aload_n dX3_read_49 rfl rfl ?_
      refine AW.get ci3 4 (by decide) q308 dX3_read_50 (gTk hT) rfl rfl ?_
      refine AW.put ci3 7 (by decide) q311 dX3_read_53 (by omega) (gTk hT) rfl (fun _ => rfl) (fun _ => rfl) (Nat.le_of_ble_eq_true rfl) ((sTk7 hT).trans (congrArg (fun z => hp (Tk s T n t (tkL t n L0 i) nu (nI 0) z)) hs)) rfl ?_
      refine AW.aload_n dX3_read_56 rfl rfl ?_
      refine AW.get ci3 7 (by decide) q311 dX3_read_57 (gTk hT) rfl rfl ?_
      refine AW.sipush (v := 200) dX3_read_60 (by decide) rfl ?_
      refine AW.icmp_ne (tgt := 73) dX3_read_63 (by decide) rfl (fun _ => ?_) (fun c_ => by first | exact absurd c_ (show ¬ (204 : Int32) = 200 by decide) | exact absurd (show ¬ (204 : Int32) = 200 by decide) c_ | exact absurd c_ (not_not_intro (show ¬ (204 : Int32) = 200 by decide)) | exact Bool.noConfusion (c_.symm.trans (show ¬ (204 : Int32) = 200 by decide)))
      refine AW.aload_n dX3_read_73 rfl rfl ?_
      refine AW.get ci3 7 (by decide) q311 dX3_read_74 (gTk hT) rfl rfl ?_
      refine AW.sipush (v := 201) dX3_read_77 (by decide) rfl ?_
      refine AW.icmp_ne (tgt := 90) dX3_read_80 (by decide) rfl (fun _ => ?_) (fun c_ => by first | exact absurd c_ (show ¬ (204 : Int32) = 201 by decide) | exact absurd (show ¬ (204 : Int32) = 201 by decide) c_ | exact absurd c_ (not_not_intro (show ¬ (204 : Int32) = 201 by decide)) | exact Bool.noConfusion (c_.symm.trans (show ¬ (204 : Int32) = 201 by decide)))
      refine AW.aload_n dX3_read_90 rfl rfl ?_
      refine AW.get ci3 7 (by decide) q311 dX3_read_91 (gTk hT) rfl rfl ?_
      refine AW.sipush (v := 202) dX3_read_94 (by decide) rfl ?_
      refine AW.icmp_ne (tgt := 113) dX3_read_97 (by decide) rfl (fun _ => ?_) (fun c_ => by first | exact absurd c_ (show ¬ (204 : Int32) = 202 by decide) | exact absurd (show ¬ (204 : Int32) = 202 by decide) c_ | exact absurd c_ (not_not_intro (show ¬ (204 : Int32) = 202 by decide)) | exact Bool.noConfusion (c_.symm.trans (show ¬ (204 : Int32) = 202 by decide)))
      refine AW.aload_n dX3_read_113 rfl rfl ?_
      refine AW.getN ci4 3 (by decide) q371 dX3_read_114 (by first | exact ((hp_gb (nfx hX6)).trans ((Tk_g hXT).trans gX)) | exact ((hp_gb (nfx hX6)).trans ((Tk_g hXT).trans gX2)) | exact ((hp_gb (nfx hX6)).trans ((Tk_g hXT).trans gX3))) rfl rfl ?_
      refine AW.bipush (v := 24) dX3_read_117 (by decide) rfl ?_
      refine AW.icmp_ne (tgt := 129) dX3_read_119 (by decide) rfl (fun _ => ?_) (fun c_ => by first | exact absurd c_ h24 | exact absurd h24 c_ | exact absurd c_ (not_not_intro h24) | exact Bool.noConfusion (c_.symm.trans h24))
      refine AW.aload_n dX3_read_129 rfl rfl ?_
      refine AW.callV (Y := mX3_next) (n := 0) (w1) (by omega) (by decide) rfl (gTk hT) q386 q388 qs1 q142 q389 dX3_read_130 (by decide +kernel) rfl rfl (Nat.le_of_ble_eq_true rfl) rfl ?_
      refine AW.aload_n dX3_read_133 rfl rfl ?_
      refine AW.get ci3 7 (by decide) q311 dX3_read_134 (gTk hT) rfl rfl ?_
      refine AW.sipush (v := 200) dX3_read_137 (by decide) rfl ?_
      refine AW.icmp_ne (tgt := 154) dX3_read_140 (by decide) rfl (fun _ => ?_) (fun c_ => by first | exact absurd c_ (show ¬ (204 : Int32) = 200 by decide) | exact absurd (show ¬ (204 : Int32) = 200 by decide) c_ | exact absurd c_ (not_not_intro (show ¬ (204 : Int32) = 200 by decide)) | exact Bool.noConfusion (c_.symm.trans (show ¬ (204 : Int32) = 200 by decide)))
      refine AW.aload_n dX3_read_154 rfl rfl ?_
      refine AW.get ci3 7 (by decide) q311 dX3_read_155 (gTk hT) rfl rfl ?_
      refine AW.sipush (v := 201) dX3_read_158 (by decide) rfl ?_
      refine AW.icmp_ne (tgt := 175) dX3_read_161 (by decide) rfl (fun _ => ?_) (fun c_ => by first | exact absurd c_ (show ¬ (204 : Int32) = 201 by decide) | exact absurd (show ¬ (204 : Int32) = 201 by decide) c_ | exact absurd c_ (not_not_intro (show ¬ (204 : Int32) = 201 by decide)) | exact Bool.noConfusion (c_.symm.trans (show ¬ (204 : Int32) = 201 by decide)))
      refine AW.aload_n dX3_read_175 rfl rfl ?_
      refine AW.get ci3 7 (by decide) q311 dX3_read_176 (gTk hT) rfl rfl ?_
      refine AW.sipush (v := 202) dX3_read_179 (by decide) rfl ?_
      refine AW.icmp_ne (tgt := 196) dX3_read_182 (by decide) rfl (fun _ => ?_) (fun c_ => by first | exact absurd c_ (show ¬ (204 : Int32) = 202 by decide) | exact absurd (show ¬ (204 : Int32) = 202 by decide) c_ | exact absurd c_ (not_not_intro (show ¬ (204 : Int32) = 202 by decide)) | exact Bool.noConfusion (c_.symm.trans (show ¬ (204 : Int32) = 202 by decide)))
      refine AW.aload_n dX3_read_196 rfl rfl ?_
      refine AW.getN ci4 4 (by decide) q373 dX3_read_197 (by first | exact ((hp_gb (nfx hX6)).trans ((Tk_g hXT).trans gX)) | exact ((hp_gb (nfx hX6)).trans ((Tk_g hXT).trans gX2)) | exact ((hp_gb (nfx hX6)).trans ((Tk_g hXT).trans gX3))) rfl rfl ?_
      refine AW.aload_n dX3_read_200 rfl rfl ?_
      refine AW.aload_n dX3_read_201 rfl rfl ?_
      refine AW.getN ci4 3 (by decide) q371 dX3_read_202 (by first | exact ((hp_gb (nfx hX6)).trans ((Tk_g hXT).trans gX)) | exact ((hp_gb (nfx hX6)).trans ((Tk_g hXT).trans gX2)) | exact ((hp_gb (nfx hX6)).trans ((Tk_g hXT).trans gX3))) rfl rfl ?_
      refine AW.callV (Y := mX3_doing) (n := 1) (w9) (by omega) (by decide) rfl (gTk hT) q804 q806 qs21 q142 q807 dX3_read_205 (by decide +kernel) rfl rfl (Nat.le_of_ble_eq_true rfl) rfl ?_
      refine AW.callV (Y := mJ2_add) (n := 1) (w3) (by omega) (by decide) rfl gL1 q773 q648 q649 q146 q650 dX3_read_208 (by decide +kernel) rfl rfl (Nat.le_of_ble_eq_true rfl) rfl ?_
      refine AW.hp hb3 ?_
      refine AW.pop dX3_read_211 rfl rfl ?_
      refine AW.aload_n dX3_read_212 rfl rfl ?_
      refine AW.bipush (v := 59) dX3_read_213 (by decide) rfl ?_
      refine AW.callV (Y := mX3_want) (n := 1) (w2) (by omega) (by decide) rfl (gTk hT) q562 q564 qs11 q142 q565 dX3_read_215 (by decide +kernel) rfl rfl (Nat.le_of_ble_eq_true rfl) rfl ?_
      refine AW.aload_n dX3_read_218 rfl rfl ?_
      refine AW.dup dX3_read_219 rfl rfl ?_
      refine AW.getN ci4 3 (by decide) q371 dX3_read_220 (by first | exact ((hp_gb (nfx hX6)).trans ((Tk_g hXT).trans gX)) | exact ((hp_gb (nfx hX6)).trans ((Tk_g hXT).trans gX2)) | exact ((hp_gb (nfx hX6)).trans ((Tk_g hXT).trans gX3))) rfl rfl ?_
      refine AW.iconst (v := 1) dX3_read_223 (by decide) rfl ?_
      refine AW.iadd dX3_read_224 rfl ?_
      refine AW.putN ci4 3 (by decide) q371 dX3_read_225 (by omega) (by first | exact ((hp_gb (nfx hX6)).trans ((Tk_g hXT).trans gX)) | exact ((hp_gb (nfx hX6)).trans ((Tk_g hXT).trans gX2)) | exact ((hp_gb (nfx hX6)).trans ((Tk_g hXT).trans gX3))) rfl (fun _ => rfl) (fun _ => rfl) (Nat.le_of_ble_eq_true rfl) ((hp_set6 hX6).trans (tk_cm (s := s.setb b2) (Ne.symm hXT))) rfl ?_
      refine AW.goto (tgt := 12) dX3_read_228 (by decide) ?_
      exact kk
    · have hs59 : ¬ sortS (byteF t n) (tkL t n L0 j) = 59 := fun q => cf ((so_c j (c := 59) (v := 59) (by decide) (by decide +kernel) (by decide +kernel)).mp q)
      rw [if_neg cf] at e1
      have w2 := r_X3_want_f (s := s.setb b2) (n := n) (at_ := (tkL t n L0 j).1) (tk := (tkL t n L0 j).2.1) (nu := nu3) (op := nI 0) (kd := 204) hT (by show T < 512 + b2.n; omega) (by show 128 ≤ b2.n; omega) 59 hs59
      have q7 : EQ T n t L0 204 (512 + b2.n) 0 0 (s.setb b2) j 1 j _ := EQ.wr (s := s.setb b2) (L0 := L0) (nu := nu3) (op := nI 0) (Nat.le_refl _) 1
      have q8 : EQ T n t L0 204 lo 0 1000 s i 1 j _ := EQ.up q7 x2 (by omega) (by omega) (by omega) (by omega)
      refine StQ.l e1 q8 ?_
      refine AW.aload_n dX3_read_12 rfl rfl ?_
      refine AW.get ci3 4 (by decide) q308 dX3_read_13 (gTk hT) rfl rfl ?_
      refine AW.sipush (v := 301) dX3_read_16 (by decide) rfl ?_
      refine AW.icmp_eq (tgt := 231) dX3_read_19 (by decide) rfl (fun c_ => by first | exact absurd c_ (show ¬ sortS (byteF t n) (tkL t n L0 i) = 301 by rw [hs]; decide) | exact absurd (show ¬ sortS (byteF t n) (tkL t n L0 i) = 301 by rw [hs]; decide) c_ | exact Bool.noConfusion (c_.symm.trans (show ¬ sortS (byteF t n) (tkL t n L0 i) = 301 by rw [hs]; decide))) (fun _ => ?_)
      refine AW.aload_n dX3_read_22 rfl rfl ?_
      refine AW.get ci3 4 (by decide) q308 dX3_read_23 (gTk hT) rfl rfl ?_
      refine AW.sipush (v := 200) dX3_read_26 (by decide) rfl ?_
      refine AW.icmp_lt (tgt := 42) dX3_read_29 (by decide) rfl (fun c_ => by first | exact absurd c_ (show ¬ sortS (byteF t n) (tkL t n L0 i) < 200 by rw [hs]; decide) | exact absurd (show ¬ sortS (byteF t n) (tkL t n L0 i) < 200 by rw [hs]; decide) c_ | exact Bool.noConfusion (c_.symm.trans (show ¬ sortS (byteF t n) (tkL t n L0 i) < 200 by rw [hs]; decide))) (fun _ => ?_)
      refine AW.aload_n dX3_read_32 rfl rfl ?_
      refine AW.get ci3 4 (by decide) q308 dX3_read_33 (gTk hT) rfl rfl ?_
      refine AW.sipush (v := 208) dX3_read_36 (by decide) rfl ?_
      refine AW.icmp_le (tgt := 48) dX3_read_39 (by decide) rfl (fun _ => ?_) (fun c_ => by first | exact absurd c_ (show sortS (byteF t n) (tkL t n L0 i) ≤ 208 by rw [hs]; decide) | exact absurd (show sortS (byteF t n) (tkL t n L0 i) ≤ 208 by rw [hs]; decide) c_ | exact absurd c_ (not_not_intro (show sortS (byteF t n) (tkL t n L0 i) ≤ 208 by rw [hs]; decide)) | exact Bool.noConfusion (c_.symm.trans (show sortS (byteF t n) (tkL t n L0 i) ≤ 208 by rw [hs]; decide)))
      refine AW.aload_n dX3_read_48 rfl rfl ?_
      refine AW.aload_n dX3_read_49 rfl rfl ?_
      refine AW.get ci3 4 (by decide) q308 dX3_read_50 (gTk hT) rfl rfl ?_
      refine AW.put ci3 7 (by decide) q311 dX3_read_53 (by omega) (gTk hT) rfl (fun _ => rfl) (fun _ => rfl) (Nat.le_of_ble_eq_true rfl) ((sTk7 hT).trans (congrArg (fun z => hp (Tk s T n t (tkL t n L0 i) nu (nI 0) z)) hs)) rfl ?_
      refine AW.aload_n dX3_read_56 rfl rfl ?_
      refine AW.get ci3 7 (by decide) q311 dX3_read_57 (gTk hT) rfl rfl ?_
      refine AW.sipush (v := 200) dX3_read_60 (by decide) rfl ?_
      refine AW.icmp_ne (tgt := 73) dX3_read_63 (by decide) rfl (fun _ => ?_) (fun c_ => by first | exact absurd c_ (show ¬ (204 : Int32) = 200 by decide) | exact absurd (show ¬ (204 : Int32) = 200 by decide) c_ | exact absurd c_ (not_not_intro (show ¬ (204 : Int32) = 200 by decide)) | exact Bool.noConfusion (c_.symm.trans (show ¬ (204 : Int32) = 200 by decide)))
      refine AW.aload_n dX3_read_73 rfl rfl ?_
      refine AW.get ci3 7 (by decide) q311 dX3_read_74 (gTk hT) rfl rfl ?_
      refine AW.sipush (v := 201) dX3_read_77 (by decide) rfl ?_
      refine AW.icmp_ne (tgt := 90) dX3_read_80 (by decide) rfl (fun _ => ?_) (fun c_ => by first | exact absurd c_ (show ¬ (204 : Int32) = 201 by decide) | exact absurd (show ¬ (204 : Int32) = 201 by decide) c_ | exact absurd c_ (not_not_intro (show ¬ (204 : Int32) = 201 by decide)) | exact Bool.noConfusion (c_.symm.trans (show ¬ (204 : Int32) = 201 by decide)))
      refine AW.aload_n dX3_read_90 rfl rfl ?_
      refine AW.get ci3 7 (by decide) q311 dX3_read_91 (gTk hT) rfl rfl ?_
      refine AW.sipush (v := 202) dX3_read_94 (by decide) rfl ?_
      refine AW.icmp_ne (tgt := 113) dX3_read_97 (by decide) rfl (fun _ => ?_) (fun c_ => by first | exact absurd c_ (show ¬ (204 : Int32) = 202 by decide) | exact absurd (show ¬ (204 : Int32) = 202 by decide) c_ | exact absurd c_ (not_not_intro (show ¬ (204 : Int32) = 202 by decide)) | exact Bool.noConfusion (c_.symm.trans (show ¬ (204 : Int32) = 202 by decide)))
      refine AW.aload_n dX3_read_113 rfl rfl ?_
      refine AW.getN ci4 3 (by decide) q371 dX3_read_114 (by first | exact ((hp_gb (nfx hX6)).trans ((Tk_g hXT).trans gX)) | exact ((hp_gb (nfx hX6)).trans ((Tk_g hXT).trans gX2)) | exact ((hp_gb (nfx hX6)).trans ((Tk_g hXT).trans gX3))) rfl rfl ?_
      refine AW.bipush (v := 24) dX3_read_117 (by decide) rfl ?_
      refine AW.icmp_ne (tgt := 129) dX3_read_119 (by decide) rfl (fun _ => ?_) (fun c_ => by first | exact absurd c_ h24 | exact absurd h24 c_ | exact absurd c_ (not_not_intro h24) | exact Bool.noConfusion (c_.symm.trans h24))
      refine AW.aload_n dX3_read_129 rfl rfl ?_
      refine AW.callV (Y := mX3_next) (n := 0) (w1) (by omega) (by decide) rfl (gTk hT) q386 q388 qs1 q142 q389 dX3_read_130 (by decide +kernel) rfl rfl (Nat.le_of_ble_eq_true rfl) rfl ?_
      refine AW.aload_n dX3_read_133 rfl rfl ?_
      refine AW.get ci3 7 (by decide) q311 dX3_read_134 (gTk hT) rfl rfl ?_
      refine AW.sipush (v := 200) dX3_read_137 (by decide) rfl ?_
      refine AW.icmp_ne (tgt := 154) dX3_read_140 (by decide) rfl (fun _ => ?_) (fun c_ => by first | exact absurd c_ (show ¬ (204 : Int32) = 200 by decide) | exact absurd (show ¬ (204 : Int32) = 200 by decide) c_ | exact absurd c_ (not_not_intro (show ¬ (204 : Int32) = 200 by decide)) | exact Bool.noConfusion (c_.symm.trans (show ¬ (204 : Int32) = 200 by decide)))
      refine AW.aload_n dX3_read_154 rfl rfl ?_
      refine AW.get ci3 7 (by decide) q311 dX3_read_155 (gTk hT) rfl rfl ?_
      refine AW.sipush (v := 201) dX3_read_158 (by decide) rfl ?_
      refine AW.icmp_ne (tgt := 175) dX3_read_161 (by decide) rfl (fun _ => ?_) (fun c_ => by first | exact absurd c_ (show ¬ (204 : Int32) = 201 by decide) | exact absurd (show ¬ (204 : Int32) = 201 by decide) c_ | exact absurd c_ (not_not_intro (show ¬ (204 : Int32) = 201 by decide)) | exact Bool.noConfusion (c_.symm.trans (show ¬ (204 : Int32) = 201 by decide)))
      refine AW.aload_n dX3_read_175 rfl rfl ?_
      refine AW.get ci3 7 (by decide) q311 dX3_read_176 (gTk hT) rfl rfl ?_
      refine AW.sipush (v := 202) dX3_read_179 (by decide) rfl ?_
      refine AW.icmp_ne (tgt := 196) dX3_read_182 (by decide) rfl (fun _ => ?_) (fun c_ => by first | exact absurd c_ (show ¬ (204 : Int32) = 202 by decide) | exact absurd (show ¬ (204 : Int32) = 202 by decide) c_ | exact absurd c_ (not_not_intro (show ¬ (204 : Int32) = 202 by decide)) | exact Bool.noConfusion (c_.symm.trans (show ¬ (204 : Int32) = 202 by decide)))
      refine AW.aload_n dX3_read_196 rfl rfl ?_
      refine AW.getN ci4 4 (by decide) q373 dX3_read_197 (by first | exact ((hp_gb (nfx hX6)).trans ((Tk_g hXT).trans gX)) | exact ((hp_gb (nfx hX6)).trans ((Tk_g hXT).trans gX2)) | exact ((hp_gb (nfx hX6)).trans ((Tk_g hXT).trans gX3))) rfl rfl ?_
      refine AW.aload_n dX3_read_200 rfl rfl ?_
      refine AW.aload_n dX3_read_201 rfl rfl ?_
      refine AW.getN ci4 3 (by decide) q371 dX3_read_202 (by first | exact ((hp_gb (nfx hX6)).trans ((Tk_g hXT).trans gX)) | exact ((hp_gb (nfx hX6)).trans ((Tk_g hXT).trans gX2)) | exact ((hp_gb (nfx hX6)).trans ((Tk_g hXT).trans gX3))) rfl rfl ?_
      refine AW.callV (Y := mX3_doing) (n := 1) (w9) (by omega) (by decide) rfl (gTk hT) q804 q806 qs21 q142 q807 dX3_read_205 (by decide +kernel) rfl rfl (Nat.le_of_ble_eq_true rfl) rfl ?_
      refine AW.callV (Y := mJ2_add) (n := 1) (w3) (by omega) (by decide) rfl gL1 q773 q648 q649 q146 q650 dX3_read_208 (by decide +kernel) rfl rfl (Nat.le_of_ble_eq_true rfl) rfl ?_
      refine AW.hp hb3 ?_
      refine AW.pop dX3_read_211 rfl rfl ?_
      refine AW.aload_n dX3_read_212 rfl rfl ?_
      refine AW.bipush (v := 59) dX3_read_213 (by decide) rfl ?_
      exact AW.callVX (Y := mX3_want) (n := 1) (w2) (by decide) (by decide) rfl (gTk hT) q562 q564 qs11 q142 q565 dX3_read_215 (by decide +kernel) rfl rfl (Nat.le_of_ble_eq_true rfl) q332 rfl
theorem rc_5 {T n : Nat} {t : Nat → Int32} {L0 : Lq} {lo X Dl ix : Nat} {s : Sg} {i : Nat} {kd nu : Int32} {cls : List Cl} {C : Cd} {L : Lw} {x : CR} (hC : TC s T n t) (hTlo : T < lo) (hR : RdS s.b lo X Dl ix cls C L) (hs : sortS (byteF t n) (tkL t n L0 i) = 205) (h24_ : cls.length < 24) (e0 : x = semi (tkL t n L0) (clB (byteF t n) (tkL t n L0) 5 C (i + 1))) : StQ T n t L0 lo X Dl ix s i kd 205 nu cls x := by
  have hT := hC.1
  have hTb := hC.2.1
  have h300 := hC.2.2.2.1
  have hB := hC.2.2.2.2
  have hb := hB.1
  have h24 := nI_24 h24_
  obtain ⟨E, ve, vl, vq, dv, ⟨r1, r2, r3, r4, r5, r6, r7⟩, gX, hA, hD, ⟨s1, s2, s3⟩, hl0, hl1, hl2⟩ := hR
  have hX6 : 640 ≤ X := by omega
  have hXT : X ≠ T := by omega
  obtain ⟨nu2, hN2, w1⟩ := tk_next hC L0 i (nu := nu) (op := nI 0) (kd := 205)
  have e1 : x = semi (tkL t n L0) (match bodyR (byteF t n) (tkL t n L0) 5 (i + 1) with
      | .inl e => .inl e
      | .inr q => .inr ((5, q.1), C, q.2)) := by
    rw [e0]
    unfold clB
    rw [if_neg (by decide)]
    rfl
  obtain ⟨⟨o9, h9⟩, q9, w9⟩ := do_5 hC (L0 := L0) (i + 1) (nu := nu2) (op := nI 0) (nI cls.length) hN2
  cases hx : bodyR (byteF t n) (tkL t n L0) 5 (i + 1) with
  | inl e =>
    rw [hx] at q9 e1
    obtain ⟨r, j⟩ := e
    have q8 : EQ T n t L0 205 lo 0 1000 s i r j (o9, h9) := EQ.up (b1 := s.b) (show EQ T n t L0 205 (512 + s.b.n) 0 0 (s.setb s.b) (i + 1) r j (o9, h9) from q9) (ExT.refl T lo s.b) (by omega) (by omega) (by omega) (by omega)
    obtain ⟨-, q, b2, nu3, op3, -, -, qe⟩ := id q8
    obtain ⟨rfl, rfl⟩ := Prod.mk.inj qe
    refine StQ.l e1 q8 ?_
    refine AW.aload_n dX3_read_12 rfl rfl ?_
    refine AW.get ci3 4 (by decide) q308 dX3_read_13 (gTk hT) rfl rfl ?_
    refine AW.sipush (v := 301) dX3_read_16 (by decide) rfl ?_
    refine AW.icmp_eq (tgt := 231) dX3_read_19 (by decide) rfl (fun c_ => by first | exact absurd c_ (show ¬ sortS (byteF t n) (tkL t n L0 i) = 301 by rw [hs]; decide) | exact absurd (show ¬ sortS (byteF t n) (tkL t n L0 i) = 301 by rw [hs]; decide) c_ | exact Bool.noConfusion (c_.symm.trans (show ¬ sortS (byteF t n) (tkL t n L0 i) = 301 by rw [hs]; decide))) (fun _ => ?_)
    refine AW.aload_n dX3_read_22 rfl rfl ?_
    refine AW.get ci3 4 (by decide) q308 dX3_read_23 (gTk hT) rfl rfl ?_
    refine AW.sipush (v := 200) dX3_read_26 (by decide) rfl ?_
    refine AW.icmp_lt (tgt := 42) dX3_read_29 (by decide) rfl (fun c_ => by first | exact absurd c_ (show ¬ sortS (byteF t n) (tkL t n L0 i) < 200 by rw [hs]; decide) | exact absurd (show ¬ sortS (byteF t n) (tkL t n L0 i) < 200 by rw [hs]; decide) c_ | exact Bool.noConfusion (c_.symm.trans (show ¬ sortS (byteF t n) (tkL t n L0 i) < 200 by rw [hs]; decide))) (fun _ => ?_)
    refine AW.aload_n dX3_read_32 rfl rfl ?_
    refine AW.get ci3 4 (by decide) q308 dX3_read_33 (gTk hT) rfl rfl ?_
    refine AW.sipush (v := 208) dX3_read_36 (by decide) rfl ?_
    refine AW.icmp_le (tgt := 48) dX3_read_39 (by decide) rfl (fun _ => ?_) (fun c_ => by first | exact absurd c_ (show sortS (byteF t n) (tkL t n L0 i) ≤ 208 by rw [hs]; decide) | exact absurd (show sortS (byteF t n) (tkL t n L0 i) ≤ 208 by rw [hs]; decide) c_ | exact absurd c_ (not_not_intro (show sortS (byteF t n) (tkL t n L0 i) ≤ 208 by rw [hs]; decide)) | exact Bool.noConfusion (c_.symm.trans (show sortS (byteF t n) (tkL t n L0 i) ≤ 208 by rw [hs]; decide)))
    refine AW.aload_n dX3_read_48 rfl rfl ?_
    refine AW.aload_n dX3_read_49 rfl rfl ?_
    refine AW.get ci3 4 (by decide) q308 dX3_read_50 (gTk hT) rfl rfl ?_
    refine AW.put ci3 7 (by decide) q311 dX3_read_53 (by omega) (gTk hT) rfl (fun _ => rfl) (fun _ => rfl) (Nat.le_of_ble_eq_true rfl) ((sTk7 hT).trans (congrArg (fun z => hp (Tk s T n t (tkL t n L0 i) nu (nI 0) z)) hs)) rfl ?_
    refine AW.aload_n dX3_read_56 rfl rfl ?_
    refine AW.get ci3 7 (by decide) q311 dX3_read_57 (gTk hT) rfl rfl ?_
    refine AW.sipush (v := 200) dX3_read_60 (by decide) rfl ?_
    refine AW.icmp_ne (tgt := 73) dX3_read_63 (by decide) rfl (fun _ => ?_) (fun c_ => by first | exact absurd c_ (show ¬ (205 : Int32) = 200 by decide) | exact absurd (show ¬ (205 : Int32) = 200 by decide) c_ | exact absurd c_ (not_not_intro (show ¬ (205 : Int32) = 200 by decide)) | exact Bool.noConfusion (c_.symm.trans (show ¬ (205 : Int32) = 200 by decide)))
    refine AW.aload_n dX3_read_73 rfl rfl ?_
    refine AW.get ci3 7 (by decide) q311 dX3_read_74 (gTk hT) rfl rfl ?_
    refine AW.sipush (v := 201) dX3_read_77 (by decide) rfl ?_
    refine AW.icmp_ne (tgt := 90) dX3_read_80 (by decide) rfl (fun _ => ?_) (fun c_ => by first | exact absurd c_ (show ¬ (205 : Int32) = 201 by decide) | exact absurd (show ¬ (205 : Int32) = 201 by decide) c_ | exact absurd c_ (not_not_intro (show ¬ (205 : Int32) = 201 by decide)) | exact Bool.noConfusion (c_.symm.trans (show ¬ (205 : Int32) = 201 by decide)))
    refine AW.aload_n dX3_read_90 rfl rfl ?_
    refine AW.get ci3 7 (by decide) q311 dX3_read_91 (gTk hT) rfl rfl ?_
    refine AW.sipush (v := 202) dX3_read_94 (by decide) rfl ?_
    refine AW.icmp_ne (tgt := 113) dX3_read_97 (by decide) rfl (fun _ => ?_) (fun c_ => by first | exact absurd c_ (show ¬ (205 : Int32) = 202 by decide) | exact absurd (show ¬ (205 : Int32) = 202 by decide) c_ | exact absurd c_ (not_not_intro (show ¬ (205 : Int32) = 202 by decide)) | exact Bool.noConfusion (c_.symm.trans (show ¬ (205 : Int32) = 202 by decide)))
    refine AW.aload_n dX3_read_113 rfl rfl ?_
    refine AW.getN ci4 3 (by decide) q371 dX3_read_114 (by first | exact ((hp_gb (nfx hX6)).trans ((Tk_g hXT).trans gX)) | exact ((hp_gb (nfx hX6)).trans ((Tk_g hXT).trans gX2)) | exact ((hp_gb (nfx hX6)).trans ((Tk_g hXT).trans gX3))) rfl rfl ?_
    refine AW.bipush (v := 24) dX3_read_117 (by decide) rfl ?_
    refine AW.icmp_ne (tgt := 129) dX3_read_119 (by decide) rfl (fun _ => ?_) (fun c_ => by first | exact absurd c_ h24 | exact absurd h24 c_ | exact absurd c_ (not_not_intro h24) | exact Bool.noConfusion (c_.symm.trans h24))
    refine AW.aload_n dX3_read_129 rfl rfl ?_
    refine AW.callV (Y := mX3_next) (n := 0) (w1) (by omega) (by decide) rfl (gTk hT) q386 q388 qs1 q142 q389 dX3_read_130 (by decide +kernel) rfl rfl (Nat.le_of_ble_eq_true rfl) rfl ?_
    refine AW.aload_n dX3_read_133 rfl rfl ?_
    refine AW.get ci3 7 (by decide) q311 dX3_read_134 (gTk hT) rfl rfl ?_
    refine AW.sipush (v := 200) dX3_read_137 (by decide) rfl ?_
    refine AW.icmp_ne (tgt := 154) dX3_read_140 (by decide) rfl (fun _ => ?_) (fun c_ => by first | exact absurd c_ (show ¬ (205 : Int32) = 200 by decide) | exact absurd (show ¬ (205 : Int32) = 200 by decide) c_ | exact absurd c_ (not_not_intro (show ¬ (205 : Int32) = 200 by decide)) | exact Bool.noConfusion (c_.symm.trans (show ¬ (205 : Int32) = 200 by decide)))
    refine AW.aload_n dX3_read_154 rfl rfl ?_
    refine AW.get ci3 7 (by decide) q311 dX3_read_155 (gTk hT) rfl rfl ?_
    refine AW.sipush (v := 201) dX3_read_158 (by decide) rfl ?_
    refine AW.icmp_ne (tgt := 175) dX3_read_161 (by decide) rfl (fun _ => ?_) (fun c_ => by first | exact absurd c_ (show ¬ (205 : Int32) = 201 by decide) | exact absurd (show ¬ (205 : Int32) = 201 by decide) c_ | exact absurd c_ (not_not_intro (show ¬ (205 : Int32) = 201 by decide)) | exact Bool.noConfusion (c_.symm.trans (show ¬ (205 : Int32) = 201 by decide)))
    refine AW.aload_n dX3_read_175 rfl rfl ?_
    refine AW.get ci3 7 (by decide) q311 dX3_read_176 (gTk hT) rfl rfl ?_
    refine AW.sipush (v := 202) dX3_read_179 (by decide) rfl ?_
    refine AW.icmp_ne (tgt := 196) dX3_read_182 (by decide) rfl (fun _ => ?_) (fun c_ => by first | exact absurd c_ (show ¬ (205 : Int32) = 202 by decide) | exact absurd (show ¬ (205 : Int32) = 202 by decide) c_ | exact absurd c_ (not_not_intro (show ¬ (205 : Int32) = 202 by decide)) | exact Bool.noConfusion (c_.symm.trans (show ¬ (205 : Int32) = 202 by decide)))
    refine AW.aload_n dX3_read_196 rfl rfl ?_
    refine AW.getN ci4 4 (by decide) q373 dX3_read_197 (by first | exact ((hp_gb (nfx hX6)).trans ((Tk_g hXT).trans gX)) | exact ((hp_gb (nfx hX6)).trans ((Tk_g hXT).trans gX2)) | exact ((hp_gb (nfx hX6)).trans ((Tk_g hXT).trans gX3))) rfl rfl ?_
    refine AW.aload_n dX3_read_200 rfl rfl ?_
    refine AW.aload_n dX3_read_201 rfl rfl ?_
    refine AW.getN ci4 3 (by decide) q371 dX3_read_202 (by first | exact ((hp_gb (nfx hX6)).trans ((Tk_g hXT).trans gX)) | exact ((hp_gb (nfx hX6)).trans ((Tk_g hXT).trans gX2)) | exact ((hp_gb (nfx hX6)).trans ((Tk_g hXT).trans gX3))) rfl rfl ?_
    exact AW.callVX (Y := mX3_doing) (n := 1) (w9) (by decide) (by decide) rfl (gTk hT) q804 q806 qs21 q142 q807 dX3_read_205 (by decide +kernel) rfl rfl (Nat.le_of_ble_eq_true rfl) q332 rfl
  | inr e =>
    obtain ⟨⟨a, b, c⟩, j⟩ := e
    rw [hx] at q9 e1
    obtain ⟨j1, nu3, hN3, qe⟩ := q9
    obtain ⟨rfl, rfl⟩ := Prod.mk.inj qe
    have j1' : i + 1 + 1 ≤ j := j1
    have d := hA.D_
    have hET : E ≠ T := by rcases r7 with q | q <;> omega
    have hEl : E < (512 + s.b.n) := by rcases d.2.2.1 with q | q <;> omega
    have x1 : ExT T (512 + s.b.n) 1 5 s.b (s.b.push (.inr (15, [.int 205, .int a, .int b, .int c, .int (nI cls.length)])) 5) := ExT.push (Nat.le_refl _)
    have hC1 : TC (s.setb (s.b.push (.inr (15, [.int 205, .int a, .int b, .int c, .int (nI cls.length)])) 5)) T n t := hC.ext x1 (by omega)
    have g1 : ∀ k, k < (512 + s.b.n) → k ≠ T → (Tk (s.setb (s.b.push (.inr (15, [.int 205, .int a, .int b, .int c, .int (nI cls.length)])) 5)) T n t (tkL t n L0 j) nu3 (nI 0) 205).b.g k = s.b.g k := fun k hk hkT => (Tk_g hkT).trans (push_go (by omega))
    have gn : (Tk (s.setb (s.b.push (.inr (15, [.int 205, .int a, .int b, .int c, .int (nI cls.length)])) 5)) T n t (tkL t n L0 j) nu3 (nI 0) 205).b.g (512 + s.b.n) = some (.inr (15, [.int 205, .int a, .int b, .int c, .int (nI cls.length)])) := (Tk_g (by omega)).trans push_g
    have hobj : ∀ (b9 : AH) (z : Nat) (dd : Int32 × Int32 × Int32 × Int32 × Int32), 640 ≤ z → z < 512 + b9.n → b9.g z = some (.inr (15, [.int dd.1, .int dd.2.1, .int dd.2.2.1, .int dd.2.2.2.1, .int dd.2.2.2.2])) → ObjR b9 (.ref z) := fun b9 z dd h1 h2 h3 => ⟨z, 15, _, _, rfl, nfx h1, h2, h3, rfl, q2045⟩
    have hdT : ∀ k dd, (dosL cls 0)[k]? = some dd → dv k ≠ T := fun k dd hk => by have := (hD k dd hk).1; omega
    have hA1 : AL (Tk (s.setb (s.b.push (.inr (15, [.int 205, .int a, .int b, .int c, .int (nI cls.length)])) 5)) T n t (tkL t n L0 j) nu3 (nI 0) 205).b Dl E (dosL cls 0).length ix (fun k => .ref (dv k)) := hA.by_ (by show s.b.n ≤ s.b.n + 1; omega) (g1 Dl d.2.1 (by omega)) (Or.inr (g1 E hEl hET)) (fun k hk => by
      obtain ⟨a1, a2, a3⟩ := hD k _ (List.getElem?_eq_getElem hk)
      exact hobj _ _ _ (by omega) (by show _ < 512 + (s.b.n + 1); omega) ((g1 _ a2 (by omega)).trans a3))
    have hdl := dosL_len cls 0
    obtain ⟨_, ⟨b2, ⟨E2, i2, a1, a2, a3, a4, a5, a6, a7⟩, rfl⟩, w3⟩ := AL.add (s := (Tk (s.setb (s.b.push (.inr (15, [.int 205, .int a, .int b, .int c, .int (nI cls.length)])) 5)) T n t (tkL t n L0 j) nu3 (nI 0) 205)) (v := (512 + s.b.n)) hA1 hC1.bh (by omega) (hobj _ _ (205, a, b, c, nI cls.length) (by omega) (by show (512 + s.b.n) < 512 + (s.b.n + 1); omega) gn) (by omega) (by omega)
    have hb3 : hp ((Tk (s.setb (s.b.push (.inr (15, [.int 205, .int a, .int b, .int c, .int (nI cls.length)])) 5)) T n t (tkL t n L0 j) nu3 (nI 0) 205).setb b2) = hp (Tk (s.setb b2) T n t (tkL t n L0 j) nu3 (nI 0) 205) := Tk_in (s := s.setb (s.b.push (.inr (15, [.int 205, .int a, .int b, .int c, .int (nI cls.length)])) 5)) (a3 T (by show T < 512 + (s.b.n + 1); omega) (by omega) (Or.inl (Ne.symm hET)))
    have a4' : s.b.n + 1 ≤ b2.n := a4
    have a5' : b2.n ≤ s.b.n + 1 + 1 := a5
    have a6' : s.b.u + 5 ≤ b2.u := a6
    have a7' : b2.u + 4 * capN ix ≤ s.b.u + 5 + 4 * capN i2 := a7
    have a2' : E2 = E ∨ E2 = 512 + (s.b.n + 1) := a2
    have d2 := a1.D_
    have f2 : ∀ k, k < (512 + s.b.n) → k ≠ T → k ≠ Dl → (k ≠ E ∨ k < 640) → b2.g k = s.b.g k := fun k hk hkT h1 h2 => (a3 k (by show k < 512 + (s.b.n + 1); omega) h1 h2).trans (g1 k hk hkT)
    have gL1 : (hp (Tk (s.setb (s.b.push (.inr (15, [.int 205, .int a, .int b, .int c, .int (nI cls.length)])) 5)) T n t (tkL t n L0 j) nu3 (nI 0) 205)).g Dl = some (.inr (16, [.int (Classical.choose hA.2.2.1), .ref E, .int (nI (dosL cls 0).length)])) := (hp_gb (nfx (by omega))).trans ((g1 Dl d.2.1 (by omega)).trans (Classical.choose_spec hA.2.2.1))
    have gX2 : b2.g X = some (.inr (4, [ve, vl, vq, .int (nI cls.length), .ref Dl])) := (f2 X r3 hXT r5 (Or.inl r6)).trans gX
    have x2 : ExT T lo (b2.n - s.b.n) (b2.u - s.b.u) s.b b2 := ⟨by omega, by omega, by omega, by omega, fun k hk hkT => f2 k (by omega) hkT (by omega) (by omega)⟩
    have hC2 : TC (s.setb b2) T n t := hC.ext x2 (by omega)
    have e1 : x = (if (tkL t n L0 j).2.2.1 = 59 then .inr ((5, a, b, c), C, j + 1) else .inl (1, j)) := e1
    by_cases cf : (tkL t n L0 j).2.2.1 = 59
    · have hs59 : sortS (byteF t n) (tkL t n L0 j) = 59 := (so_c j (c := 59) (v := 59) (by decide) (by decide +kernel) (by decide +kernel)).mpr cf
      rw [if_pos cf] at e1
      obtain ⟨nu4, hN4, w2⟩ := r_X3_want_t hC2 j (L0 := L0) (nu := nu3) (op := nI 0) (kd := 205) 59 hs59
      have hlen : nI cls.length + 1 = nI (cls ++ [((5, a, b, c) : Cl)]).length := by
        rw [nI_succ', List.length_append]
        rfl
      have hdo : dosL (cls ++ [((5, a, b, c) : Cl)]) 0 = dosL cls 0 ++ [(205, a, b, c, nI cls.length)] := by
        rw [dosL_app, if_neg (show ¬ (5 : Int32) ≤ 2 by decide), Nat.zero_add]
        rfl
      have hdn : (dosL (cls ++ [((5, a, b, c) : Cl)]) 0).length = (dosL cls 0).length + 1 := by
        rw [hdo, List.length_append]
        rfl
      have e3 : ∀ k, k < (512 + s.b.n) → (k < 512 ∨ lo ≤ k) → k ≠ X → k ≠ Dl → k ≠ E → (b2.set X (.inr (4, [ve, vl, vq, .int (nI cls.length + 1), .ref Dl]))).g k = s.b.g k := fun k hk hl hX h1 h2 => (set_go hX).trans (f2 k hk (by omega) h1 (Or.inl h2))
      have e32 : (b2.set X (.inr (4, [ve, vl, vq, .int (nI cls.length + 1), .ref Dl]))).g 2 = s.b.g 2 := (set_go (by omega)).trans (f2 2 (by omega) (by omega) (by omega) (Or.inr (by decide)))
      have sl : ∀ {β : Type} {Y : MethodName} {g : β → (Nat → Int32) → Value} {v : Value} {f : Option β}, SlotG Y g s.b lo X Dl E v f → SlotG Y g (b2.set X (.inr (4, [ve, vl, vq, .int (nI cls.length + 1), .ref Dl]))) lo X Dl E2 v f := fun h => h.by_ (by show s.b.n ≤ b2.n; omega) e3 (by omega) (by omega) e32
      have hD3 : ∀ k dd, (dosL (cls ++ [((5, a, b, c) : Cl)]) 0)[k]? = some dd → lo ≤ up dv (dosL cls 0).length (512 + s.b.n) k ∧ up dv (dosL cls 0).length (512 + s.b.n) k < 512 + b2.n ∧ (b2.set X (.inr (4, [ve, vl, vq, .int (nI cls.length + 1), .ref Dl]))).g (up dv (dosL cls 0).length (512 + s.b.n) k) = some (.inr (15, [.int dd.1, .int dd.2.1, .int dd.2.2.1, .int dd.2.2.2.1, .int dd.2.2.2.2])) := fun k dd hk => by
        rw [hdo] at hk
        by_cases hkl : k < (dosL cls 0).length
        · rw [List.getElem?_append_left hkl] at hk
          obtain ⟨p1, p2, p3⟩ := hD k dd hk
          rw [up_ne (by omega)]
          have nX : dv k ≠ X := fun q => by
            rw [q, gX] at p3
            exact absurd (show (4 : Nat) = 15 from congrArg Prod.fst (Sum.inr.inj (Option.some.inj p3))) (by decide)
          have nD : dv k ≠ Dl := fun q => by
            rw [q, Classical.choose_spec hA.2.2.1] at p3
            exact absurd (show (16 : Nat) = 15 from congrArg Prod.fst (Sum.inr.inj (Option.some.inj p3))) (by decide)
          have nE : dv k ≠ E := fun q => by
            rcases hA.2.2.2.2.2.2.2 with z | ⟨-, -, -, -, gg, z, -⟩
            · have := z.2
              omega
            · rw [q, z] at p3
              exact Sum.inl_ne_inr (Option.some.inj p3)
          exact ⟨p1, by omega, (e3 _ p2 (Or.inr p1) nX nD nE).trans p3⟩
        · have hkl2 := (List.getElem?_eq_some_iff.mp hk).1
          rw [List.length_append] at hkl2
          have hke : k = (dosL cls 0).length := by simp only [List.length_cons, List.length_nil] at hkl2; omega
          subst hke
          rw [List.getElem?_append_right (Nat.le_refl _), Nat.sub_self] at hk
          have hk2 := Option.some.inj hk
          subst hk2
          rw [up_eq]
          exact ⟨by omega, by omega, (set_go (by omega)).trans ((a3 (512 + s.b.n) (by show _ < 512 + (s.b.n + 1); omega) (by omega) (Or.inl (by omega))).trans gn)⟩
      have hA3 : AL (b2.set X (.inr (4, [ve, vl, vq, .int (nI cls.length + 1), .ref Dl]))) Dl E2 (dosL (cls ++ [((5, a, b, c) : Cl)]) 0).length i2 (fun k => .ref (up dv (dosL cls 0).length (512 + s.b.n) k)) := by
        have z := AL.cg a1 (g := fun k => .ref (up dv (dosL cls 0).length (512 + s.b.n) k)) (fun j hj => by unfold up; split <;> rfl)
        rw [hdn]
        refine z.by_ (Nat.le_refl _) (set_go (Ne.symm r5)) (Or.inr (set_go (by omega))) (fun k hk => ?_)
        obtain ⟨p1, p2, p3⟩ := hD3 k _ (List.getElem?_eq_getElem (by rw [hdn]; exact hk))
        exact hobj _ _ _ (by omega) p2 p3
      have ap : ∀ {β : Type} {P : Cd → β → Prop} {z : Int32} {o : Option β}, ¬ (5 : Int32) = z → lwOne P z cls C o → lwOne P z (cls ++ [((5, a, b, c) : Cl)]) C o := fun hz h => by
        have := h.app ((5, a, b, c) : Cl) [] hz
        rw [List.append_nil] at this
        exact this
      have hR3 : RdS (b2.set X (.inr (4, [ve, vl, vq, .int (nI cls.length + 1), .ref Dl]))) lo X Dl i2 (cls ++ [((5, a, b, c) : Cl)]) C L := ⟨E2, ve, vl, vq, up dv (dosL cls 0).length (512 + s.b.n), ⟨r1, r2, by show X < 512 + b2.n; omega, r4, r5, by omega, by omega⟩, by rw [← hlen]; exact set_g, hA3, hD3, ⟨sl s1, sl s2, sl s3⟩, ap (by decide) hl0, ap (by decide) hl1, ap (by decide) hl2⟩
      refine StQ.r e1 (by omega) (b2 := b2.set X (.inr (4, [ve, vl, vq, .int (nI cls.length + 1), .ref Dl]))) ⟨by show s.b.n ≤ b2.n; omega, by show b2.n ≤ _; omega, by show s.b.u ≤ b2.u; omega, by show b2.u + _ ≤ _; omega, fun k hk hkT => (set_go (by omega)).trans (x2.2.2.2.2 k hk hkT)⟩ hR3 hN4 (fun o h' kk => ?_)
      refine AW.aload_n dX3_read_12 rfl rfl ?_
      refine AW.get ci3 4 (by decide) q308 dX3_read_13 (gTk hT) rfl rfl ?_
      refine AW.sipush (v := 301) dX3_read_16 (by decide) rfl ?_
      refine AW.icmp_eq (tgt := 231) dX3_read_19 (by decide) rfl (fun c_ => by first | exact absurd c_ (show ¬ sortS (byteF t n) (tkL t n L0 i) = 301 by rw [hs]; decide) | exact absurd (show ¬ sortS (byteF t n) (tkL t n L0 i) = 301 by rw [hs]; decide) c_ | exact Bool.noConfusion (c_.symm.trans (show ¬ sortS (byteF t n) (tkL t n L0 i) = 301 by rw [hs]; decide))) (fun _ => ?_)
      refine AW.aload_n dX3_read_22 rfl rfl ?_
      refine AW.get ci3 4 (by decide) q308 dX3_read_23 (gTk hT) rfl rfl ?_
      refine AW.sipush (v := 200) dX3_read_26 (by decide) rfl ?_
      refine AW.icmp_lt (tgt := 42) dX3_read_29 (by decide) rfl (fun c_ => by first | exact absurd c_ (show ¬ sortS (byteF t n) (tkL t n L0 i) < 200 by rw [hs]; decide) | exact absurd (show ¬ sortS (byteF t n) (tkL t n L0 i) < 200 by rw [hs]; decide) c_ | exact Bool.noConfusion (c_.symm.trans (show ¬ sortS (byteF t n) (tkL t n L0 i) < 200 by rw [hs]; decide))) (fun _ => ?_)
      refine AW.aload_n dX3_read_32 rfl rfl ?_
      refine AW.get ci3 4 (by decide) q308 dX3_read_33 (gTk hT) rfl rfl ?_
      refine AW.sipush (v := 208) dX3_read_36 (by decide) rfl ?_
      refine AW.icmp_le (tgt := 48) dX3_read_39 (by decide) rfl (fun _ => ?_) (fun c_ => by first | exact absurd c_ (show sortS (byteF t n) (tkL t n L0 i) ≤ 208 by rw [hs]; decide) | exact absurd (show sortS (byteF t n) (tkL t n L0 i) ≤ 208 by rw [hs]; decide) c_ | exact absurd c_ (not_not_intro (show sortS (byteF t n) (tkL t n L0 i) ≤ 208 by rw [hs]; decide)) | exact Bool.noConfusion (c_.symm.trans (show sortS (byteF t n) (tkL t n L0 i) ≤ 208 by rw [hs]; decide)))
      refine AW.aload_n dX3_read_48 rfl rfl ?_
      refine AW.aload_n dX3_read_49 rfl rfl ?_
      refine AW.get ci3 4 (by decide) q308 dX3_read_50 (gTk hT) rfl rfl ?_
      refine AW.put ci3 7 (by decide) q311 dX3_read_53 (by omega) (gTk hT) rfl (fun _ => rfl) (fun _ => rfl) (Nat.le_of_ble_eq_true rfl) ((sTk7 hT).trans (congrArg (fun z => hp (Tk s T n t (tkL t n L0 i) nu (nI 0) z)) hs)) rfl ?_
      refine AW.aload_n dX3_read_56 rfl rfl ?_
      refine AW.get ci3 7 (by decide) q311 dX3_read_57 (gTk hT) rfl rfl ?_
      refine AW.sipush (v := 200) dX3_read_60 (by decide) rfl ?_
      refine AW.icmp_ne (tgt := 73) dX3_read_63 (by decide) rfl (fun _ => ?_) (fun c_ => by first | exact absurd c_ (show ¬ (205 : Int32) = 200 by decide) | exact absurd (show ¬ (205 : Int32) = 200 by decide) c_ | exact absurd c_ (not_not_intro (show ¬ (205 : Int32) = 200 by decide)) | exact Bool.noConfusion (c_.symm.trans (show ¬ (205 : Int32) = 200 by decide)))
      refine AW.aload_n dX3_read_73 rfl rfl ?_
      refine AW.get ci3 7 (by decide) q311 dX3_read_74 (gTk hT) rfl rfl ?_
      refine AW.sipush (v := 201) dX3_read_77 (by decide) rfl ?_
      refine AW.icmp_ne (tgt := 90) dX3_read_80 (by decide) rfl (fun _ => ?_) (fun c_ => by first | exact absurd c_ (show ¬ (205 : Int32) = 201 by decide) | exact absurd (show ¬ (205 : Int32) = 201 by decide) c_ | exact absurd c_ (not_not_intro (show ¬ (205 : Int32) = 201 by decide)) | exact Bool.noConfusion (c_.symm.trans (show ¬ (205 : Int32) = 201 by decide)))
      refine AW.aload_n dX3_read_90 rfl rfl ?_
      refine AW.get ci3 7 (by decide) q311 dX3_read_91 (gTk hT) rfl rfl ?_
      refine AW.sipush (v := 202) dX3_read_94 (by decide) rfl ?_
      refine AW.icmp_ne (tgt := 113) dX3_read_97 (by decide) rfl (fun _ => ?_) (fun c_ => by first | exact absurd c_ (show ¬ (205 : Int32) = 202 by decide) | exact absurd (show ¬ (205 : Int32) = 202 by decide) c_ | exact absurd c_ (not_not_intro (show ¬ (205 : Int32) = 202 by decide)) | exact Bool.noConfusion (c_.symm.trans (show ¬ (205 : Int32) = 202 by decide)))
      refine AW.aload_n dX3_read_113 rfl rfl ?_
      refine AW.getN ci4 3 (by decide) q371 dX3_read_114 (by first | exact ((hp_gb (nfx hX6)).trans ((Tk_g hXT).trans gX)) | exact ((hp_gb (nfx hX6)).trans ((Tk_g hXT).trans gX2)) | exact ((hp_gb (nfx hX6)).trans ((Tk_g hXT).trans gX3))) rfl rfl ?_
      refine AW.bipush (v := 24) dX3_read_117 (by decide) rfl ?_
      refine AW.icmp_ne (tgt := 129) dX3_read_119 (by decide) rfl (fun _ => ?_) (fun c_ => by first | exact absurd c_ h24 | exact absurd h24 c_ | exact absurd c_ (not_not_intro h24) | exact Bool.noConfusion (c_.symm.trans h24))
      refine AW.aload_n dX3_read_129 rfl rfl ?_
      refine AW.callV (Y := mX3_next) (n := 0) (w1) (by omega) (by decide) rfl (gTk hT) q386 q388 qs1 q142 q389 dX3_read_130 (by decide +kernel) rfl rfl (Nat.le_of_ble_eq_true rfl) rfl ?_
      refine AW.aload_n dX3_read_133 rfl rfl ?_
      refine AW.get ci3 7 (by decide) q311 dX3_read_134 (gTk hT) rfl rfl ?_
      refine AW.sipush (v := 200) dX3_read_137 (by decide) rfl ?_
      refine AW.icmp_ne (tgt := 154) dX3_read_140 (by decide) rfl (fun _ => ?_) (fun c_ => by first | exact absurd c_ (show ¬ (205 : Int32) = 200 by decide) | exact absurd (show ¬ (205 : Int32) = 200 by decide) c_ | exact absurd c_ (not_not_intro (show ¬ (205 : Int32) = 200 by decide)) | exact Bool.noConfusion (c_.symm.trans (show ¬ (205 : Int32) = 200 by decide)))
      refine AW.aload_n dX3_read_154 rfl rfl ?_
      refine AW.get ci3 7 (by decide) q311 dX3_read_155 (gTk hT) rfl rfl ?_
      refine AW.sipush (v := 201) dX3_read_158 (by decide) rfl ?_
      refine AW.icmp_ne (tgt := 175) dX3_read_161 (by decide) rfl (fun _ => ?_) (fun c_ => by first | exact absurd c_ (show ¬ (205 : Int32) = 201 by decide) | exact absurd (show ¬ (205 : Int32) = 201 by decide) c_ | exact absurd c_ (not_not_intro (show ¬ (205 : Int32) = 201 by decide)) | exact Bool.noConfusion (c_.symm.trans (show ¬ (205 : Int32) = 201 by decide)))
      refine AW.aload_n dX3_read_175 rfl rfl ?_
      refine AW.get ci3 7 (by decide) q311 dX3_read_176 (gTk hT) rfl rfl ?_
      refine AW.sipush (v := 202) dX3_read_179 (by decide) rfl ?_
      refine AW.icmp_ne (tgt := 196) dX3_read_182 (by decide) rfl (fun _ => ?_) (fun c_ => by first | exact absurd c_ (show ¬ (205 : Int32) = 202 by decide) | exact absurd (show ¬ (205 : Int32) = 202 by decide) c_ | exact absurd c_ (not_not_intro (show ¬ (205 : Int32) = 202 by decide)) | exact Bool.noConfusion (c_.symm.trans (show ¬ (205 : Int32) = 202 by decide)))
      refine AW.aload_n dX3_read_196 rfl rfl ?_
      refine AW.getN ci4 4 (by decide) q373 dX3_read_197 (by first | exact ((hp_gb (nfx hX6)).trans ((Tk_g hXT).trans gX)) | exact ((hp_gb (nfx hX6)).trans ((Tk_g hXT).trans gX2)) | exact ((hp_gb (nfx hX6)).trans ((Tk_g hXT).trans gX3))) rfl rfl ?_
      refine AW.aload_n dX3_read_200 rfl rfl ?_
      refine AW.aload_n dX3_read_201 rfl rfl ?_
      refine AW.getN ci4 3 (by decide) q371 dX3_read_202 (by first | exact ((hp_gb (nfx hX6)).trans ((Tk_g hXT).trans gX)) | exact ((hp_gb (nfx hX6)).trans ((Tk_g hXT).trans gX2)) | exact ((hp_gb (nfx hX6)).trans ((Tk_g hXT).trans gX3))) rfl rfl ?_
      refine AW.callV (Y := mX3_doing) (n := 1) (w9) (by omega) (by decide) rfl (gTk hT) q804 q806 qs21 q142 q807 dX3_read_205 (by decide +kernel) rfl rfl (Nat.le_of_ble_eq_true rfl) rfl ?_
      refine AW.callV (Y := mJ2_add) (n := 1) (w3) (by omega) (by decide) rfl gL1 q773 q648 q649 q146 q650 dX3_read_208 (by decide +kernel) rfl rfl (Nat.le_of_ble_eq_true rfl) rfl ?_
      refine AW.hp hb3 ?_
      refine AW.pop dX3_read_211 rfl rfl ?_
      refine AW.aload_n dX3_read_212 rfl rfl ?_
      refine AW.bipush (v := 59) dX3_read_213 (by decide) rfl ?_
      refine AW.callV (Y := mX3_want) (n := 1) (w2) (by omega) (by decide) rfl (gTk hT) q562 q564 qs11 q142 q565 dX3_read_215 (by decide +kernel) rfl rfl (Nat.le_of_ble_eq_true rfl) rfl ?_
      refine AW.aload_n dX3_read_218 rfl rfl ?_
      refine AW.dup dX3_read_219 rfl rfl ?_
      refine AW.getN ci4 3 (by decide) q371 dX3_read_220 (by first | exact ((hp_gb (nfx hX6)).trans ((Tk_g hXT).trans gX)) | exact ((hp_gb (nfx hX6)).trans ((Tk_g hXT).trans gX2)) | exact ((hp_gb (nfx hX6)).trans ((Tk_g hXT).trans gX3))) rfl rfl ?_
      refine AW.iconst (v := 1) dX3_read_223 (by decide) rfl ?_
      refine AW.iadd dX3_read_224 rfl ?_
      refine AW.putN ci4 3 (by decide) q371 dX3_read_225 (by omega) (by first | exact ((hp_gb (nfx hX6)).trans ((Tk_g hXT).trans gX)) | exact ((hp_gb (nfx hX6)).trans ((Tk_g hXT).trans gX2)) | exact ((hp_gb (nfx hX6)).trans ((Tk_g hXT).trans gX3))) rfl (fun _ => rfl) (fun _ => rfl) (Nat.le_of_ble_eq_true rfl) ((hp_set6 hX6).trans (tk_cm (s := s.setb b2) (Ne.symm hXT))) rfl ?_
      refine AW.goto (tgt := 12) dX3_read_228 (by decide) ?_
      exact kk
    · have hs59 : ¬ sortS (byteF t n) (tkL t n L0 j) = 59 := fun q => cf ((so_c j (c := 59) (v := 59) (by decide) (by decide +kernel) (by decide +kernel)).mp q)
      rw [if_neg cf] at e1
      have w2 := r_X3_want_f (s := s.setb b2) (n := n) (at_ := (tkL t n L0 j).1) (tk := (tkL t n L0 j).2.1) (nu := nu3) (op := nI 0) (kd := 205) hT (by show T < 512 + b2.n; omega) (by show 128 ≤ b2.n; omega) 59 hs59
      have q7 : EQ T n t L0 205 (512 + b2.n) 0 0 (s.setb b2) j 1 j _ := EQ.wr (s := s.setb b2) (L0 := L0) (nu := nu3) (op := nI 0) (Nat.le_refl _) 1
      have q8 : EQ T n t L0 205 lo 0 1000 s i 1 j _ := EQ.up q7 x2 (by omega) (by omega) (by omega) (by omega)
      refine StQ.l e1 q8 ?_
      refine AW.aload_n dX3_read_12 rfl rfl ?_
      refine AW.get ci3 4 (by decide) q308 dX3_read_13 (gTk hT) rfl rfl ?_
      refine AW.sipush (v := 301) dX3_read_16 (by decide) rfl ?_
      refine AW.icmp_eq (tgt := 231) dX3_read_19 (by decide) rfl (fun c_ => by first | exact absurd c_ (show ¬ sortS (byteF t n) (tkL t n L0 i) = 301 by rw [hs]; decide) | exact absurd (show ¬ sortS (byteF t n) (tkL t n L0 i) = 301 by rw [hs]; decide) c_ | exact Bool.noConfusion (c_.symm.trans (show ¬ sortS (byteF t n) (tkL t n L0 i) = 301 by rw [hs]; decide))) (fun _ => ?_)
      refine AW.aload_n dX3_read_22 rfl rfl ?_
      refine AW.get ci3 4 (by decide) q308 dX3_read_23 (gTk hT) rfl rfl ?_
      refine AW.sipush (v := 200) dX3_read_26 (by decide) rfl ?_
      refine AW.icmp_lt (tgt := 42) dX3_read_29 (by decide) rfl (fun c_ => by first | exact absurd c_ (show ¬ sortS (byteF t n) (tkL t n L0 i) < 200 by rw [hs]; decide) | exact absurd (show ¬ sortS (byteF t n) (tkL t n L0 i) < 200 by rw [hs]; decide) c_ | exact Bool.noConfusion (c_.symm.trans (show ¬ sortS (byteF t n) (tkL t n L0 i) < 200 by rw [hs]; decide))) (fun _ => ?_)
      refine AW.aload_n dX3_read_32 rfl rfl ?_
      refine AW.get ci3 4 (by decide) q308 dX3_read_33 (gTk hT) rfl rfl ?_
      refine AW.sipush (v := 208) dX3_read_36 (by decide) rfl ?_
      refine AW.icmp_le (tgt := 48) dX3_read_39 (by decide) rfl (fun _ => ?_) (fun c_ => by first | exact absurd c_ (show sortS (byteF t n) (tkL t n L0 i) ≤ 208 by rw [hs]; decide) | exact absurd (show sortS (byteF t n) (tkL t n L0 i) ≤ 208 by rw [hs]; decide) c_ | exact absurd c_ (not_not_intro (show sortS (byteF t n) (tkL t n L0 i) ≤ 208 by rw [hs]; decide)) | exact Bool.noConfusion (c_.symm.trans (show sortS (byteF t n) (tkL t n L0 i) ≤ 208 by rw [hs]; decide)))
      refine AW.aload_n dX3_read_48 rfl rfl ?_
      refine AW.aload_n dX3_read_49 rfl rfl ?_
      refine AW.get ci3 4 (by decide) q308 dX3_read_50 (gTk hT) rfl rfl ?_
      refine AW.put ci3 7 (by decide) q311 dX3_read_53 (by omega) (gTk hT) rfl (fun _ => rfl) (fun _ => rfl) (Nat.le_of_ble_eq_true rfl) ((sTk7 hT).trans (congrArg (fun z => hp (Tk s T n t (tkL t n L0 i) nu (nI 0) z)) hs)) rfl ?_
      refine AW.aload_n dX3_read_56 rfl rfl ?_
      refine AW.get ci3 7 (by decide) q311 dX3_read_57 (gTk hT) rfl rfl ?_
      refine AW.sipush (v := 200) dX3_read_60 (by decide) rfl ?_
      refine AW.icmp_ne (tgt := 73) dX3_read_63 (by decide) rfl (fun _ => ?_) (fun c_ => by first | exact absurd c_ (show ¬ (205 : Int32) = 200 by decide) | exact absurd (show ¬ (205 : Int32) = 200 by decide) c_ | exact absurd c_ (not_not_intro (show ¬ (205 : Int32) = 200 by decide)) | exact Bool.noConfusion (c_.symm.trans (show ¬ (205 : Int32) = 200 by decide)))
      refine AW.aload_n dX3_read_73 rfl rfl ?_
      refine AW.get ci3 7 (by decide) q311 dX3_read_74 (gTk hT) rfl rfl ?_
      refine AW.sipush (v := 201) dX3_read_77 (by decide) rfl ?_
      refine AW.icmp_ne (tgt := 90) dX3_read_80 (by decide) rfl (fun _ => ?_) (fun c_ => by first | exact absurd c_ (show ¬ (205 : Int32) = 201 by decide) | exact absurd (show ¬ (205 : Int32) = 201 by decide) c_ | exact absurd c_ (not_not_intro (show ¬ (205 : Int32) = 201 by decide)) | exact Bool.noConfusion (c_.symm.trans (show ¬ (205 : Int32) = 201 by decide)))
      refine AW.aload_n dX3_read_90 rfl rfl ?_
      refine AW.get ci3 7 (by decide) q311 dX3_read_91 (gTk hT) rfl rfl ?_
      refine AW.sipush (v := 202) dX3_read_94 (by decide) rfl ?_
      refine AW.icmp_ne (tgt := 113) dX3_read_97 (by decide) rfl (fun _ => ?_) (fun c_ => by first | exact absurd c_ (show ¬ (205 : Int32) = 202 by decide) | exact absurd (show ¬ (205 : Int32) = 202 by decide) c_ | exact absurd c_ (not_not_intro (show ¬ (205 : Int32) = 202 by decide)) | exact Bool.noConfusion (c_.symm.trans (show ¬ (205 : Int32) = 202 by decide)))
      refine AW.aload_n dX3_read_113 rfl rfl ?_
      refine AW.getN ci4 3 (by decide) q371 dX3_read_114 (by first | exact ((hp_gb (nfx hX6)).trans ((Tk_g hXT).trans gX)) | exact ((hp_gb (nfx hX6)).trans ((Tk_g hXT).trans gX2)) | exact ((hp_gb (nfx hX6)).trans ((Tk_g hXT).trans gX3))) rfl rfl ?_
      refine AW.bipush (v := 24) dX3_read_117 (by decide) rfl ?_
      refine AW.icmp_ne (tgt := 129) dX3_read_119 (by decide) rfl (fun _ => ?_) (fun c_ => by first | exact absurd c_ h24 | exact absurd h24 c_ | exact absurd c_ (not_not_intro h24) | exact Bool.noConfusion (c_.symm.trans h24))
      refine AW.aload_n dX3_read_129 rfl rfl ?_
      refine AW.callV (Y := mX3_next) (n := 0) (w1) (by omega) (by decide) rfl (gTk hT) q386 q388 qs1 q142 q389 dX3_read_130 (by decide +kernel) rfl rfl (Nat.le_of_ble_eq_true rfl) rfl ?_
      refine AW.aload_n dX3_read_133 rfl rfl ?_
      refine AW.get ci3 7 (by decide) q311 dX3_read_134 (gTk hT) rfl rfl ?_
      refine AW.sipush (v := 200) dX3_read_137 (by decide) rfl ?_
      refine AW.icmp_ne (tgt := 154) dX3_read_140 (by decide) rfl (fun _ => ?_) (fun c_ => by first | exact absurd c_ (show ¬ (205 : Int32) = 200 by decide) | exact absurd (show ¬ (205 : Int32) = 200 by decide) c_ | exact absurd c_ (not_not_intro (show ¬ (205 : Int32) = 200 by decide)) | exact Bool.noConfusion (c_.symm.trans (show ¬ (205 : Int32) = 200 by decide)))
      refine AW.aload_n dX3_read_154 rfl rfl ?_
      refine AW.get ci3 7 (by decide) q311 dX3_read_155 (gTk hT) rfl rfl ?_
      refine AW.sipush (v := 201) dX3_read_158 (by decide) rfl ?_
      refine AW.icmp_ne (tgt := 175) dX3_read_161 (by decide) rfl (fun _ => ?_) (fun c_ => by first | exact absurd c_ (show ¬ (205 : Int32) = 201 by decide) | exact absurd (show ¬ (205 : Int32) = 201 by decide) c_ | exact absurd c_ (not_not_intro (show ¬ (205 : Int32) = 201 by decide)) | exact Bool.noConfusion (c_.symm.trans (show ¬ (205 : Int32) = 201 by decide)))
      refine AW.aload_n dX3_read_175 rfl rfl ?_
      refine AW.get ci3 7 (by decide) q311 dX3_read_176 (gTk hT) rfl rfl ?_
      refine AW.sipush (v := 202) dX3_read_179 (by decide) rfl ?_
      refine AW.icmp_ne (tgt := 196) dX3_read_182 (by decide) rfl (fun _ => ?_) (fun c_ => by first | exact absurd c_ (show ¬ (205 : Int32) = 202 by decide) | exact absurd (show ¬ (205 : Int32) = 202 by decide) c_ | exact absurd c_ (not_not_intro (show ¬ (205 : Int32) = 202 by decide)) | exact Bool.noConfusion (c_.symm.trans (show ¬ (205 : Int32) = 202 by decide)))
      refine AW.aload_n dX3_read_196 rfl rfl ?_
      refine AW.getN ci4 4 (by decide) q373 dX3_read_197 (by first | exact ((hp_gb (nfx hX6)).trans ((Tk_g hXT).trans gX)) | exact ((hp_gb (nfx hX6)).trans ((Tk_g hXT).trans gX2)) | exact ((hp_gb (nfx hX6)).trans ((Tk_g hXT).trans gX3))) rfl rfl ?_
      refine AW.aload_n dX3_read_200 rfl rfl ?_
      refine AW.aload_n dX3_read_201 rfl rfl ?_
      refine AW.getN ci4 3 (by decide) q371 dX3_read_202 (by first | exact ((hp_gb (nfx hX6)).trans ((Tk_g hXT).trans gX)) | exact ((hp_gb (nfx hX6)).trans ((Tk_g hXT).trans gX2)) | exact ((hp_gb (nfx hX6)).trans ((Tk_g hXT).trans gX3))) rfl rfl ?_
      refine AW.callV (Y := mX3_doing) (n := 1) (w9) (by omega) (by decide) rfl (gTk hT) q804 q806 qs21 q142 q807 dX3_read_205 (by decide +kernel) rfl rfl (Nat.le_of_ble_eq_true rfl) rfl ?_
      refine AW.callV (Y := mJ2_add) (n := 1) (w3) (by omega) (by decide) rfl gL1 q773 q648 q649 q146 q650 dX3_read_208 (by decide +kernel) rfl rfl (Nat.le_of_ble_eq_true rfl) rfl ?_
      refine AW.hp hb3 ?_
      refine AW.pop dX3_read_211 rfl rfl ?_
      refine AW.aload_n dX3_read_212 rfl rfl ?_
      refine AW.bipush (v := 59) dX3_read_213 (by decide) rfl ?_
      exact AW.callVX (Y := mX3_want) (n := 1) (w2) (by decide) (by decide) rfl (gTk hT) q562 q564 qs11 q142 q565 dX3_read_215 (by decide +kernel) rfl rfl (Nat.le_of_ble_eq_true rfl) q332 rfl
theorem rc_6 {T n : Nat} {t : Nat → Int32} {L0 : Lq} {lo X Dl ix : Nat} {s : Sg} {i : Nat} {kd nu : Int32} {cls : List Cl} {C : Cd} {L : Lw} {x : CR} (hC : TC s T n t) (hTlo : T < lo) (hR : RdS s.b lo X Dl ix cls C L) (hs : sortS (byteF t n) (tkL t n L0 i) = 206) (h24_ : cls.length < 24) (e0 : x = semi (tkL t n L0) (clB (byteF t n) (tkL t n L0) 6 C (i + 1))) : StQ T n t L0 lo X Dl ix s i kd 206 nu cls x := by
  have hT := hC.1
  have hTb := hC.2.1
  have h300 := hC.2.2.2.1
  have hB := hC.2.2.2.2
  have hb := hB.1
  have h24 := nI_24 h24_
  obtain ⟨E, ve, vl, vq, dv, ⟨r1, r2, r3, r4, r5, r6, r7⟩, gX, hA, hD, ⟨s1, s2, s3⟩, hl0, hl1, hl2⟩ := hR
  have hX6 : 640 ≤ X := by omega
  have hXT : X ≠ T := by omega
  obtain ⟨nu2, hN2, w1⟩ := tk_next hC L0 i (nu := nu) (op := nI 0) (kd := 206)
  have e1 : x = semi (tkL t n L0) (match bodyR (byteF t n) (tkL t n L0) 6 (i + 1) with
      | .inl e => .inl e
      | .inr q => .inr ((6, q.1), C, q.2)) := by
    rw [e0]
    unfold clB
    rw [if_neg (by decide)]
    rfl
  obtain ⟨⟨o9, h9⟩, q9, w9⟩ := do_6 hC (L0 := L0) (i + 1) (nu := nu2) (op := nI 0) (nI cls.length) hN2
  cases hx : bodyR (byteF t n) (tkL t n L0) 6 (i + 1) with
  | inl e =>
    rw [hx] at q9 e1
    obtain ⟨r, j⟩ := e
    have q8 : EQ T n t L0 206 lo 0 1000 s i r j (o9, h9) := EQ.up (b1 := s.b) (show EQ T n t L0 206 (512 + s.b.n) 0 0 (s.setb s.b) (i + 1) r j (o9, h9) from q9) (ExT.refl T lo s.b) (by omega) (by omega) (by omega) (by omega)
    obtain ⟨-, q, b2, nu3, op3, -, -, qe⟩ := id q8
    obtain ⟨rfl, rfl⟩ := Prod.mk.inj qe
    refine StQ.l e1 q8 ?_
    refine AW.aload_n dX3_read_12 rfl rfl ?_
    refine AW.get ci3 4 (by decide) q308 dX3_read_13 (gTk hT) rfl rfl ?_
    refine AW.sipush (v := 301) dX3_read_16 (by decide) rfl ?_
    refine AW.icmp_eq (tgt := 231) dX3_read_19 (by decide) rfl (fun c_ => by first | exact absurd c_ (show ¬ sortS (byteF t n) (tkL t n L0 i) = 301 by rw [hs]; decide) | exact absurd (show ¬ sortS (byteF t n) (tkL t n L0 i) = 301 by rw [hs]; decide) c_ | exact Bool.noConfusion (c_.symm.trans (show ¬ sortS (byteF t n) (tkL t n L0 i) = 301 by rw [hs]; decide))) (fun _ => ?_)
    refine AW.aload_n dX3_read_22 rfl rfl ?_
    refine AW.get ci3 4 (by decide) q308 dX3_read_23 (gTk hT) rfl rfl ?_
    refine AW.sipush (v := 200) dX3_read_26 (by decide) rfl ?_
    refine AW.icmp_lt (tgt := 42) dX3_read_29 (by decide) rfl (fun c_ => by first | exact absurd c_ (show ¬ sortS (byteF t n) (tkL t n L0 i) < 200 by rw [hs]; decide) | exact absurd (show ¬ sortS (byteF t n) (tkL t n L0 i) < 200 by rw [hs]; decide) c_ | exact Bool.noConfusion (c_.symm.trans (show ¬ sortS (byteF t n) (tkL t n L0 i) < 200 by rw [hs]; decide))) (fun _ => ?_)
    refine AW.aload_n dX3_read_32 rfl rfl ?_
    refine AW.get ci3 4 (by decide) q308 dX3_read_33 (gTk hT) rfl rfl ?_
    refine AW.sipush (v := 208) dX3_read_36 (by decide) rfl ?_
    refine AW.icmp_le (tgt := 48) dX3_read_39 (by decide) rfl (fun _ => ?_) (fun c_ => by first | exact absurd c_ (show sortS (byteF t n) (tkL t n L0 i) ≤ 208 by rw [hs]; decide) | exact absurd (show sortS (byteF t n) (tkL t n L0 i) ≤ 208 by rw [hs]; decide) c_ | exact absurd c_ (not_not_intro (show sortS (byteF t n) (tkL t n L0 i) ≤ 208 by rw [hs]; decide)) | exact Bool.noConfusion (c_.symm.trans (show sortS (byteF t n) (tkL t n L0 i) ≤ 208 by rw [hs]; decide)))
    refine AW.aload_n dX3_read_48 rfl rfl ?_
    refine AW.aload_n dX3_read_49 rfl rfl ?_
    refine AW.get ci3 4 (by decide) q308 dX3_read_50 (gTk hT) rfl rfl ?_
    refine AW.put ci3 7 (by decide) q311 dX3_read_53 (by omega) (gTk hT) rfl (fun _ => rfl) (fun _ => rfl) (Nat.le_of_ble_eq_true rfl) ((sTk7 hT).trans (congrArg (fun z => hp (Tk s T n t (tkL t n L0 i) nu (nI 0) z)) hs)) rfl ?_
    refine AW.aload_n dX3_read_56 rfl rfl ?_
    refine AW.get ci3 7 (by decide) q311 dX3_read_57 (gTk hT) rfl rfl ?_
    refine AW.sipush (v := 200) dX3_read_60 (by decide) rfl ?_
    refine AW.icmp_ne (tgt := 73) dX3_read_63 (by decide) rfl (fun _ => ?_) (fun c_ => by first | exact absurd c_ (show ¬ (206 : Int32) = 200 by decide) | exact absurd (show ¬ (206 : Int32) = 200 by decide) c_ | exact absurd c_ (not_not_intro (show ¬ (206 : Int32) = 200 by decide)) | exact Bool.noConfusion (c_.symm.trans (show ¬ (206 : Int32) = 200 by decide)))
    refine AW.aload_n dX3_read_73 rfl rfl ?_
    refine AW.get ci3 7 (by decide) q311 dX3_read_74 (gTk hT) rfl rfl ?_
    refine AW.sipush (v := 201) dX3_read_77 (by decide) rfl ?_
    refine AW.icmp_ne (tgt := 90) dX3_read_80 (by decide) rfl (fun _ => ?_) (fun c_ => by first | exact absurd c_ (show ¬ (206 : Int32) = 201 by decide) | exact absurd (show ¬ (206 : Int32) = 201 by decide) c_ | exact absurd c_ (not_not_intro (show ¬ (206 : Int32) = 201 by decide)) | exact Bool.noConfusion (c_.symm.trans (show ¬ (206 : Int32) = 201 by decide)))
    refine AW.aload_n dX3_read_90 rfl rfl ?_
    refine AW.get ci3 7 (by decide) q311 dX3_read_91 (gTk hT) rfl rfl ?_
    refine AW.sipush (v := 202) dX3_read_94 (by decide) rfl ?_
    refine AW.icmp_ne (tgt := 113) dX3_read_97 (by decide) rfl (fun _ => ?_) (fun c_ => by first | exact absurd c_ (show ¬ (206 : Int32) = 202 by decide) | exact absurd (show ¬ (206 : Int32) = 202 by decide) c_ | exact absurd c_ (not_not_intro (show ¬ (206 : Int32) = 202 by decide)) | exact Bool.noConfusion (c_.symm.trans (show ¬ (206 : Int32) = 202 by decide)))
    refine AW.aload_n dX3_read_113 rfl rfl ?_
    refine AW.getN ci4 3 (by decide) q371 dX3_read_114 (by first | exact ((hp_gb (nfx hX6)).trans ((Tk_g hXT).trans gX)) | exact ((hp_gb (nfx hX6)).trans ((Tk_g hXT).trans gX2)) | exact ((hp_gb (nfx hX6)).trans ((Tk_g hXT).trans gX3))) rfl rfl ?_
    refine AW.bipush (v := 24) dX3_read_117 (by decide) rfl ?_
    refine AW.icmp_ne (tgt := 129) dX3_read_119 (by decide) rfl (fun _ => ?_) (fun c_ => by first | exact absurd c_ h24 | exact absurd h24 c_ | exact absurd c_ (not_not_intro h24) | exact Bool.noConfusion (c_.symm.trans h24))
    refine AW.aload_n dX3_read_129 rfl rfl ?_
    refine AW.callV (Y := mX3_next) (n := 0) (w1) (by omega) (by decide) rfl (gTk hT) q386 q388 qs1 q142 q389 dX3_read_130 (by decide +kernel) rfl rfl (Nat.le_of_ble_eq_true rfl) rfl ?_
    refine AW.aload_n dX3_read_133 rfl rfl ?_
    refine AW.get ci3 7 (by decide) q311 dX3_read_134 (gTk hT) rfl rfl ?_
    refine AW.sipush (v := 200) dX3_read_137 (by decide) rfl ?_
    refine AW.icmp_ne (tgt := 154) dX3_read_140 (by decide) rfl (fun _ => ?_) (fun c_ => by first | exact absurd c_ (show ¬ (206 : Int32) = 200 by decide) | exact absurd (show ¬ (206 : Int32) = 200 by decide) c_ | exact absurd c_ (not_not_intro (show ¬ (206 : Int32) = 200 by decide)) | exact Bool.noConfusion (c_.symm.trans (show ¬ (206 : Int32) = 200 by decide)))
    refine AW.aload_n dX3_read_154 rfl rfl ?_
    refine AW.get ci3 7 (by decide) q311 dX3_read_155 (gTk hT) rfl rfl ?_
    refine AW.sipush (v := 201) dX3_read_158 (by decide) rfl ?_
    refine AW.icmp_ne (tgt := 175) dX3_read_161 (by decide) rfl (fun _ => ?_) (fun c_ => by first | exact absurd c_ (show ¬ (206 : Int32) = 201 by decide) | exact absurd (show ¬ (206 : Int32) = 201 by decide) c_ | exact absurd c_ (not_not_intro (show ¬ (206 : Int32) = 201 by decide)) | exact Bool.noConfusion (c_.symm.trans (show ¬ (206 : Int32) = 201 by decide)))
    refine AW.aload_n dX3_read_175 rfl rfl ?_
    refine AW.get ci3 7 (by decide) q311 dX3_read_176 (gTk hT) rfl rfl ?_
    refine AW.sipush (v := 202) dX3_read_179 (by decide) rfl ?_
    refine AW.icmp_ne (tgt := 196) dX3_read_182 (by decide) rfl (fun _ => ?_) (fun c_ => by first | exact absurd c_ (show ¬ (206 : Int32) = 202 by decide) | exact absurd (show ¬ (206 : Int32) = 202 by decide) c_ | exact absurd c_ (not_not_intro (show ¬ (206 : Int32) = 202 by decide)) | exact Bool.noConfusion (c_.symm.trans (show ¬ (206 : Int32) = 202 by decide)))
    refine AW.aload_n dX3_read_196 rfl rfl ?_
    refine AW.getN ci4 4 (by decide) q373 dX3_read_197 (by first | exact ((hp_gb (nfx hX6)).trans ((Tk_g hXT).trans gX)) | exact ((hp_gb (nfx hX6)).trans ((Tk_g hXT).trans gX2)) | exact ((hp_gb (nfx hX6)).trans ((Tk_g hXT).trans gX3))) rfl rfl ?_
    refine AW.aload_n dX3_read_200 rfl rfl ?_
    refine AW.aload_n dX3_read_201 rfl rfl ?_
    refine AW.getN ci4 3 (by decide) q371 dX3_read_202 (by first | exact ((hp_gb (nfx hX6)).trans ((Tk_g hXT).trans gX)) | exact ((hp_gb (nfx hX6)).trans ((Tk_g hXT).trans gX2)) | exact ((hp_gb (nfx hX6)).trans ((Tk_g hXT).trans gX3))) rfl rfl ?_
    exact AW.callVX (Y := mX3_doing) (n := 1) (w9) (by decide) (by decide) rfl (gTk hT) q804 q806 qs21 q142 q807 dX3_read_205 (by decide +kernel) rfl rfl (Nat.le_of_ble_eq_true rfl) q332 rfl
  | inr e =>
    obtain ⟨⟨a, b, c⟩, j⟩ := e
    rw [hx] at q9 e1
    obtain ⟨j1, nu3, hN3, qe⟩ := q9
    obtain ⟨rfl, rfl⟩ := Prod.mk.inj qe
    have j1' : i + 1 + 1 ≤ j := j1
    have d := hA.D_
    have hET : E ≠ T := by rcases r7 with q | q <;> omega
    have hEl : E < (512 + s.b.n) := by rcases d.2.2.1 with q | q <;> omega
    have x1 : ExT T (512 + s.b.n) 1 5 s.b (s.b.push (.inr (15, [.int 206, .int a, .int b, .int c, .int (nI cls.length)])) 5) := ExT.push (Nat.le_refl _)
    have hC1 : TC (s.setb (s.b.push (.inr (15, [.int 206, .int a, .int b, .int c, .int (nI cls.length)])) 5)) T n t := hC.ext x1 (by omega)
    have g1 : ∀ k, k < (512 + s.b.n) → k ≠ T → (Tk (s.setb (s.b.push (.inr (15, [.int 206, .int a, .int b, .int c, .int (nI cls.length)])) 5)) T n t (tkL t n L0 j) nu3 (nI 0) 206).b.g k = s.b.g k := fun k hk hkT => (Tk_g hkT).trans (push_go (by omega))
    have gn : (Tk (s.setb (s.b.push (.inr (15, [.int 206, .int a, .int b, .int c, .int (nI cls.length)])) 5)) T n t (tkL t n L0 j) nu3 (nI 0) 206).b.g (512 + s.b.n) = some (.inr (15, [.int 206, .int a, .int b, .int c, .int (nI cls.length)])) := (Tk_g (by omega)).trans push_g
    have hobj : ∀ (b9 : AH) (z : Nat) (dd : Int32 × Int32 × Int32 × Int32 × Int32), 640 ≤ z → z < 512 + b9.n → b9.g z = some (.inr (15, [.int dd.1, .int dd.2.1, .int dd.2.2.1, .int dd.2.2.2.1, .int dd.2.2.2.2])) → ObjR b9 (.ref z) := fun b9 z dd h1 h2 h3 => ⟨z, 15, _, _, rfl, nfx h1, h2, h3, rfl, q2045⟩
    have hdT : ∀ k dd, (dosL cls 0)[k]? = some dd → dv k ≠ T := fun k dd hk => by have := (hD k dd hk).1; omega
    have hA1 : AL (Tk (s.setb (s.b.push (.inr (15, [.int 206, .int a, .int b, .int c, .int (nI cls.length)])) 5)) T n t (tkL t n L0 j) nu3 (nI 0) 206).b Dl E (dosL cls 0).length ix (fun k => .ref (dv k)) := hA.by_ (by show s.b.n ≤ s.b.n + 1; omega) (g1 Dl d.2.1 (by omega)) (Or.inr (g1 E hEl hET)) (fun k hk => by
      obtain ⟨a1, a2, a3⟩ := hD k _ (List.getElem?_eq_getElem hk)
      exact hobj _ _ _ (by omega) (by show _ < 512 + (s.b.n + 1); omega) ((g1 _ a2 (by omega)).trans a3))
    have hdl := dosL_len cls 0
    obtain ⟨_, ⟨b2, ⟨E2, i2, a1, a2, a3, a4, a5, a6, a7⟩, rfl⟩, w3⟩ := AL.add (s := (Tk (s.setb (s.b.push (.inr (15, [.int 206, .int a, .int b, .int c, .int (nI cls.length)])) 5)) T n t (tkL t n L0 j) nu3 (nI 0) 206)) (v := (512 + s.b.n)) hA1 hC1.bh (by omega) (hobj _ _ (206, a, b, c, nI cls.length) (by omega) (by show (512 + s.b.n) < 512 + (s.b.n + 1); omega) gn) (by omega) (by omega)
    have hb3 : hp ((Tk (s.setb (s.b.push (.inr (15, [.int 206, .int a, .int b, .int c, .int (nI cls.length)])) 5)) T n t (tkL t n L0 j) nu3 (nI 0) 206).setb b2) = hp (Tk (s.setb b2) T n t (tkL t n L0 j) nu3 (nI 0) 206) := Tk_in (s := s.setb (s.b.push (.inr (15, [.int 206, .int a, .int b, .int c, .int (nI cls.length)])) 5)) (a3 T (by show T < 512 + (s.b.n + 1); omega) (by omega) (Or.inl (Ne.symm hET)))
    have a4' : s.b.n + 1 ≤ b2.n := a4
    have a5' : b2.n ≤ s.b.n + 1 + 1 := a5
    have a6' : s.b.u + 5 ≤ b2.u := a6
    have a7' : b2.u + 4 * capN ix ≤ s.b.u + 5 + 4 * capN i2 := a7
    have a2' : E2 = E ∨ E2 = 512 + (s.b.n + 1) := a2
    have d2 := a1.D_
    have f2 : ∀ k, k < (512 + s.b.n) → k ≠ T → k ≠ Dl → (k ≠ E ∨ k < 640) → b2.g k = s.b.g k := fun k hk hkT h1 h2 => (a3 k (by show k < 512 + (s.b.n + 1); omega) h1 h2).trans (g1 k hk hkT)
    have gL1 : (hp (Tk (s.setb (s.b.push (.inr (15, [.int 206, .int a, .int b, .int c, .int (nI cls.length)])) 5)) T n t (tkL t n L0 j) nu3 (nI 0) 206)).g Dl = some (.inr (16, [.int (Classical.choose hA.2.2.1), .ref E, .int (nI (dosL cls 0).length)])) := (hp_gb (nfx (by omega))).trans ((g1 Dl d.2.1 (by omega)).trans (Classical.choose_spec hA.2.2.1))
    have gX2 : b2.g X = some (.inr (4, [ve, vl, vq, .int (nI cls.length), .ref Dl])) := (f2 X r3 hXT r5 (Or.inl r6)).trans gX
    have x2 : ExT T lo (b2.n - s.b.n) (b2.u - s.b.u) s.b b2 := ⟨by omega, by omega, by omega, by omega, fun k hk hkT => f2 k (by omega) hkT (by omega) (by omega)⟩
    have hC2 : TC (s.setb b2) T n t := hC.ext x2 (by omega)
    have e1 : x = (if (tkL t n L0 j).2.2.1 = 59 then .inr ((6, a, b, c), C, j + 1) else .inl (1, j)) := e1
    by_cases cf : (tkL t n L0 j).2.2.1 = 59
    · have hs59 : sortS (byteF t n) (tkL t n L0 j) = 59 := (so_c j (c := 59) (v := 59) (by decide) (by decide +kernel) (by decide +kernel)).mpr cf
      rw [if_pos cf] at e1
      obtain ⟨nu4, hN4, w2⟩ := r_X3_want_t hC2 j (L0 := L0) (nu := nu3) (op := nI 0) (kd := 206) 59 hs59
      have hlen : nI cls.length + 1 = nI (cls ++ [((6, a, b, c) : Cl)]).length := by
        rw [nI_succ', List.length_append]
        rfl
      have hdo : dosL (cls ++ [((6, a, b, c) : Cl)]) 0 = dosL cls 0 ++ [(206, a, b, c, nI cls.length)] := by
        rw [dosL_app, if_neg (show ¬ (6 : Int32) ≤ 2 by decide), Nat.zero_add]
        rfl
      have hdn : (dosL (cls ++ [((6, a, b, c) : Cl)]) 0).length = (dosL cls 0).length + 1 := by
        rw [hdo, List.length_append]
        rfl
      have e3 : ∀ k, k < (512 + s.b.n) → (k < 512 ∨ lo ≤ k) → k ≠ X → k ≠ Dl → k ≠ E → (b2.set X (.inr (4, [ve, vl, vq, .int (nI cls.length + 1), .ref Dl]))).g k = s.b.g k := fun k hk hl hX h1 h2 => (set_go hX).trans (f2 k hk (by omega) h1 (Or.inl h2))
      have e32 : (b2.set X (.inr (4, [ve, vl, vq, .int (nI cls.length + 1), .ref Dl]))).g 2 = s.b.g 2 := (set_go (by omega)).trans (f2 2 (by omega) (by omega) (by omega) (Or.inr (by decide)))
      have sl : ∀ {β : Type} {Y : MethodName} {g : β → (Nat → Int32) → Value} {v : Value} {f : Option β}, SlotG Y g s.b lo X Dl E v f → SlotG Y g (b2.set X (.inr (4, [ve, vl, vq, .int (nI cls.length + 1), .ref Dl]))) lo X Dl E2 v f := fun h => h.by_ (by show s.b.n ≤ b2.n; omega) e3 (by omega) (by omega) e32
      have hD3 : ∀ k dd, (dosL (cls ++ [((6, a, b, c) : Cl)]) 0)[k]? = some dd → lo ≤ up dv (dosL cls 0).length (512 + s.b.n) k ∧ up dv (dosL cls 0).length (512 + s.b.n) k < 512 + b2.n ∧ (b2.set X (.inr (4, [ve, vl, vq, .int (nI cls.length + 1), .ref Dl]))).g (up dv (dosL cls 0).length (512 + s.b.n) k) = some (.inr (15, [.int dd.1, .int dd.2.1, .int dd.2.2.1, .int dd.2.2.2.1, .int dd.2.2.2.2])) := fun k dd hk => by
        rw [hdo] at hk
        by_cases hkl : k < (dosL cls 0).length
        · rw [List.getElem?_append_left hkl] at hk
          obtain ⟨p1, p2, p3⟩ := hD k dd hk
          rw [up_ne (by omega)]
          have nX : dv k ≠ X := fun q => by
            rw [q, gX] at p3
            exact absurd (show (4 : Nat) = 15 from congrArg Prod.fst (Sum.inr.inj (Option.some.inj p3))) (by decide)
          have nD : dv k ≠ Dl := fun q => by
            rw [q, Classical.choose_spec hA.2.2.1] at p3
            exact absurd (show (16 : Nat) = 15 from congrArg Prod.fst (Sum.inr.inj (Option.some.inj p3))) (by decide)
          have nE : dv k ≠ E := fun q => by
            rcases hA.2.2.2.2.2.2.2 with z | ⟨-, -, -, -, gg, z, -⟩
            · have := z.2
              omega
            · rw [q, z] at p3
              exact Sum.inl_ne_inr (Option.some.inj p3)
          exact ⟨p1, by omega, (e3 _ p2 (Or.inr p1) nX nD nE).trans p3⟩
        · have hkl2 := (List.getElem?_eq_some_iff.mp hk).1
          rw [List.length_append] at hkl2
          have hke : k = (dosL cls 0).length := by simp only [List.length_cons, List.length_nil] at hkl2; omega
          subst hke
          rw [List.getElem?_append_right (Nat.le_refl _), Nat.sub_self] at hk
          have hk2 := Option.some.inj hk
          subst hk2
          rw [up_eq]
          exact ⟨by omega, by omega, (set_go (by omega)).trans ((a3 (512 + s.b.n) (by show _ < 512 + (s.b.n + 1); omega) (by omega) (Or.inl (by omega))).trans gn)⟩
      have hA3 : AL (b2.set X (.inr (4, [ve, vl, vq, .int (nI cls.length + 1), .ref Dl]))) Dl E2 (dosL (cls ++ [((6, a, b, c) : Cl)]) 0).length i2 (fun k => .ref (up dv (dosL cls 0).length (512 + s.b.n) k)) := by
        have z := AL.cg a1 (g := fun k => .ref (up dv (dosL cls 0).length (512 + s.b.n) k)) (fun j hj => by unfold up; split <;> rfl)
        rw [hdn]
        refine z.by_ (Nat.le_refl _) (set_go (Ne.symm r5)) (Or.inr (set_go (by omega))) (fun k hk => ?_)
        obtain ⟨p1, p2, p3⟩ := hD3 k _ (List.getElem?_eq_getElem (by rw [hdn]; exact hk))
        exact hobj _ _ _ (by omega) p2 p3
      have ap : ∀ {β : Type} {P : Cd → β → Prop} {z : Int32} {o : Option β}, ¬ (6 : Int32) = z → lwOne P z cls C o → lwOne P z (cls ++ [((6, a, b, c) : Cl)]) C o := fun hz h => by
        have := h.app ((6, a, b, c) : Cl) [] hz
        rw [List.append_nil] at this
        exact this
      have hR3 : RdS (b2.set X (.inr (4, [ve, vl, vq, .int (nI cls.length + 1), .ref Dl]))) lo X Dl i2 (cls ++ [((6, a, b, c) : Cl)]) C L := ⟨E2, ve, vl, vq, up dv (dosL cls 0).length (512 + s.b.n), ⟨r1, r2, by show X < 512 + b2.n; omega, r4, r5, by omega, by omega⟩, by rw [← hlen]; exact set_g, hA3, hD3, ⟨sl s1, sl s2, sl s3⟩, ap (by decide) hl0, ap (by decide) hl1, ap (by decide) hl2⟩
      refine StQ.r e1 (by omega) (b2 := b2.set X (.inr (4, [ve, vl, vq, .int (nI cls.length + 1), .ref Dl]))) ⟨by show s.b.n ≤ b2.n; omega, by show b2.n ≤ _; omega, by show s.b.u ≤ b2.u; omega, by show b2.u + _ ≤ _; omega, fun k hk hkT => (set_go (by omega)).trans (x2.2.2.2.2 k hk hkT)⟩ hR3 hN4 (fun o h' kk => ?_)
      refine AW.aload_n dX3_read_12 rfl rfl ?_
      refine AW.get ci3 4 (by decide) q308 dX3_read_13 (gTk hT) rfl rfl ?_
      refine AW.sipush (v := 301) dX3_read_16 (by decide) rfl ?_
      refine AW.icmp_eq (tgt := 231) dX3_read_19 (by decide) rfl (fun c_ => by first | exact absurd c_ (show ¬ sortS (byteF t n) (tkL t n L0 i) = 301 by rw [hs]; decide) | exact absurd (show ¬ sortS (byteF t n) (tkL t n L0 i) = 301 by rw [hs]; decide) c_ | exact Bool.noConfusion (c_.symm.trans (show ¬ sortS (byteF t n) (tkL t n L0 i) = 301 by rw [hs]; decide))) (fun _ => ?_)
      refine AW.aload_n dX3_read_22 rfl rfl ?_
      refine AW.get ci3 4 (by decide) q308 dX3_read_23 (gTk hT) rfl rfl ?_
      refine AW.sipush (v := 200) dX3_read_26 (by decide) rfl ?_
      refine AW.icmp_lt (tgt := 42) dX3_read_29 (by decide) rfl (fun c_ => by first | exact absurd c_ (show ¬ sortS (byteF t n) (tkL t n L0 i) < 200 by rw [hs]; decide) | exact absurd (show ¬ sortS (byteF t n) (tkL t n L0 i) < 200 by rw [hs]; decide) c_ | exact Bool.noConfusion (c_.symm.trans (show ¬ sortS (byteF t n) (tkL t n L0 i) < 200 by rw [hs]; decide))) (fun _ => ?_)
      refine AW.aload_n dX3_read_32 rfl rfl ?_
      refine AW.get ci3 4 (by decide) q308 dX3_read_33 (gTk hT) rfl rfl ?_
      refine AW.sipush (v := 208) dX3_read_36 (by decide) rfl ?_
      refine AW.icmp_le (tgt := 48) dX3_read_39 (by decide) rfl (fun _ => ?_) (fun c_ => by first | exact absurd c_ (show sortS (byteF t n) (tkL t n L0 i) ≤ 208 by rw [hs]; decide) | exact absurd (show sortS (byteF t n) (tkL t n L0 i) ≤ 208 by rw [hs]; decide) c_ | exact absurd c_ (not_not_intro (show sortS (byteF t n) (tkL t n L0 i) ≤ 208 by rw [hs]; decide)) | exact Bool.noConfusion (c_.symm.trans (show sortS (byteF t n) (tkL t n L0 i) ≤ 208 by rw [hs]; decide)))
      refine AW.aload_n dX3_read_48 rfl rfl ?_
      refine AW.aload_n dX3_read_49 rfl rfl ?_
      refine AW.get ci3 4 (by decide) q308 dX3_read_50 (gTk hT) rfl rfl ?_
      refine AW.put ci3 7 (by decide) q311 dX3_read_53 (by omega) (gTk hT) rfl (fun _ => rfl) (fun _ => rfl) (Nat.le_of_ble_eq_true rfl) ((sTk7 hT).trans (congrArg (fun z => hp (Tk s T n t (tkL t n L0 i) nu (nI 0) z)) hs)) rfl ?_
      refine AW.aload_n dX3_read_56 rfl rfl ?_
      refine AW.get ci3 7 (by decide) q311 dX3_read_57 (gTk hT) rfl rfl ?_
      refine AW.sipush (v := 200) dX3_read_60 (by decide) rfl ?_
      refine AW.icmp_ne (tgt := 73) dX3_read_63 (by decide) rfl (fun _ => ?_) (fun c_ => by first | exact absurd c_ (show ¬ (206 : Int32) = 200 by decide) | exact absurd (show ¬ (206 : Int32) = 200 by decide) c_ | exact absurd c_ (not_not_intro (show ¬ (206 : Int32) = 200 by decide)) | exact Bool.noConfusion (c_.symm.trans (show ¬ (206 : Int32) = 200 by decide)))
      refine AW.aload_n dX3_read_73 rfl rfl ?_
      refine AW.get ci3 7 (by decide) q311 dX3_read_74 (gTk hT) rfl rfl ?_
      refine AW.sipush (v := 201) dX3_read_77 (by decide) rfl ?_
      refine AW.icmp_ne (tgt := 90) dX3_read_80 (by decide) rfl (fun _ => ?_) (fun c_ => by first | exact absurd c_ (show ¬ (206 : Int32) = 201 by decide) | exact absurd (show ¬ (206 : Int32) = 201 by decide) c_ | exact absurd c_ (not_not_intro (show ¬ (206 : Int32) = 201 by decide)) | exact Bool.noConfusion (c_.symm.trans (show ¬ (206 : Int32) = 201 by decide)))
      refine AW.aload_n dX3_read_90 rfl rfl ?_
      refine AW.get ci3 7 (by decide) q311 dX3_read_91 (gTk hT) rfl rfl ?_
      refine AW.sipush (v := 202) dX3_read_94 (by decide) rfl ?_
      refine AW.icmp_ne (tgt := 113) dX3_read_97 (by decide) rfl (fun _ => ?_) (fun c_ => by first | exact absurd c_ (show ¬ (206 : Int32) = 202 by decide) | exact absurd (show ¬ (206 : Int32) = 202 by decide) c_ | exact absurd c_ (not_not_intro (show ¬ (206 : Int32) = 202 by decide)) | exact Bool.noConfusion (c_.symm.trans (show ¬ (206 : Int32) = 202 by decide)))
      refine AW.aload_n dX3_read_113 rfl rfl ?_
      refine AW.getN ci4 3 (by decide) q371 dX3_read_114 (by first | exact ((hp_gb (nfx hX6)).trans ((Tk_g hXT).trans gX)) | exact ((hp_gb (nfx hX6)).trans ((Tk_g hXT).trans gX2)) | exact ((hp_gb (nfx hX6)).trans ((Tk_g hXT).trans gX3))) rfl rfl ?_
      refine AW.bipush (v := 24) dX3_read_117 (by decide) rfl ?_
      refine AW.icmp_ne (tgt := 129) dX3_read_119 (by decide) rfl (fun _ => ?_) (fun c_ => by first | exact absurd c_ h24 | exact absurd h24 c_ | exact absurd c_ (not_not_intro h24) | exact Bool.noConfusion (c_.symm.trans h24))
      refine AW.aload_n dX3_read_129 rfl rfl ?_
      refine AW.callV (Y := mX3_next) (n := 0) (w1) (by omega) (by decide) rfl (gTk hT) q386 q388 qs1 q142 q389 dX3_read_130 (by decide +kernel) rfl rfl (Nat.le_of_ble_eq_true rfl) rfl ?_
      refine AW.aload_n dX3_read_133 rfl rfl ?_
      refine AW.get ci3 7 (by decide) q311 dX3_read_134 (gTk hT) rfl rfl ?_
      refine AW.sipush (v := 200) dX3_read_137 (by decide) rfl ?_
      refine AW.icmp_ne (tgt := 154) dX3_read_140 (by decide) rfl (fun _ => ?_) (fun c_ => by first | exact absurd c_ (show ¬ (206 : Int32) = 200 by decide) | exact absurd (show ¬ (206 : Int32) = 200 by decide) c_ | exact absurd c_ (not_not_intro (show ¬ (206 : Int32) = 200 by decide)) | exact Bool.noConfusion (c_.symm.trans (show ¬ (206 : Int32) = 200 by decide)))
      refine AW.aload_n dX3_read_154 rfl rfl ?_
      refine AW.get ci3 7 (by decide) q311 dX3_read_155 (gTk hT) rfl rfl ?_
      refine AW.sipush (v := 201) dX3_read_158 (by decide) rfl ?_
      refine AW.icmp_ne (tgt := 175) dX3_read_161 (by decide) rfl (fun _ => ?_) (fun c_ => by first | exact absurd c_ (show ¬ (206 : Int32) = 201 by decide) | exact absurd (show ¬ (206 : Int32) = 201 by decide) c_ | exact absurd c_ (not_not_intro (show ¬ (206 : Int32) = 201 by decide)) | exact Bool.noConfusion (c_.symm.trans (show ¬ (206 : Int32) = 201 by decide)))
      refine AW.aload_n dX3_read_175 rfl rfl ?_
      refine AW.get ci3 7 (by decide) q311 dX3_read_176 (gTk hT) rfl rfl ?_
      refine AW.sipush (v := 202) dX3_read_179 (by decide) rfl ?_
      refine AW.icmp_ne (tgt := 196) dX3_read_182 (by decide) rfl (fun _ => ?_) (fun c_ => by first | exact absurd c_ (show ¬ (206 : Int32) = 202 by decide) | exact absurd (show ¬ (206 : Int32) = 202 by decide) c_ | exact absurd c_ (not_not_intro (show ¬ (206 : Int32) = 202 by decide)) | exact Bool.noConfusion (c_.symm.trans (show ¬ (206 : Int32) = 202 by decide)))
      refine AW.aload_n dX3_read_196 rfl rfl ?_
      refine AW.getN ci4 4 (by decide) q373 dX3_read_197 (by first | exact ((hp_gb (nfx hX6)).trans ((Tk_g hXT).trans gX)) | exact ((hp_gb (nfx hX6)).trans ((Tk_g hXT).trans gX2)) | exact ((hp_gb (nfx hX6)).trans ((Tk_g hXT).trans gX3))) rfl rfl ?_
      refine AW.aload_n dX3_read_200 rfl rfl ?_
      refine AW.aload_n dX3_read_201 rfl rfl ?_
      refine AW.getN ci4 3 (by decide) q371 dX3_read_202 (by first | exact ((hp_gb (nfx hX6)).trans ((Tk_g hXT).trans gX)) | exact ((hp_gb (nfx hX6)).trans ((Tk_g hXT).trans gX2)) | exact ((hp_gb (nfx hX6)).trans ((Tk_g hXT).trans gX3))) rfl rfl ?_
      refine AW.callV (Y := mX3_doing) (n := 1) (w9) (by omega) (by decide) rfl (gTk hT) q804 q806 qs21 q142 q807 dX3_read_205 (by decide +kernel) rfl rfl (Nat.le_of_ble_eq_true rfl) rfl ?_
      refine AW.callV (Y := mJ2_add) (n := 1) (w3) (by omega) (by decide) rfl gL1 q773 q648 q649 q146 q650 dX3_read_208 (by decide +kernel) rfl rfl (Nat.le_of_ble_eq_true rfl) rfl ?_
      refine AW.hp hb3 ?_
      refine AW.pop dX3_read_211 rfl rfl ?_
      refine AW.aload_n dX3_read_212 rfl rfl ?_
      refine AW.bipush (v := 59) dX3_read_213 (by decide) rfl ?_
      refine AW.callV (Y := mX3_want) (n := 1) (w2) (by omega) (by decide) rfl (gTk hT) q562 q564 qs11 q142 q565 dX3_read_215 (by decide +kernel) rfl rfl (Nat.le_of_ble_eq_true rfl) rfl ?_
      refine AW.aload_n dX3_read_218 rfl rfl ?_
      refine AW.dup dX3_read_219 rfl rfl ?_
      refine AW.getN ci4 3 (by decide) q371 dX3_read_220 (by first | exact ((hp_gb (nfx hX6)).trans ((Tk_g hXT).trans gX)) | exact ((hp_gb (nfx hX6)).trans ((Tk_g hXT).trans gX2)) | exact ((hp_gb (nfx hX6)).trans ((Tk_g hXT).trans gX3))) rfl rfl ?_
      refine AW.iconst (v := 1) dX3_read_223 (by decide) rfl ?_
      refine AW.iadd dX3_read_224 rfl ?_
      refine AW.putN ci4 3 (by decide) q371 dX3_read_225 (by omega) (by first | exact ((hp_gb (nfx hX6)).trans ((Tk_g hXT).trans gX)) | exact ((hp_gb (nfx hX6)).trans ((Tk_g hXT).trans gX2)) | exact ((hp_gb (nfx hX6)).trans ((Tk_g hXT).trans gX3))) rfl (fun _ => rfl) (fun _ => rfl) (Nat.le_of_ble_eq_true rfl) ((hp_set6 hX6).trans (tk_cm (s := s.setb b2) (Ne.symm hXT))) rfl ?_
      refine AW.goto (tgt := 12) dX3_read_228 (by decide) ?_
      exact kk
    · have hs59 : ¬ sortS (byteF t n) (tkL t n L0 j) = 59 := fun q => cf ((so_c j (c := 59) (v := 59) (by decide) (by decide +kernel) (by decide +kernel)).mp q)
      rw [if_neg cf] at e1
      have w2 := r_X3_want_f (s := s.setb b2) (n := n) (at_ := (tkL t n L0 j).1) (tk := (tkL t n L0 j).2.1) (nu := nu3) (op := nI 0) (kd := 206) hT (by show T < 512 + b2.n; omega) (by show 128 ≤ b2.n; omega) 59 hs59
      have q7 : EQ T n t L0 206 (512 + b2.n) 0 0 (s.setb b2) j 1 j _ := EQ.wr (s := s.setb b2) (L0 := L0) (nu := nu3) (op := nI 0) (Nat.le_refl _) 1
      have q8 : EQ T n t L0 206 lo 0 1000 s i 1 j _ := EQ.up q7 x2 (by omega) (by omega) (by omega) (by omega)
      refine StQ.l e1 q8 ?_
      refine AW.aload_n dX3_read_12 rfl rfl ?_
      refine AW.get ci3 4 (by decide) q308 dX3_read_13 (gTk hT) rfl rfl ?_
      refine AW.sipush (v := 301) dX3_read_16 (by decide) rfl ?_
      refine AW.icmp_eq (tgt := 231) dX3_read_19 (by decide) rfl (fun c_ => by first | exact absurd c_ (show ¬ sortS (byteF t n) (tkL t n L0 i) = 301 by rw [hs]; decide) | exact absurd (show ¬ sortS (byteF t n) (tkL t n L0 i) = 301 by rw [hs]; decide) c_ | exact Bool.noConfusion (c_.symm.trans (show ¬ sortS (byteF t n) (tkL t n L0 i) = 301 by rw [hs]; decide))) (fun _ => ?_)
      refine AW.aload_n dX3_read_22 rfl rfl ?_
      refine AW.get ci3 4 (by decide) q308 dX3_read_23 (gTk hT) rfl rfl ?_
      refine AW.sipush (v := 200) dX3_read_26 (by decide) rfl ?_
      refine AW.icmp_lt (tgt := 42) dX3_read_29 (by decide) rfl (fun c_ => by first | exact absurd c_ (show ¬ sortS (byteF t n) (tkL t n L0 i) < 200 by rw [hs]; decide) | exact absurd (show ¬ sortS (byteF t n) (tkL t n L0 i) < 200 by rw [hs]; decide) c_ | exact Bool.noConfusion (c_.symm.trans (show ¬ sortS (byteF t n) (tkL t n L0 i) < 200 by rw [hs]; decide))) (fun _ => ?_)
      refine AW.aload_n dX3_read_32 rfl rfl ?_
      refine AW.get ci3 4 (by decide) q308 dX3_read_33 (gTk hT) rfl rfl ?_
      refine AW.sipush (v := 208) dX3_read_36 (by decide) rfl ?_
      refine AW.icmp_le (tgt := 48) dX3_read_39 (by decide) rfl (fun _ => ?_) (fun c_ => by first | exact absurd c_ (show sortS (byteF t n) (tkL t n L0 i) ≤ 208 by rw [hs]; decide) | exact absurd (show sortS (byteF t n) (tkL t n L0 i) ≤ 208 by rw [hs]; decide) c_ | exact absurd c_ (not_not_intro (show sortS (byteF t n) (tkL t n L0 i) ≤ 208 by rw [hs]; decide)) | exact Bool.noConfusion (c_.symm.trans (show sortS (byteF t n) (tkL t n L0 i) ≤ 208 by rw [hs]; decide)))
      refine AW.aload_n dX3_read_48 rfl rfl ?_
      refine AW.aload_n dX3_read_49 rfl rfl ?_
      refine AW.get ci3 4 (by decide) q308 dX3_read_50 (gTk hT) rfl rfl ?_
      refine AW.put ci3 7 (by decide) q311 dX3_read_53 (by omega) (gTk hT) rfl (fun _ => rfl) (fun _ => rfl) (Nat.le_of_ble_eq_true rfl) ((sTk7 hT).trans (congrArg (fun z => hp (Tk s T n t (tkL t n L0 i) nu (nI 0) z)) hs)) rfl ?_
      refine AW.aload_n dX3_read_56 rfl rfl ?_
      refine AW.get ci3 7 (by decide) q311 dX3_read_57 (gTk hT) rfl rfl ?_
      refine AW.sipush (v := 200) dX3_read_60 (by decide) rfl ?_
      refine AW.icmp_ne (tgt := 73) dX3_read_63 (by decide) rfl (fun _ => ?_) (fun c_ => by first | exact absurd c_ (show ¬ (206 : Int32) = 200 by decide) | exact absurd (show ¬ (206 : Int32) = 200 by decide) c_ | exact absurd c_ (not_not_intro (show ¬ (206 : Int32) = 200 by decide)) | exact Bool.noConfusion (c_.symm.trans (show ¬ (206 : Int32) = 200 by decide)))
      refine AW.aload_n dX3_read_73 rfl rfl ?_
      refine AW.get ci3 7 (by decide) q311 dX3_read_74 (gTk hT) rfl rfl ?_
      refine AW.sipush (v := 201) dX3_read_77 (by decide) rfl ?_
      refine AW.icmp_ne (tgt := 90) dX3_read_80 (by decide) rfl (fun _ => ?_) (fun c_ => by first | exact absurd c_ (show ¬ (206 : Int32) = 201 by decide) | exact absurd (show ¬ (206 : Int32) = 201 by decide) c_ | exact absurd c_ (not_not_intro (show ¬ (206 : Int32) = 201 by decide)) | exact Bool.noConfusion (c_.symm.trans (show ¬ (206 : Int32) = 201 by decide)))
      refine AW.aload_n dX3_read_90 rfl rfl ?_
      refine AW.get ci3 7 (by decide) q311 dX3_read_91 (gTk hT) rfl rfl ?_
      refine AW.sipush (v := 202) dX3_read_94 (by decide) rfl ?_
      refine AW.icmp_ne (tgt := 113) dX3_read_97 (by decide) rfl (fun _ => ?_) (fun c_ => by first | exact absurd c_ (show ¬ (206 : Int32) = 202 by decide) | exact absurd (show ¬ (206 : Int32) = 202 by decide) c_ | exact absurd c_ (not_not_intro (show ¬ (206 : Int32) = 202 by decide)) | exact Bool.noConfusion (c_.symm.trans (show ¬ (206 : Int32) = 202 by decide)))
      refine AW.aload_n dX3_read_113 rfl rfl ?_
      refine AW.getN ci4 3 (by decide) q371 dX3_read_114 (by first | exact ((hp_gb (nfx hX6)).trans ((Tk_g hXT).trans gX)) | exact ((hp_gb (nfx hX6)).trans ((Tk_g hXT).trans gX2)) | exact ((hp_gb (nfx hX6)).trans ((Tk_g hXT).trans gX3))) rfl rfl ?_
      refine AW.bipush (v := 24) dX3_read_117 (by decide) rfl ?_
      refine AW.icmp_ne (tgt := 129) dX3_read_119 (by decide) rfl (fun _ => ?_) (fun c_ => by first | exact absurd c_ h24 | exact absurd h24 c_ | exact absurd c_ (not_not_intro h24) | exact Bool.noConfusion (c_.symm.trans h24))
      refine AW.aload_n dX3_read_129 rfl rfl ?_
      refine AW.callV (Y := mX3_next) (n := 0) (w1) (by omega) (by decide) rfl (gTk hT) q386 q388 qs1 q142 q389 dX3_read_130 (by decide +kernel) rfl rfl (Nat.le_of_ble_eq_true rfl) rfl ?_
      refine AW.aload_n dX3_read_133 rfl rfl ?_
      refine AW.get ci3 7 (by decide) q311 dX3_read_134 (gTk hT) rfl rfl ?_
      refine AW.sipush (v := 200) dX3_read_137 (by decide) rfl ?_
      refine AW.icmp_ne (tgt := 154) dX3_read_140 (by decide) rfl (fun _ => ?_) (fun c_ => by first | exact absurd c_ (show ¬ (206 : Int32) = 200 by decide) | exact absurd (show ¬ (206 : Int32) = 200 by decide) c_ | exact absurd c_ (not_not_intro (show ¬ (206 : Int32) = 200 by decide)) | exact Bool.noConfusion (c_.symm.trans (show ¬ (206 : Int32) = 200 by decide)))
      refine AW.aload_n dX3_read_154 rfl rfl ?_
      refine AW.get ci3 7 (by decide) q311 dX3_read_155 (gTk hT) rfl rfl ?_
      refine AW.sipush (v := 201) dX3_read_158 (by decide) rfl ?_
      refine AW.icmp_ne (tgt := 175) dX3_read_161 (by decide) rfl (fun _ => ?_) (fun c_ => by first | exact absurd c_ (show ¬ (206 : Int32) = 201 by decide) | exact absurd (show ¬ (206 : Int32) = 201 by decide) c_ | exact absurd c_ (not_not_intro (show ¬ (206 : Int32) = 201 by decide)) | exact Bool.noConfusion (c_.symm.trans (show ¬ (206 : Int32) = 201 by decide)))
      refine AW.aload_n dX3_read_175 rfl rfl ?_
      refine AW.get ci3 7 (by decide) q311 dX3_read_176 (gTk hT) rfl rfl ?_
      refine AW.sipush (v := 202) dX3_read_179 (by decide) rfl ?_
      refine AW.icmp_ne (tgt := 196) dX3_read_182 (by decide) rfl (fun _ => ?_) (fun c_ => by first | exact absurd c_ (show ¬ (206 : Int32) = 202 by decide) | exact absurd (show ¬ (206 : Int32) = 202 by decide) c_ | exact absurd c_ (not_not_intro (show ¬ (206 : Int32) = 202 by decide)) | exact Bool.noConfusion (c_.symm.trans (show ¬ (206 : Int32) = 202 by decide)))
      refine AW.aload_n dX3_read_196 rfl rfl ?_
      refine AW.getN ci4 4 (by decide) q373 dX3_read_197 (by first | exact ((hp_gb (nfx hX6)).trans ((Tk_g hXT).trans gX)) | exact ((hp_gb (nfx hX6)).trans ((Tk_g hXT).trans gX2)) | exact ((hp_gb (nfx hX6)).trans ((Tk_g hXT).trans gX3))) rfl rfl ?_
      refine AW.aload_n dX3_read_200 rfl rfl ?_
      refine AW.aload_n dX3_read_201 rfl rfl ?_
      refine AW.getN ci4 3 (by decide) q371 dX3_read_202 (by first | exact ((hp_gb (nfx hX6)).trans ((Tk_g hXT).trans gX)) | exact ((hp_gb (nfx hX6)).trans ((Tk_g hXT).trans gX2)) | exact ((hp_gb (nfx hX6)).trans ((Tk_g hXT).trans gX3))) rfl rfl ?_
      refine AW.callV (Y := mX3_doing) (n := 1) (w9) (by omega) (by decide) rfl (gTk hT) q804 q806 qs21 q142 q807 dX3_read_205 (by decide +kernel) rfl rfl (Nat.le_of_ble_eq_true rfl) rfl ?_
      refine AW.callV (Y := mJ2_add) (n := 1) (w3) (by omega) (by decide) rfl gL1 q773 q648 q649 q146 q650 dX3_read_208 (by decide +kernel) rfl rfl (Nat.le_of_ble_eq_true rfl) rfl ?_
      refine AW.hp hb3 ?_
      refine AW.pop dX3_read_211 rfl rfl ?_
      refine AW.aload_n dX3_read_212 rfl rfl ?_
      refine AW.bipush (v := 59) dX3_read_213 (by decide) rfl ?_
      exact AW.callVX (Y := mX3_want) (n := 1) (w2) (by decide) (by decide) rfl (gTk hT) q562 q564 qs11 q142 q565 dX3_read_215 (by decide +kernel) rfl rfl (Nat.le_of_ble_eq_true rfl) q332 rfl
theorem rc_7 {T n : Nat} {t : Nat → Int32} {L0 : Lq} {lo X Dl ix : Nat} {s : Sg} {i : Nat} {kd nu : Int32} {cls : List Cl} {C : Cd} {L : Lw} {x : CR} (hC : TC s T n t) (hTlo : T < lo) (hR : RdS s.b lo X Dl ix cls C L) (hs : sortS (byteF t n) (tkL t n L0 i) = 207) (h24_ : cls.length < 24) (e0 : x = semi (tkL t n L0) (clB (byteF t n) (tkL t n L0) 7 C (i + 1))) : StQ T n t L0 lo X Dl ix s i kd 207 nu cls x := by
  have hT := hC.1
  have hTb := hC.2.1
  have h300 := hC.2.2.2.1
  have hB := hC.2.2.2.2
  have hb := hB.1
  have h24 := nI_24 h24_
  obtain ⟨E, ve, vl, vq, dv, ⟨r1, r2, r3, r4, r5, r6, r7⟩, gX, hA, hD, ⟨s1, s2, s3⟩, hl0, hl1, hl2⟩ := hR
  have hX6 : 640 ≤ X := by omega
  have hXT : X ≠ T := by omega
  obtain ⟨nu2, hN2, w1⟩ := tk_next hC L0 i (nu := nu) (op := nI 0) (kd := 207)
  have e1 : x = semi (tkL t n L0) (match bodyR (byteF t n) (tkL t n L0) 7 (i + 1) with
      | .inl e => .inl e
      | .inr q => .inr ((7, q.1), C, q.2)) := by
    rw [e0]
    unfold clB
    rw [if_neg (by decide)]
    rfl
  obtain ⟨⟨o9, h9⟩, q9, w9⟩ := do_7 hC (L0 := L0) (i + 1) (nu := nu2) (op := nI 0) (nI cls.length) hN2
  cases hx : bodyR (byteF t n) (tkL t n L0) 7 (i + 1) with
  | inl e =>
    rw [hx] at q9 e1
    obtain ⟨r, j⟩ := e
    have q8 : EQ T n t L0 207 lo 0 1000 s i r j (o9, h9) := EQ.up (b1 := s.b) (show EQ T n t L0 207 (512 + s.b.n) 0 0 (s.setb s.b) (i + 1) r j (o9, h9) from q9) (ExT.refl T lo s.b) (by omega) (by omega) (by omega) (by omega)
    obtain ⟨-, q, b2, nu3, op3, -, -, qe⟩ := id q8
    obtain ⟨rfl, rfl⟩ := Prod.mk.inj qe
    refine StQ.l e1 q8 ?_
    refine AW.aload_n dX3_read_12 rfl rfl ?_
    refine AW.get ci3 4 (by decide) q308 dX3_read_13 (gTk hT) rfl rfl ?_
    refine AW.sipush (v := 301) dX3_read_16 (by decide) rfl ?_
    refine AW.icmp_eq (tgt := 231) dX3_read_19 (by decide) rfl (fun c_ => by first | exact absurd c_ (show ¬ sortS (byteF t n) (tkL t n L0 i) = 301 by rw [hs]; decide) | exact absurd (show ¬ sortS (byteF t n) (tkL t n L0 i) = 301 by rw [hs]; decide) c_ | exact Bool.noConfusion (c_.symm.trans (show ¬ sortS (byteF t n) (tkL t n L0 i) = 301 by rw [hs]; decide))) (fun _ => ?_)
    refine AW.aload_n dX3_read_22 rfl rfl ?_
    refine AW.get ci3 4 (by decide) q308 dX3_read_23 (gTk hT) rfl rfl ?_
    refine AW.sipush (v := 200) dX3_read_26 (by decide) rfl ?_
    refine AW.icmp_lt (tgt := 42) dX3_read_29 (by decide) rfl (fun c_ => by first | exact absurd c_ (show ¬ sortS (byteF t n) (tkL t n L0 i) < 200 by rw [hs]; decide) | exact absurd (show ¬ sortS (byteF t n) (tkL t n L0 i) < 200 by rw [hs]; decide) c_ | exact Bool.noConfusion (c_.symm.trans (show ¬ sortS (byteF t n) (tkL t n L0 i) < 200 by rw [hs]; decide))) (fun _ => ?_)
    refine AW.aload_n dX3_read_32 rfl rfl ?_
    refine AW.get ci3 4 (by decide) q308 dX3_read_33 (gTk hT) rfl rfl ?_
    refine AW.sipush (v := 208) dX3_read_36 (by decide) rfl ?_
    refine AW.icmp_le (tgt := 48) dX3_read_39 (by decide) rfl (fun _ => ?_) (fun c_ => by first | exact absurd c_ (show sortS (byteF t n) (tkL t n L0 i) ≤ 208 by rw [hs]; decide) | exact absurd (show sortS (byteF t n) (tkL t n L0 i) ≤ 208 by rw [hs]; decide) c_ | exact absurd c_ (not_not_intro (show sortS (byteF t n) (tkL t n L0 i) ≤ 208 by rw [hs]; decide)) | exact Bool.noConfusion (c_.symm.trans (show sortS (byteF t n) (tkL t n L0 i) ≤ 208 by rw [hs]; decide)))
    refine AW.aload_n dX3_read_48 rfl rfl ?_
    refine AW.aload_n dX3_read_49 rfl rfl ?_
    refine AW.get ci3 4 (by decide) q308 dX3_read_50 (gTk hT) rfl rfl ?_
    refine AW.put ci3 7 (by decide) q311 dX3_read_53 (by omega) (gTk hT) rfl (fun _ => rfl) (fun _ => rfl) (Nat.le_of_ble_eq_true rfl) ((sTk7 hT).trans (congrArg (fun z => hp (Tk s T n t (tkL t n L0 i) nu (nI 0) z)) hs)) rfl ?_
    refine AW.aload_n dX3_read_56 rfl rfl ?_
    refine AW.get ci3 7 (by decide) q311 dX3_read_57 (gTk hT) rfl rfl ?_
    refine AW.sipush (v := 200) dX3_read_60 (by decide) rfl ?_
    refine AW.icmp_ne (tgt := 73) dX3_read_63 (by decide) rfl (fun _ => ?_) (fun c_ => by first | exact absurd c_ (show ¬ (207 : Int32) = 200 by decide) | exact absurd (show ¬ (207 : Int32) = 200 by decide) c_ | exact absurd c_ (not_not_intro (show ¬ (207 : Int32) = 200 by decide)) | exact Bool.noConfusion (c_.symm.trans (show ¬ (207 : Int32) = 200 by decide)))
    refine AW.aload_n dX3_read_73 rfl rfl ?_
    refine AW.get ci3 7 (by decide) q311 dX3_read_74 (gTk hT) rfl rfl ?_
    refine AW.sipush (v := 201) dX3_read_77 (by decide) rfl ?_
    refine AW.icmp_ne (tgt := 90) dX3_read_80 (by decide) rfl (fun _ => ?_) (fun c_ => by first | exact absurd c_ (show ¬ (207 : Int32) = 201 by decide) | exact absurd (show ¬ (207 : Int32) = 201 by decide) c_ | exact absurd c_ (not_not_intro (show ¬ (207 : Int32) = 201 by decide)) | exact Bool.noConfusion (c_.symm.trans (show ¬ (207 : Int32) = 201 by decide)))
    refine AW.aload_n dX3_read_90 rfl rfl ?_
    refine AW.get ci3 7 (by decide) q311 dX3_read_91 (gTk hT) rfl rfl ?_
    refine AW.sipush (v := 202) dX3_read_94 (by decide) rfl ?_
    refine AW.icmp_ne (tgt := 113) dX3_read_97 (by decide) rfl (fun _ => ?_) (fun c_ => by first | exact absurd c_ (show ¬ (207 : Int32) = 202 by decide) | exact absurd (show ¬ (207 : Int32) = 202 by decide) c_ | exact absurd c_ (not_not_intro (show ¬ (207 : Int32) = 202 by decide)) | exact Bool.noConfusion (c_.symm.trans (show ¬ (207 : Int32) = 202 by decide)))
    refine AW.aload_n dX3_read_113 rfl rfl ?_
    refine AW.getN ci4 3 (by decide) q371 dX3_read_114 (by first | exact ((hp_gb (nfx hX6)).trans ((Tk_g hXT).trans gX)) | exact ((hp_gb (nfx hX6)).trans ((Tk_g hXT).trans gX2)) | exact ((hp_gb (nfx hX6)).trans ((Tk_g hXT).trans gX3))) rfl rfl ?_
    refine AW.bipush (v := 24) dX3_read_117 (by decide) rfl ?_
    refine AW.icmp_ne (tgt := 129) dX3_read_119 (by decide) rfl (fun _ => ?_) (fun c_ => by first | exact absurd c_ h24 | exact absurd h24 c_ | exact absurd c_ (not_not_intro h24) | exact Bool.noConfusion (c_.symm.trans h24))
    refine AW.aload_n dX3_read_129 rfl rfl ?_
    refine AW.callV (Y := mX3_next) (n := 0) (w1) (by omega) (by decide) rfl (gTk hT) q386 q388 qs1 q142 q389 dX3_read_130 (by decide +kernel) rfl rfl (Nat.le_of_ble_eq_true rfl) rfl ?_
    refine AW.aload_n dX3_read_133 rfl rfl ?_
    refine AW.get ci3 7 (by decide) q311 dX3_read_134 (gTk hT) rfl rfl ?_
    refine AW.sipush (v := 200) dX3_read_137 (by decide) rfl ?_
    refine AW.icmp_ne (tgt := 154) dX3_read_140 (by decide) rfl (fun _ => ?_) (fun c_ => by first | exact absurd c_ (show ¬ (207 : Int32) = 200 by decide) | exact absurd (show ¬ (207 : Int32) = 200 by decide) c_ | exact absurd c_ (not_not_intro (show ¬ (207 : Int32) = 200 by decide)) | exact Bool.noConfusion (c_.symm.trans (show ¬ (207 : Int32) = 200 by decide)))
    refine AW.aload_n dX3_read_154 rfl rfl ?_
    refine AW.get ci3 7 (by decide) q311 dX3_read_155 (gTk hT) rfl rfl ?_
    refine AW.sipush (v := 201) dX3_read_158 (by decide) rfl ?_
    refine AW.icmp_ne (tgt := 175) dX3_read_161 (by decide) rfl (fun _ => ?_) (fun c_ => by first | exact absurd c_ (show ¬ (207 : Int32) = 201 by decide) | exact absurd (show ¬ (207 : Int32) = 201 by decide) c_ | exact absurd c_ (not_not_intro (show ¬ (207 : Int32) = 201 by decide)) | exact Bool.noConfusion (c_.symm.trans (show ¬ (207 : Int32) = 201 by decide)))
    refine AW.aload_n dX3_read_175 rfl rfl ?_
    refine AW.get ci3 7 (by decide) q311 dX3_read_176 (gTk hT) rfl rfl ?_
    refine AW.sipush (v := 202) dX3_read_179 (by decide) rfl ?_
    refine AW.icmp_ne (tgt := 196) dX3_read_182 (by decide) rfl (fun _ => ?_) (fun c_ => by first | exact absurd c_ (show ¬ (207 : Int32) = 202 by decide) | exact absurd (show ¬ (207 : Int32) = 202 by decide) c_ | exact absurd c_ (not_not_intro (show ¬ (207 : Int32) = 202 by decide)) | exact Bool.noConfusion (c_.symm.trans (show ¬ (207 : Int32) = 202 by decide)))
    refine AW.aload_n dX3_read_196 rfl rfl ?_
    refine AW.getN ci4 4 (by decide) q373 dX3_read_197 (by first | exact ((hp_gb (nfx hX6)).trans ((Tk_g hXT).trans gX)) | exact ((hp_gb (nfx hX6)).trans ((Tk_g hXT).trans gX2)) | exact ((hp_gb (nfx hX6)).trans ((Tk_g hXT).trans gX3))) rfl rfl ?_
    refine AW.aload_n dX3_read_200 rfl rfl ?_
    refine AW.aload_n dX3_read_201 rfl rfl ?_
    refine AW.getN ci4 3 (by decide) q371 dX3_read_202 (by first | exact ((hp_gb (nfx hX6)).trans ((Tk_g hXT).trans gX)) | exact ((hp_gb (nfx hX6)).trans ((Tk_g hXT).trans gX2)) | exact ((hp_gb (nfx hX6)).trans ((Tk_g hXT).trans gX3))) rfl rfl ?_
    exact AW.callVX (Y := mX3_doing) (n := 1) (w9) (by decide) (by decide) rfl (gTk hT) q804 q806 qs21 q142 q807 dX3_read_205 (by decide +kernel) rfl rfl (Nat.le_of_ble_eq_true rfl) q332 rfl
  | inr e =>
    obtain ⟨⟨a, b, c⟩, j⟩ := e
    rw [hx] at q9 e1
    obtain ⟨j1, nu3, hN3, qe⟩ := q9
    obtain ⟨rfl, rfl⟩ := Prod.mk.inj qe
    have j1' : i + 1 + 1 ≤ j := j1
    have d := hA.D_
    have hET : E ≠ T := by rcases r7 with q | q <;> omega
    have hEl : E < (512 + s.b.n) := by rcases d.2.2.1 with q | q <;> omega
    have x1 : ExT T (512 + s.b.n) 1 5 s.b (s.b.push (.inr (15, [.int 207, .int a, .int b, .int c, .int (nI cls.length)])) 5) := ExT.push (Nat.le_refl _)
    have hC1 : TC (s.setb (s.b.push (.inr (15, [.int 207, .int a, .int b, .int c, .int (nI cls.length)])) 5)) T n t := hC.ext x1 (by omega)
    have g1 : ∀ k, k < (512 + s.b.n) → k ≠ T → (Tk (s.setb (s.b.push (.inr (15, [.int 207, .int a, .int b, .int c, .int (nI cls.length)])) 5)) T n t (tkL t n L0 j) nu3 (nI 0) 207).b.g k = s.b.g k := fun k hk hkT => (Tk_g hkT).trans (push_go (by omega))
    have gn : (Tk (s.setb (s.b.push (.inr (15, [.int 207, .int a, .int b, .int c, .int (nI cls.length)])) 5)) T n t (tkL t n L0 j) nu3 (nI 0) 207).b.g (512 + s.b.n) = some (.inr (15, [.int 207, .int a, .int b, .int c, .int (nI cls.length)])) := (Tk_g (by omega)).trans push_g
    have hobj : ∀ (b9 : AH) (z : Nat) (dd : Int32 × Int32 × Int32 × Int32 × Int32), 640 ≤ z → z < 512 + b9.n → b9.g z = some (.inr (15, [.int dd.1, .int dd.2.1, .int dd.2.2.1, .int dd.2.2.2.1, .int dd.2.2.2.2])) → ObjR b9 (.ref z) := fun b9 z dd h1 h2 h3 => ⟨z, 15, _, _, rfl, nfx h1, h2, h3, rfl, q2045⟩
    have hdT : ∀ k dd, (dosL cls 0)[k]? = some dd → dv k ≠ T := fun k dd hk => by have := (hD k dd hk).1; omega
    have hA1 : AL (Tk (s.setb (s.b.push (.inr (15, [.int 207, .int a, .int b, .int c, .int (nI cls.length)])) 5)) T n t (tkL t n L0 j) nu3 (nI 0) 207).b Dl E (dosL cls 0).length ix (fun k => .ref (dv k)) := hA.by_ (by show s.b.n ≤ s.b.n + 1; omega) (g1 Dl d.2.1 (by omega)) (Or.inr (g1 E hEl hET)) (fun k hk => by
      obtain ⟨a1, a2, a3⟩ := hD k _ (List.getElem?_eq_getElem hk)
      exact hobj _ _ _ (by omega) (by show _ < 512 + (s.b.n + 1); omega) ((g1 _ a2 (by omega)).trans a3))
    have hdl := dosL_len cls 0
    obtain ⟨_, ⟨b2, ⟨E2, i2, a1, a2, a3, a4, a5, a6, a7⟩, rfl⟩, w3⟩ := AL.add (s := (Tk (s.setb (s.b.push (.inr (15, [.int 207, .int a, .int b, .int c, .int (nI cls.length)])) 5)) T n t (tkL t n L0 j) nu3 (nI 0) 207)) (v := (512 + s.b.n)) hA1 hC1.bh (by omega) (hobj _ _ (207, a, b, c, nI cls.length) (by omega) (by show (512 + s.b.n) < 512 + (s.b.n + 1); omega) gn) (by omega) (by omega)
    have hb3 : hp ((Tk (s.setb (s.b.push (.inr (15, [.int 207, .int a, .int b, .int c, .int (nI cls.length)])) 5)) T n t (tkL t n L0 j) nu3 (nI 0) 207).setb b2) = hp (Tk (s.setb b2) T n t (tkL t n L0 j) nu3 (nI 0) 207) := Tk_in (s := s.setb (s.b.push (.inr (15, [.int 207, .int a, .int b, .int c, .int (nI cls.length)])) 5)) (a3 T (by show T < 512 + (s.b.n + 1); omega) (by omega) (Or.inl (Ne.symm hET)))
    have a4' : s.b.n + 1 ≤ b2.n := a4
    have a5' : b2.n ≤ s.b.n + 1 + 1 := a5
    have a6' : s.b.u + 5 ≤ b2.u := a6
    have a7' : b2.u + 4 * capN ix ≤ s.b.u + 5 + 4 * capN i2 := a7
    have a2' : E2 = E ∨ E2 = 512 + (s.b.n + 1) := a2
    have d2 := a1.D_
    have f2 : ∀ k, k < (512 + s.b.n) → k ≠ T → k ≠ Dl → (k ≠ E ∨ k < 640) → b2.g k = s.b.g k := fun k hk hkT h1 h2 => (a3 k (by show k < 512 + (s.b.n + 1); omega) h1 h2).trans (g1 k hk hkT)
    have gL1 : (hp (Tk (s.setb (s.b.push (.inr (15, [.int 207, .int a, .int b, .int c, .int (nI cls.length)])) 5)) T n t (tkL t n L0 j) nu3 (nI 0) 207)).g Dl = some (.inr (16, [.int (Classical.choose hA.2.2.1), .ref E, .int (nI (dosL cls 0).length)])) := (hp_gb (nfx (by omega))).trans ((g1 Dl d.2.1 (by omega)).trans (Classical.choose_spec hA.2.2.1))
    have gX2 : b2.g X = some (.inr (4, [ve, vl, vq, .int (nI cls.length), .ref Dl])) := (f2 X r3 hXT r5 (Or.inl r6)).trans gX
    have x2 : ExT T lo (b2.n - s.b.n) (b2.u - s.b.u) s.b b2 := ⟨by omega, by omega, by omega, by omega, fun k hk hkT => f2 k (by omega) hkT (by omega) (by omega)⟩
    have hC2 : TC (s.setb b2) T n t := hC.ext x2 (by omega)
    have e1 : x = (if (tkL t n L0 j).2.2.1 = 59 then .inr ((7, a, b, c), C, j + 1) else .inl (1, j)) := e1
    by_cases cf : (tkL t n L0 j).2.2.1 = 59
    · have hs59 : sortS (byteF t n) (tkL t n L0 j) = 59 := (so_c j (c := 59) (v := 59) (by decide) (by decide +kernel) (by decide +kernel)).mpr cf
      rw [if_pos cf] at e1
      obtain ⟨nu4, hN4, w2⟩ := r_X3_want_t hC2 j (L0 := L0) (nu := nu3) (op := nI 0) (kd := 207) 59 hs59
      have hlen : nI cls.length + 1 = nI (cls ++ [((7, a, b, c) : Cl)]).length := by
        rw [nI_succ', List.length_append]
        rfl
      have hdo : dosL (cls ++ [((7, a, b, c) : Cl)]) 0 = dosL cls 0 ++ [(207, a, b, c, nI cls.length)] := by
        rw [dosL_app, if_neg (show ¬ (7 : Int32) ≤ 2 by decide), Nat.zero_add]
        rfl
      have hdn : (dosL (cls ++ [((7, a, b, c) : Cl)]) 0).length = (dosL cls 0).length + 1 := by
        rw [hdo, List.length_append]
        rfl
      have e3 : ∀ k, k < (512 + s.b.n) → (k < 512 ∨ lo ≤ k) → k ≠ X → k ≠ Dl → k ≠ E → (b2.set X (.inr (4, [ve, vl, vq, .int (nI cls.length + 1), .ref Dl]))).g k = s.b.g k := fun k hk hl hX h1 h2 => (set_go hX).trans (f2 k hk (by omega) h1 (Or.inl h2))
      have e32 : (b2.set X (.inr (4, [ve, vl, vq, .int (nI cls.length + 1), .ref Dl]))).g 2 = s.b.g 2 := (set_go (by omega)).trans (f2 2 (by omega) (by omega) (by omega) (Or.inr (by decide)))
      have sl : ∀ {β : Type} {Y : MethodName} {g : β → (Nat → Int32) → Value} {v : Value} {f : Option β}, SlotG Y g s.b lo X Dl E v f → SlotG Y g (b2.set X (.inr (4, [ve, vl, vq, .int (nI cls.length + 1), .ref Dl]))) lo X Dl E2 v f := fun h => h.by_ (by show s.b.n ≤ b2.n; omega) e3 (by omega) (by omega) e32
      have hD3 : ∀ k dd, (dosL (cls ++ [((7, a, b, c) : Cl)]) 0)[k]? = some dd → lo ≤ up dv (dosL cls 0).length (512 + s.b.n) k ∧ up dv (dosL cls 0).length (512 + s.b.n) k < 512 + b2.n ∧ (b2.set X (.inr (4, [ve, vl, vq, .int (nI cls.length + 1), .ref Dl]))).g (up dv (dosL cls 0).length (512 + s.b.n) k) = some (.inr (15, [.int dd.1, .int dd.2.1, .int dd.2.2.1, .int dd.2.2.2.1, .int dd.2.2.2.2])) := fun k dd hk => by
        rw [hdo] at hk
        by_cases hkl : k < (dosL cls 0).length
        · rw [List.getElem?_append_left hkl] at hk
          obtain ⟨p1, p2, p3⟩ := hD k dd hk
          rw [up_ne (by omega)]
          have nX : dv k ≠ X := fun q => by
            rw [q, gX] at p3
            exact absurd (show (4 : Nat) = 15 from congrArg Prod.fst (Sum.inr.inj (Option.some.inj p3))) (by decide)
          have nD : dv k ≠ Dl := fun q => by
            rw [q, Classical.choose_spec hA.2.2.1] at p3
            exact absurd (show (16 : Nat) = 15 from congrArg Prod.fst (Sum.inr.inj (Option.some.inj p3))) (by decide)
          have nE : dv k ≠ E := fun q => by
            rcases hA.2.2.2.2.2.2.2 with z | ⟨-, -, -, -, gg, z, -⟩
            · have := z.2
              omega
            · rw [q, z] at p3
              exact Sum.inl_ne_inr (Option.some.inj p3)
          exact ⟨p1, by omega, (e3 _ p2 (Or.inr p1) nX nD nE).trans p3⟩
        · have hkl2 := (List.getElem?_eq_some_iff.mp hk).1
          rw [List.length_append] at hkl2
          have hke : k = (dosL cls 0).length := by simp only [List.length_cons, List.length_nil] at hkl2; omega
          subst hke
          rw [List.getElem?_append_right (Nat.le_refl _), Nat.sub_self] at hk
          have hk2 := Option.some.inj hk
          subst hk2
          rw [up_eq]
          exact ⟨by omega, by omega, (set_go (by omega)).trans ((a3 (512 + s.b.n) (by show _ < 512 + (s.b.n + 1); omega) (by omega) (Or.inl (by omega))).trans gn)⟩
      have hA3 : AL (b2.set X (.inr (4, [ve, vl, vq, .int (nI cls.length + 1), .ref Dl]))) Dl E2 (dosL (cls ++ [((7, a, b, c) : Cl)]) 0).length i2 (fun k => .ref (up dv (dosL cls 0).length (512 + s.b.n) k)) := by
        have z := AL.cg a1 (g := fun k => .ref (up dv (dosL cls 0).length (512 + s.b.n) k)) (fun j hj => by unfold up; split <;> rfl)
        rw [hdn]
        refine z.by_ (Nat.le_refl _) (set_go (Ne.symm r5)) (Or.inr (set_go (by omega))) (fun k hk => ?_)
        obtain ⟨p1, p2, p3⟩ := hD3 k _ (List.getElem?_eq_getElem (by rw [hdn]; exact hk))
        exact hobj _ _ _ (by omega) p2 p3
      have ap : ∀ {β : Type} {P : Cd → β → Prop} {z : Int32} {o : Option β}, ¬ (7 : Int32) = z → lwOne P z cls C o → lwOne P z (cls ++ [((7, a, b, c) : Cl)]) C o := fun hz h => by
        have := h.app ((7, a, b, c) : Cl) [] hz
        rw [List.append_nil] at this
        exact this
      have hR3 : RdS (b2.set X (.inr (4, [ve, vl, vq, .int (nI cls.length + 1), .ref Dl]))) lo X Dl i2 (cls ++ [((7, a, b, c) : Cl)]) C L := ⟨E2, ve, vl, vq, up dv (dosL cls 0).length (512 + s.b.n), ⟨r1, r2, by show X < 512 + b2.n; omega, r4, r5, by omega, by omega⟩, by rw [← hlen]; exact set_g, hA3, hD3, ⟨sl s1, sl s2, sl s3⟩, ap (by decide) hl0, ap (by decide) hl1, ap (by decide) hl2⟩
      refine StQ.r e1 (by omega) (b2 := b2.set X (.inr (4, [ve, vl, vq, .int (nI cls.length + 1), .ref Dl]))) ⟨by show s.b.n ≤ b2.n; omega, by show b2.n ≤ _; omega, by show s.b.u ≤ b2.u; omega, by show b2.u + _ ≤ _; omega, fun k hk hkT => (set_go (by omega)).trans (x2.2.2.2.2 k hk hkT)⟩ hR3 hN4 (fun o h' kk => ?_)
      refine AW.aload_n dX3_read_12 rfl rfl ?_
      refine AW.get ci3 4 (by decide) q308 dX3_read_13 (gTk hT) rfl rfl ?_
      refine AW.sipush (v := 301) dX3_read_16 (by decide) rfl ?_
      refine AW.icmp_eq (tgt := 231) dX3_read_19 (by decide) rfl (fun c_ => by first | exact absurd c_ (show ¬ sortS (byteF t n) (tkL t n L0 i) = 301 by rw [hs]; decide) | exact absurd (show ¬ sortS (byteF t n) (tkL t n L0 i) = 301 by rw [hs]; decide) c_ | exact Bool.noConfusion (c_.symm.trans (show ¬ sortS (byteF t n) (tkL t n L0 i) = 301 by rw [hs]; decide))) (fun _ => ?_)
      refine AW.aload_n dX3_read_22 rfl rfl ?_
      refine AW.get ci3 4 (by decide) q308 dX3_read_23 (gTk hT) rfl rfl ?_
      refine AW.sipush (v := 200) dX3_read_26 (by decide) rfl ?_
      refine AW.icmp_lt (tgt := 42) dX3_read_29 (by decide) rfl (fun c_ => by first | exact absurd c_ (show ¬ sortS (byteF t n) (tkL t n L0 i) < 200 by rw [hs]; decide) | exact absurd (show ¬ sortS (byteF t n) (tkL t n L0 i) < 200 by rw [hs]; decide) c_ | exact Bool.noConfusion (c_.symm.trans (show ¬ sortS (byteF t n) (tkL t n L0 i) < 200 by rw [hs]; decide))) (fun _ => ?_)
      refine AW.aload_n dX3_read_32 rfl rfl ?_
      refine AW.get ci3 4 (by decide) q308 dX3_read_33 (gTk hT) rfl rfl ?_
      refine AW.sipush (v := 208) dX3_read_36 (by decide) rfl ?_
      refine AW.icmp_le (tgt := 48) dX3_read_39 (by decide) rfl (fun _ => ?_) (fun c_ => by first | exact absurd c_ (show sortS (byteF t n) (tkL t n L0 i) ≤ 208 by rw [hs]; decide) | exact absurd (show sortS (byteF t n) (tkL t n L0 i) ≤ 208 by rw [hs]; decide) c_ | exact absurd c_ (not_not_intro (show sortS (byteF t n) (tkL t n L0 i) ≤ 208 by rw [hs]; decide)) | exact Bool.noConfusion (c_.symm.trans (show sortS (byteF t n) (tkL t n L0 i) ≤ 208 by rw [hs]; decide)))
      refine AW.aload_n dX3_read_48 rfl rfl ?_
      refine AW.aload_n dX3_read_49 rfl rfl ?_
      refine AW.get ci3 4 (by decide) q308 dX3_read_50 (gTk hT) rfl rfl ?_
      refine AW.put ci3 7 (by decide) q311 dX3_read_53 (by omega) (gTk hT) rfl (fun _ => rfl) (fun _ => rfl) (Nat.le_of_ble_eq_true rfl) ((sTk7 hT).trans (congrArg (fun z => hp (Tk s T n t (tkL t n L0 i) nu (nI 0) z)) hs)) rfl ?_
      refine AW.aload_n dX3_read_56 rfl rfl ?_
      refine AW.get ci3 7 (by decide) q311 dX3_read_57 (gTk hT) rfl rfl ?_
      refine AW.sipush (v := 200) dX3_read_60 (by decide) rfl ?_
      refine AW.icmp_ne (tgt := 73) dX3_read_63 (by decide) rfl (fun _ => ?_) (fun c_ => by first | exact absurd c_ (show ¬ (207 : Int32) = 200 by decide) | exact absurd (show ¬ (207 : Int32) = 200 by decide) c_ | exact absurd c_ (not_not_intro (show ¬ (207 : Int32) = 200 by decide)) | exact Bool.noConfusion (c_.symm.trans (show ¬ (207 : Int32) = 200 by decide)))
      refine AW.aload_n dX3_read_73 rfl rfl ?_
      refine AW.get ci3 7 (by decide) q311 dX3_read_74 (gTk hT) rfl rfl ?_
      refine AW.sipush (v := 201) dX3_read_77 (by decide) rfl ?_
      refine AW.icmp_ne (tgt := 90) dX3_read_80 (by decide) rfl (fun _ => ?_) (fun c_ => by first | exact absurd c_ (show ¬ (207 : Int32) = 201 by decide) | exact absurd (show ¬ (207 : Int32) = 201 by decide) c_ | exact absurd c_ (not_not_intro (show ¬ (207 : Int32) = 201 by decide)) | exact Bool.noConfusion (c_.symm.trans (show ¬ (207 : Int32) = 201 by decide)))
      refine AW.aload_n dX3_read_90 rfl rfl ?_
      refine AW.get ci3 7 (by decide) q311 dX3_read_91 (gTk hT) rfl rfl ?_
      refine AW.sipush (v := 202) dX3_read_94 (by decide) rfl ?_
      refine AW.icmp_ne (tgt := 113) dX3_read_97 (by decide) rfl (fun _ => ?_) (fun c_ => by first | exact absurd c_ (show ¬ (207 : Int32) = 202 by decide) | exact absurd (show ¬ (207 : Int32) = 202 by decide) c_ | exact absurd c_ (not_not_intro (show ¬ (207 : Int32) = 202 by decide)) | exact Bool.noConfusion (c_.symm.trans (show ¬ (207 : Int32) = 202 by decide)))
      refine AW.aload_n dX3_read_113 rfl rfl ?_
      refine AW.getN ci4 3 (by decide) q371 dX3_read_114 (by first | exact ((hp_gb (nfx hX6)).trans ((Tk_g hXT).trans gX)) | exact ((hp_gb (nfx hX6)).trans ((Tk_g hXT).trans gX2)) | exact ((hp_gb (nfx hX6)).trans ((Tk_g hXT).trans gX3))) rfl rfl ?_
      refine AW.bipush (v := 24) dX3_read_117 (by decide) rfl ?_
      refine AW.icmp_ne (tgt := 129) dX3_read_119 (by decide) rfl (fun _ => ?_) (fun c_ => by first | exact absurd c_ h24 | exact absurd h24 c_ | exact absurd c_ (not_not_intro h24) | exact Bool.noConfusion (c_.symm.trans h24))
      refine AW.aload_n dX3_read_129 rfl rfl ?_
      refine AW.callV (Y := mX3_next) (n := 0) (w1) (by omega) (by decide) rfl (gTk hT) q386 q388 qs1 q142 q389 dX3_read_130 (by decide +kernel) rfl rfl (Nat.le_of_ble_eq_true rfl) rfl ?_
      refine AW.aload_n dX3_read_133 rfl rfl ?_
      refine AW.get ci3 7 (by decide) q311 dX3_read_134 (gTk hT) rfl rfl ?_
      refine AW.sipush (v := 200) dX3_read_137 (by decide) rfl ?_
      refine AW.icmp_ne (tgt := 154) dX3_read_140 (by decide) rfl (fun _ => ?_) (fun c_ => by first | exact absurd c_ (show ¬ (207 : Int32) = 200 by decide) | exact absurd (show ¬ (207 : Int32) = 200 by decide) c_ | exact absurd c_ (not_not_intro (show ¬ (207 : Int32) = 200 by decide)) | exact Bool.noConfusion (c_.symm.trans (show ¬ (207 : Int32) = 200 by decide)))
      refine AW.aload_n dX3_read_154 rfl rfl ?_
      refine AW.get ci3 7 (by decide) q311 dX3_read_155 (gTk hT) rfl rfl ?_
      refine AW.sipush (v := 201) dX3_read_158 (by decide) rfl ?_
      refine AW.icmp_ne (tgt := 175) dX3_read_161 (by decide) rfl (fun _ => ?_) (fun c_ => by first | exact absurd c_ (show ¬ (207 : Int32) = 201 by decide) | exact absurd (show ¬ (207 : Int32) = 201 by decide) c_ | exact absurd c_ (not_not_intro (show ¬ (207 : Int32) = 201 by decide)) | exact Bool.noConfusion (c_.symm.trans (show ¬ (207 : Int32) = 201 by decide)))
      refine AW.aload_n dX3_read_175 rfl rfl ?_
      refine AW.get ci3 7 (by decide) q311 dX3_read_176 (gTk hT) rfl rfl ?_
      refine AW.sipush (v := 202) dX3_read_179 (by decide) rfl ?_
      refine AW.icmp_ne (tgt := 196) dX3_read_182 (by decide) rfl (fun _ => ?_) (fun c_ => by first | exact absurd c_ (show ¬ (207 : Int32) = 202 by decide) | exact absurd (show ¬ (207 : Int32) = 202 by decide) c_ | exact absurd c_ (not_not_intro (show ¬ (207 : Int32) = 202 by decide)) | exact Bool.noConfusion (c_.symm.trans (show ¬ (207 : Int32) = 202 by decide)))
      refine AW.aload_n dX3_read_196 rfl rfl ?_
      refine AW.getN ci4 4 (by decide) q373 dX3_read_197 (by first | exact ((hp_gb (nfx hX6)).trans ((Tk_g hXT).trans gX)) | exact ((hp_gb (nfx hX6)).trans ((Tk_g hXT).trans gX2)) | exact ((hp_gb (nfx hX6)).trans ((Tk_g hXT).trans gX3))) rfl rfl ?_
      refine AW.aload_n dX3_read_200 rfl rfl ?_
      refine AW.aload_n dX3_read_201 rfl rfl ?_
      refine AW.getN ci4 3 (by decide) q371 dX3_read_202 (by first | exact ((hp_gb (nfx hX6)).trans ((Tk_g hXT).trans gX)) | exact ((hp_gb (nfx hX6)).trans ((Tk_g hXT).trans gX2)) | exact ((hp_gb (nfx hX6)).trans ((Tk_g hXT).trans gX3))) rfl rfl ?_
      refine AW.callV (Y := mX3_doing) (n := 1) (w9) (by omega) (by decide) rfl (gTk hT) q804 q806 qs21 q142 q807 dX3_read_205 (by decide +kernel) rfl rfl (Nat.le_of_ble_eq_true rfl) rfl ?_
      refine AW.callV (Y := mJ2_add) (n := 1) (w3) (by omega) (by decide) rfl gL1 q773 q648 q649 q146 q650 dX3_read_208 (by decide +kernel) rfl rfl (Nat.le_of_ble_eq_true rfl) rfl ?_
      refine AW.hp hb3 ?_
      refine AW.pop dX3_read_211 rfl rfl ?_
      refine AW.aload_n dX3_read_212 rfl rfl ?_
      refine AW.bipush (v := 59) dX3_read_213 (by decide) rfl ?_
      refine AW.callV (Y := mX3_want) (n := 1) (w2) (by omega) (by decide) rfl (gTk hT) q562 q564 qs11 q142 q565 dX3_read_215 (by decide +kernel) rfl rfl (Nat.le_of_ble_eq_true rfl) rfl ?_
      refine AW.aload_n dX3_read_218 rfl rfl ?_
      refine AW.dup dX3_read_219 rfl rfl ?_
      refine AW.getN ci4 3 (by decide) q371 dX3_read_220 (by first | exact ((hp_gb (nfx hX6)).trans ((Tk_g hXT).trans gX)) | exact ((hp_gb (nfx hX6)).trans ((Tk_g hXT).trans gX2)) | exact ((hp_gb (nfx hX6)).trans ((Tk_g hXT).trans gX3))) rfl rfl ?_
      refine AW.iconst (v := 1) dX3_read_223 (by decide) rfl ?_
      refine AW.iadd dX3_read_224 rfl ?_
      refine AW.putN ci4 3 (by decide) q371 dX3_read_225 (by omega) (by first | exact ((hp_gb (nfx hX6)).trans ((Tk_g hXT).trans gX)) | exact ((hp_gb (nfx hX6)).trans ((Tk_g hXT).trans gX2)) | exact ((hp_gb (nfx hX6)).trans ((Tk_g hXT).trans gX3))) rfl (fun _ => rfl) (fun _ => rfl) (Nat.le_of_ble_eq_true rfl) ((hp_set6 hX6).trans (tk_cm (s := s.setb b2) (Ne.symm hXT))) rfl ?_
      refine AW.goto (tgt := 12) dX3_read_228 (by decide) ?_
      exact kk
    · have hs59 : ¬ sortS (byteF t n) (tkL t n L0 j) = 59 := fun q => cf ((so_c j (c := 59) (v := 59) (by decide) (by decide +kernel) (by decide +kernel)).mp q)
      rw [if_neg cf] at e1
      have w2 := r_X3_want_f (s := s.setb b2) (n := n) (at_ := (tkL t n L0 j).1) (tk := (tkL t n L0 j).2.1) (nu := nu3) (op := nI 0) (kd := 207) hT (by show T < 512 + b2.n; omega) (by show 128 ≤ b2.n; omega) 59 hs59
      have q7 : EQ T n t L0 207 (512 + b2.n) 0 0 (s.setb b2) j 1 j _ := EQ.wr (s := s.setb b2) (L0 := L0) (nu := nu3) (op := nI 0) (Nat.le_refl _) 1
      have q8 : EQ T n t L0 207 lo 0 1000 s i 1 j _ := EQ.up q7 x2 (by omega) (by omega) (by omega) (by omega)
      refine StQ.l e1 q8 ?_
      refine AW.aload_n dX3_read_12 rfl rfl ?_
      refine AW.get ci3 4 (by decide) q308 dX3_read_13 (gTk hT) rfl rfl ?_
      refine AW.sipush (v := 301) dX3_read_16 (by decide) rfl ?_
      refine AW.icmp_eq (tgt := 231) dX3_read_19 (by decide) rfl (fun c_ => by first | exact absurd c_ (show ¬ sortS (byteF t n) (tkL t n L0 i) = 301 by rw [hs]; decide) | exact absurd (show ¬ sortS (byteF t n) (tkL t n L0 i) = 301 by rw [hs]; decide) c_ | exact Bool.noConfusion (c_.symm.trans (show ¬ sortS (byteF t n) (tkL t n L0 i) = 301 by rw [hs]; decide))) (fun _ => ?_)
      refine AW.aload_n dX3_read_22 rfl rfl ?_
      refine AW.get ci3 4 (by decide) q308 dX3_read_23 (gTk hT) rfl rfl ?_
      refine AW.sipush (v := 200) dX3_read_26 (by decide) rfl ?_
      refine AW.icmp_lt (tgt := 42) dX3_read_29 (by decide) rfl (fun c_ => by first | exact absurd c_ (show ¬ sortS (byteF t n) (tkL t n L0 i) < 200 by rw [hs]; decide) | exact absurd (show ¬ sortS (byteF t n) (tkL t n L0 i) < 200 by rw [hs]; decide) c_ | exact Bool.noConfusion (c_.symm.trans (show ¬ sortS (byteF t n) (tkL t n L0 i) < 200 by rw [hs]; decide))) (fun _ => ?_)
      refine AW.aload_n dX3_read_32 rfl rfl ?_
      refine AW.get ci3 4 (by decide) q308 dX3_read_33 (gTk hT) rfl rfl ?_
      refine AW.sipush (v := 208) dX3_read_36 (by decide) rfl ?_
      refine AW.icmp_le (tgt := 48) dX3_read_39 (by decide) rfl (fun _ => ?_) (fun c_ => by first | exact absurd c_ (show sortS (byteF t n) (tkL t n L0 i) ≤ 208 by rw [hs]; decide) | exact absurd (show sortS (byteF t n) (tkL t n L0 i) ≤ 208 by rw [hs]; decide) c_ | exact absurd c_ (not_not_intro (show sortS (byteF t n) (tkL t n L0 i) ≤ 208 by rw [hs]; decide)) | exact Bool.noConfusion (c_.symm.trans (show sortS (byteF t n) (tkL t n L0 i) ≤ 208 by rw [hs]; decide)))
      refine AW.aload_n dX3_read_48 rfl rfl ?_
      refine AW.aload_n dX3_read_49 rfl rfl ?_
      refine AW.get ci3 4 (by decide) q308 dX3_read_50 (gTk hT) rfl rfl ?_
      refine AW.put ci3 7 (by decide) q311 dX3_read_53 (by omega) (gTk hT) rfl (fun _ => rfl) (fun _ => rfl) (Nat.le_of_ble_eq_true rfl) ((sTk7 hT).trans (congrArg (fun z => hp (Tk s T n t (tkL t n L0 i) nu (nI 0) z)) hs)) rfl ?_
      refine AW.aload_n dX3_read_56 rfl rfl ?_
      refine AW.get ci3 7 (by decide) q311 dX3_read_57 (gTk hT) rfl rfl ?_
      refine AW.sipush (v := 200) dX3_read_60 (by decide) rfl ?_
      refine AW.icmp_ne (tgt := 73) dX3_read_63 (by decide) rfl (fun _ => ?_) (fun c_ => by first | exact absurd c_ (show ¬ (207 : Int32) = 200 by decide) | exact absurd (show ¬ (207 : Int32) = 200 by decide) c_ | exact absurd c_ (not_not_intro (show ¬ (207 : Int32) = 200 by decide)) | exact Bool.noConfusion (c_.symm.trans (show ¬ (207 : Int32) = 200 by decide)))
      refine AW.aload_n dX3_read_73 rfl rfl ?_
      refine AW.get ci3 7 (by decide) q311 dX3_read_74 (gTk hT) rfl rfl ?_
      refine AW.sipush (v := 201) dX3_read_77 (by decide) rfl ?_
      refine AW.icmp_ne (tgt := 90) dX3_read_80 (by decide) rfl (fun _ => ?_) (fun c_ => by first | exact absurd c_ (show ¬ (207 : Int32) = 201 by decide) | exact absurd (show ¬ (207 : Int32) = 201 by decide) c_ | exact absurd c_ (not_not_intro (show ¬ (207 : Int32) = 201 by decide)) | exact Bool.noConfusion (c_.symm.trans (show ¬ (207 : Int32) = 201 by decide)))
      refine AW.aload_n dX3_read_90 rfl rfl ?_
      refine AW.get ci3 7 (by decide) q311 dX3_read_91 (gTk hT) rfl rfl ?_
      refine AW.sipush (v := 202) dX3_read_94 (by decide) rfl ?_
      refine AW.icmp_ne (tgt := 113) dX3_read_97 (by decide) rfl (fun _ => ?_) (fun c_ => by first | exact absurd c_ (show ¬ (207 : Int32) = 202 by decide) | exact absurd (show ¬ (207 : Int32) = 202 by decide) c_ | exact absurd c_ (not_not_intro (show ¬ (207 : Int32) = 202 by decide)) | exact Bool.noConfusion (c_.symm.trans (show ¬ (207 : Int32) = 202 by decide)))
      refine AW.aload_n dX3_read_113 rfl rfl ?_
      refine AW.getN ci4 3 (by decide) q371 dX3_read_114 (by first | exact ((hp_gb (nfx hX6)).trans ((Tk_g hXT).trans gX)) | exact ((hp_gb (nfx hX6)).trans ((Tk_g hXT).trans gX2)) | exact ((hp_gb (nfx hX6)).trans ((Tk_g hXT).trans gX3))) rfl rfl ?_
      refine AW.bipush (v := 24) dX3_read_117 (by decide) rfl ?_
      refine AW.icmp_ne (tgt := 129) dX3_read_119 (by decide) rfl (fun _ => ?_) (fun c_ => by first | exact absurd c_ h24 | exact absurd h24 c_ | exact absurd c_ (not_not_intro h24) | exact Bool.noConfusion (c_.symm.trans h24))
      refine AW.aload_n dX3_read_129 rfl rfl ?_
      refine AW.callV (Y := mX3_next) (n := 0) (w1) (by omega) (by decide) rfl (gTk hT) q386 q388 qs1 q142 q389 dX3_read_130 (by decide +kernel) rfl rfl (Nat.le_of_ble_eq_true rfl) rfl ?_
      refine AW.aload_n dX3_read_133 rfl rfl ?_
      refine AW.get ci3 7 (by decide) q311 dX3_read_134 (gTk hT) rfl rfl ?_
      refine AW.sipush (v := 200) dX3_read_137 (by decide) rfl ?_
      refine AW.icmp_ne (tgt := 154) dX3_read_140 (by decide) rfl (fun _ => ?_) (fun c_ => by first | exact absurd c_ (show ¬ (207 : Int32) = 200 by decide) | exact absurd (show ¬ (207 : Int32) = 200 by decide) c_ | exact absurd c_ (not_not_intro (show ¬ (207 : Int32) = 200 by decide)) | exact Bool.noConfusion (c_.symm.trans (show ¬ (207 : Int32) = 200 by decide)))
      refine AW.aload_n dX3_read_154 rfl rfl ?_
      refine AW.get ci3 7 (by decide) q311 dX3_read_155 (gTk hT) rfl rfl ?_
      refine AW.sipush (v := 201) dX3_read_158 (by decide) rfl ?_
      refine AW.icmp_ne (tgt := 175) dX3_read_161 (by decide) rfl (fun _ => ?_) (fun c_ => by first | exact absurd c_ (show ¬ (207 : Int32) = 201 by decide) | exact absurd (show ¬ (207 : Int32) = 201 by decide) c_ | exact absurd c_ (not_not_intro (show ¬ (207 : Int32) = 201 by decide)) | exact Bool.noConfusion (c_.symm.trans (show ¬ (207 : Int32) = 201 by decide)))
      refine AW.aload_n dX3_read_175 rfl rfl ?_
      refine AW.get ci3 7 (by decide) q311 dX3_read_176 (gTk hT) rfl rfl ?_
      refine AW.sipush (v := 202) dX3_read_179 (by decide) rfl ?_
      refine AW.icmp_ne (tgt := 196) dX3_read_182 (by decide) rfl (fun _ => ?_) (fun c_ => by first | exact absurd c_ (show ¬ (207 : Int32) = 202 by decide) | exact absurd (show ¬ (207 : Int32) = 202 by decide) c_ | exact absurd c_ (not_not_intro (show ¬ (207 : Int32) = 202 by decide)) | exact Bool.noConfusion (c_.symm.trans (show ¬ (207 : Int32) = 202 by decide)))
      refine AW.aload_n dX3_read_196 rfl rfl ?_
      refine AW.getN ci4 4 (by decide) q373 dX3_read_197 (by first | exact ((hp_gb (nfx hX6)).trans ((Tk_g hXT).trans gX)) | exact ((hp_gb (nfx hX6)).trans ((Tk_g hXT).trans gX2)) | exact ((hp_gb (nfx hX6)).trans ((Tk_g hXT).trans gX3))) rfl rfl ?_
      refine AW.aload_n dX3_read_200 rfl rfl ?_
      refine AW.aload_n dX3_read_201 rfl rfl ?_
      refine AW.getN ci4 3 (by decide) q371 dX3_read_202 (by first | exact ((hp_gb (nfx hX6)).trans ((Tk_g hXT).trans gX)) | exact ((hp_gb (nfx hX6)).trans ((Tk_g hXT).trans gX2)) | exact ((hp_gb (nfx hX6)).trans ((Tk_g hXT).trans gX3))) rfl rfl ?_
      refine AW.callV (Y := mX3_doing) (n := 1) (w9) (by omega) (by decide) rfl (gTk hT) q804 q806 qs21 q142 q807 dX3_read_205 (by decide +kernel) rfl rfl (Nat.le_of_ble_eq_true rfl) rfl ?_
      refine AW.callV (Y := mJ2_add) (n := 1) (w3) (by omega) (by decide) rfl gL1 q773 q648 q649 q146 q650 dX3_read_208 (by decide +kernel) rfl rfl (Nat.le_of_ble_eq_true rfl) rfl ?_
      refine AW.hp hb3 ?_
      refine AW.pop dX3_read_211 rfl rfl ?_
      refine AW.aload_n dX3_read_212 rfl rfl ?_
      refine AW.bipush (v := 59) dX3_read_213 (by decide) rfl ?_
      exact AW.callVX (Y := mX3_want) (n := 1) (w2) (by decide) (by decide) rfl (gTk hT) q562 q564 qs11 q142 q565 dX3_read_215 (by decide +kernel) rfl rfl (Nat.le_of_ble_eq_true rfl) q332 rfl
theorem rc_8 {T n : Nat} {t : Nat → Int32} {L0 : Lq} {lo X Dl ix : Nat} {s : Sg} {i : Nat} {kd nu : Int32} {cls : List Cl} {C : Cd} {L : Lw} {x : CR} (hC : TC s T n t) (hTlo : T < lo) (hR : RdS s.b lo X Dl ix cls C L) (hs : sortS (byteF t n) (tkL t n L0 i) = 208) (h24_ : cls.length < 24) (e0 : x = semi (tkL t n L0) (clB (byteF t n) (tkL t n L0) 8 C (i + 1))) : StQ T n t L0 lo X Dl ix s i kd 208 nu cls x := by
  have hT := hC.1
  have hTb := hC.2.1
  have h300 := hC.2.2.2.1
  have hB := hC.2.2.2.2
  have hb := hB.1
  have h24 := nI_24 h24_
  obtain ⟨E, ve, vl, vq, dv, ⟨r1, r2, r3, r4, r5, r6, r7⟩, gX, hA, hD, ⟨s1, s2, s3⟩, hl0, hl1, hl2⟩ := hR
  have hX6 : 640 ≤ X := by omega
  have hXT : X ≠ T := by omega
  obtain ⟨nu2, hN2, w1⟩ := tk_next hC L0 i (nu := nu) (op := nI 0) (kd := 208)
  have e1 : x = semi (tkL t n L0) (match bodyR (byteF t n) (tkL t n L0) 8 (i + 1) with
      | .inl e => .inl e
      | .inr q => .inr ((8, q.1), C, q.2)) := by
    rw [e0]
    unfold clB
    rw [if_neg (by decide)]
    rfl
  obtain ⟨⟨o9, h9⟩, q9, w9⟩ := do_8 hC (L0 := L0) (i + 1) (nu := nu2) (op := nI 0) (nI cls.length) hN2
  cases hx : bodyR (byteF t n) (tkL t n L0) 8 (i + 1) with
  | inl e =>
    rw [hx] at q9 e1
    obtain ⟨r, j⟩ := e
    have q8 : EQ T n t L0 208 lo 0 1000 s i r j (o9, h9) := EQ.up (b1 := s.b) (show EQ T n t L0 208 (512 + s.b.n) 0 0 (s.setb s.b) (i + 1) r j (o9, h9) from q9) (ExT.refl T lo s.b) (by omega) (by omega) (by omega) (by omega)
    obtain ⟨-, q, b2, nu3, op3, -, -, qe⟩ := id q8
    obtain ⟨rfl, rfl⟩ := Prod.mk.inj qe
    refine StQ.l e1 q8 ?_
    refine AW.aload_n dX3_read_12 rfl rfl ?_
    refine AW.get ci3 4 (by decide) q308 dX3_read_13 (gTk hT) rfl rfl ?_
    refine AW.sipush (v := 301) dX3_read_16 (by decide) rfl ?_
    refine AW.icmp_eq (tgt := 231) dX3_read_19 (by decide) rfl (fun c_ => by first | exact absurd c_ (show ¬ sortS (byteF t n) (tkL t n L0 i) = 301 by rw [hs]; decide) | exact absurd (show ¬ sortS (byteF t n) (tkL t n L0 i) = 301 by rw [hs]; decide) c_ | exact Bool.noConfusion (c_.symm.trans (show ¬ sortS (byteF t n) (tkL t n L0 i) = 301 by rw [hs]; decide))) (fun _ => ?_)
    refine AW.aload_n dX3_read_22 rfl rfl ?_
    refine AW.get ci3 4 (by decide) q308 dX3_read_23 (gTk hT) rfl rfl ?_
    refine AW.sipush (v := 200) dX3_read_26 (by decide) rfl ?_
    refine AW.icmp_lt (tgt := 42) dX3_read_29 (by decide) rfl (fun c_ => by first | exact absurd c_ (show ¬ sortS (byteF t n) (tkL t n L0 i) < 200 by rw [hs]; decide) | exact absurd (show ¬ sortS (byteF t n) (tkL t n L0 i) < 200 by rw [hs]; decide) c_ | exact Bool.noConfusion (c_.symm.trans (show ¬ sortS (byteF t n) (tkL t n L0 i) < 200 by rw [hs]; decide))) (fun _ => ?_)
    refine AW.aload_n dX3_read_32 rfl rfl ?_
    refine AW.get ci3 4 (by decide) q308 dX3_read_33 (gTk hT) rfl rfl ?_
    refine AW.sipush (v := 208) dX3_read_36 (by decide) rfl ?_
    refine AW.icmp_le (tgt := 48) dX3_read_39 (by decide) rfl (fun _ => ?_) (fun c_ => by first | exact absurd c_ (show sortS (byteF t n) (tkL t n L0 i) ≤ 208 by rw [hs]; decide) | exact absurd (show sortS (byteF t n) (tkL t n L0 i) ≤ 208 by rw [hs]; decide) c_ | exact absurd c_ (not_not_intro (show sortS (byteF t n) (tkL t n L0 i) ≤ 208 by rw [hs]; decide)) | exact Bool.noConfusion (c_.symm.trans (show sortS (byteF t n) (tkL t n L0 i) ≤ 208 by rw [hs]; decide)))
    refine AW.aload_n dX3_read_48 rfl rfl ?_
    refine AW.aload_n dX3_read_49 rfl rfl ?_
    refine AW.get ci3 4 (by decide) q308 dX3_read_50 (gTk hT) rfl rfl ?_
    refine AW.put ci3 7 (by decide) q311 dX3_read_53 (by omega) (gTk hT) rfl (fun _ => rfl) (fun _ => rfl) (Nat.le_of_ble_eq_true rfl) ((sTk7 hT).trans (congrArg (fun z => hp (Tk s T n t (tkL t n L0 i) nu (nI 0) z)) hs)) rfl ?_
    refine AW.aload_n dX3_read_56 rfl rfl ?_
    refine AW.get ci3 7 (by decide) q311 dX3_read_57 (gTk hT) rfl rfl ?_
    refine AW.sipush (v := 200) dX3_read_60 (by decide) rfl ?_
    refine AW.icmp_ne (tgt := 73) dX3_read_63 (by decide) rfl (fun _ => ?_) (fun c_ => by first | exact absurd c_ (show ¬ (208 : Int32) = 200 by decide) | exact absurd (show ¬ (208 : Int32) = 200 by decide) c_ | exact absurd c_ (not_not_intro (show ¬ (208 : Int32) = 200 by decide)) | exact Bool.noConfusion (c_.symm.trans (show ¬ (208 : Int32) = 200 by decide)))
    refine AW.aload_n dX3_read_73 rfl rfl ?_
    refine AW.get ci3 7 (by decide) q311 dX3_read_74 (gTk hT) rfl rfl ?_
    refine AW.sipush (v := 201) dX3_read_77 (by decide) rfl ?_
    refine AW.icmp_ne (tgt := 90) dX3_read_80 (by decide) rfl (fun _ => ?_) (fun c_ => by first | exact absurd c_ (show ¬ (208 : Int32) = 201 by decide) | exact absurd (show ¬ (208 : Int32) = 201 by decide) c_ | exact absurd c_ (not_not_intro (show ¬ (208 : Int32) = 201 by decide)) | exact Bool.noConfusion (c_.symm.trans (show ¬ (208 : Int32) = 201 by decide)))
    refine AW.aload_n dX3_read_90 rfl rfl ?_
    refine AW.get ci3 7 (by decide) q311 dX3_read_91 (gTk hT) rfl rfl ?_
    refine AW.sipush (v := 202) dX3_read_94 (by decide) rfl ?_
    refine AW.icmp_ne (tgt := 113) dX3_read_97 (by decide) rfl (fun _ => ?_) (fun c_ => by first | exact absurd c_ (show ¬ (208 : Int32) = 202 by decide) | exact absurd (show ¬ (208 : Int32) = 202 by decide) c_ | exact absurd c_ (not_not_intro (show ¬ (208 : Int32) = 202 by decide)) | exact Bool.noConfusion (c_.symm.trans (show ¬ (208 : Int32) = 202 by decide)))
    refine AW.aload_n dX3_read_113 rfl rfl ?_
    refine AW.getN ci4 3 (by decide) q371 dX3_read_114 (by first | exact ((hp_gb (nfx hX6)).trans ((Tk_g hXT).trans gX)) | exact ((hp_gb (nfx hX6)).trans ((Tk_g hXT).trans gX2)) | exact ((hp_gb (nfx hX6)).trans ((Tk_g hXT).trans gX3))) rfl rfl ?_
    refine AW.bipush (v := 24) dX3_read_117 (by decide) rfl ?_
    refine AW.icmp_ne (tgt := 129) dX3_read_119 (by decide) rfl (fun _ => ?_) (fun c_ => by first | exact absurd c_ h24 | exact absurd h24 c_ | exact absurd c_ (not_not_intro h24) | exact Bool.noConfusion (c_.symm.trans h24))
    refine AW.aload_n dX3_read_129 rfl rfl ?_
    refine AW.callV (Y := mX3_next) (n := 0) (w1) (by omega) (by decide) rfl (gTk hT) q386 q388 qs1 q142 q389 dX3_read_130 (by decide +kernel) rfl rfl (Nat.le_of_ble_eq_true rfl) rfl ?_
    refine AW.aload_n dX3_read_133 rfl rfl ?_
    refine AW.get ci3 7 (by decide) q311 dX3_read_134 (gTk hT) rfl rfl ?_
    refine AW.sipush (v := 200) dX3_read_137 (by decide) rfl ?_
    refine AW.icmp_ne (tgt := 154) dX3_read_140 (by decide) rfl (fun _ => ?_) (fun c_ => by first | exact absurd c_ (show ¬ (208 : Int32) = 200 by decide) | exact absurd (show ¬ (208 : Int32) = 200 by decide) c_ | exact absurd c_ (not_not_intro (show ¬ (208 : Int32) = 200 by decide)) | exact Bool.noConfusion (c_.symm.trans (show ¬ (208 : Int32) = 200 by decide)))
    refine AW.aload_n dX3_read_154 rfl rfl ?_
    refine AW.get ci3 7 (by decide) q311 dX3_read_155 (gTk hT) rfl rfl ?_
    refine AW.sipush (v := 201) dX3_read_158 (by decide) rfl ?_
    refine AW.icmp_ne (tgt := 175) dX3_read_161 (by decide) rfl (fun _ => ?_) (fun c_ => by first | exact absurd c_ (show ¬ (208 : Int32) = 201 by decide) | exact absurd (show ¬ (208 : Int32) = 201 by decide) c_ | exact absurd c_ (not_not_intro (show ¬ (208 : Int32) = 201 by decide)) | exact Bool.noConfusion (c_.symm.trans (show ¬ (208 : Int32) = 201 by decide)))
    refine AW.aload_n dX3_read_175 rfl rfl ?_
    refine AW.get ci3 7 (by decide) q311 dX3_read_176 (gTk hT) rfl rfl ?_
    refine AW.sipush (v := 202) dX3_read_179 (by decide) rfl ?_
    refine AW.icmp_ne (tgt := 196) dX3_read_182 (by decide) rfl (fun _ => ?_) (fun c_ => by first | exact absurd c_ (show ¬ (208 : Int32) = 202 by decide) | exact absurd (show ¬ (208 : Int32) = 202 by decide) c_ | exact absurd c_ (not_not_intro (show ¬ (208 : Int32) = 202 by decide)) | exact Bool.noConfusion (c_.symm.trans (show ¬ (208 : Int32) = 202 by decide)))
    refine AW.aload_n dX3_read_196 rfl rfl ?_
    refine AW.getN ci4 4 (by decide) q373 dX3_read_197 (by first | exact ((hp_gb (nfx hX6)).trans ((Tk_g hXT).trans gX)) | exact ((hp_gb (nfx hX6)).trans ((Tk_g hXT).trans gX2)) | exact ((hp_gb (nfx hX6)).trans ((Tk_g hXT).trans gX3))) rfl rfl ?_
    refine AW.aload_n dX3_read_200 rfl rfl ?_
    refine AW.aload_n dX3_read_201 rfl rfl ?_
    refine AW.getN ci4 3 (by decide) q371 dX3_read_202 (by first | exact ((hp_gb (nfx hX6)).trans ((Tk_g hXT).trans gX)) | exact ((hp_gb (nfx hX6)).trans ((Tk_g hXT).trans gX2)) | exact ((hp_gb (nfx hX6)).trans ((Tk_g hXT).trans gX3))) rfl rfl ?_
    exact AW.callVX (Y := mX3_doing) (n := 1) (w9) (by decide) (by decide) rfl (gTk hT) q804 q806 qs21 q142 q807 dX3_read_205 (by decide +kernel) rfl rfl (Nat.le_of_ble_eq_true rfl) q332 rfl
  | inr e =>
    obtain ⟨⟨a, b, c⟩, j⟩ := e
    rw [hx] at q9 e1
    obtain ⟨j1, nu3, hN3, qe⟩ := q9
    obtain ⟨rfl, rfl⟩ := Prod.mk.inj qe
    have j1' : i + 1 + 1 ≤ j := j1
    have d := hA.D_
    have hET : E ≠ T := by rcases r7 with q | q <;> omega
    have hEl : E < (512 + s.b.n) := by rcases d.2.2.1 with q | q <;> omega
    have x1 : ExT T (512 + s.b.n) 1 5 s.b (s.b.push (.inr (15, [.int 208, .int a, .int b, .int c, .int (nI cls.length)])) 5) := ExT.push (Nat.le_refl _)
    have hC1 : TC (s.setb (s.b.push (.inr (15, [.int 208, .int a, .int b, .int c, .int (nI cls.length)])) 5)) T n t := hC.ext x1 (by omega)
    have g1 : ∀ k, k < (512 + s.b.n) → k ≠ T → (Tk (s.setb (s.b.push (.inr (15, [.int 208, .int a, .int b, .int c, .int (nI cls.length)])) 5)) T n t (tkL t n L0 j) nu3 (nI 0) 208).b.g k = s.b.g k := fun k hk hkT => (Tk_g hkT).trans (push_go (by omega))
    have gn : (Tk (s.setb (s.b.push (.inr (15, [.int 208, .int a, .int b, .int c, .int (nI cls.length)])) 5)) T n t (tkL t n L0 j) nu3 (nI 0) 208).b.g (512 + s.b.n) = some (.inr (15, [.int 208, .int a, .int b, .int c, .int (nI cls.length)])) := (Tk_g (by omega)).trans push_g
    have hobj : ∀ (b9 : AH) (z : Nat) (dd : Int32 × Int32 × Int32 × Int32 × Int32), 640 ≤ z → z < 512 + b9.n → b9.g z = some (.inr (15, [.int dd.1, .int dd.2.1, .int dd.2.2.1, .int dd.2.2.2.1, .int dd.2.2.2.2])) → ObjR b9 (.ref z) := fun b9 z dd h1 h2 h3 => ⟨z, 15, _, _, rfl, nfx h1, h2, h3, rfl, q2045⟩
    have hdT : ∀ k dd, (dosL cls 0)[k]? = some dd → dv k ≠ T := fun k dd hk => by have := (hD k dd hk).1; omega
    have hA1 : AL (Tk (s.setb (s.b.push (.inr (15, [.int 208, .int a, .int b, .int c, .int (nI cls.length)])) 5)) T n t (tkL t n L0 j) nu3 (nI 0) 208).b Dl E (dosL cls 0).length ix (fun k => .ref (dv k)) := hA.by_ (by show s.b.n ≤ s.b.n + 1; omega) (g1 Dl d.2.1 (by omega)) (Or.inr (g1 E hEl hET)) (fun k hk => by
      obtain ⟨a1, a2, a3⟩ := hD k _ (List.getElem?_eq_getElem hk)
      exact hobj _ _ _ (by omega) (by show _ < 512 + (s.b.n + 1); omega) ((g1 _ a2 (by omega)).trans a3))
    have hdl := dosL_len cls 0
    obtain ⟨_, ⟨b2, ⟨E2, i2, a1, a2, a3, a4, a5, a6, a7⟩, rfl⟩, w3⟩ := AL.add (s := (Tk (s.setb (s.b.push (.inr (15, [.int 208, .int a, .int b, .int c, .int (nI cls.length)])) 5)) T n t (tkL t n L0 j) nu3 (nI 0) 208)) (v := (512 + s.b.n)) hA1 hC1.bh (by omega) (hobj _ _ (208, a, b, c, nI cls.length) (by omega) (by show (512 + s.b.n) < 512 + (s.b.n + 1); omega) gn) (by omega) (by omega)
    have hb3 : hp ((Tk (s.setb (s.b.push (.inr (15, [.int 208, .int a, .int b, .int c, .int (nI cls.length)])) 5)) T n t (tkL t n L0 j) nu3 (nI 0) 208).setb b2) = hp (Tk (s.setb b2) T n t (tkL t n L0 j) nu3 (nI 0) 208) := Tk_in (s := s.setb (s.b.push (.inr (15, [.int 208, .int a, .int b, .int c, .int (nI cls.length)])) 5)) (a3 T (by show T < 512 + (s.b.n + 1); omega) (by omega) (Or.inl (Ne.symm hET)))
    have a4' : s.b.n + 1 ≤ b2.n := a4
    have a5' : b2.n ≤ s.b.n + 1 + 1 := a5
    have a6' : s.b.u + 5 ≤ b2.u := a6
    have a7' : b2.u + 4 * capN ix ≤ s.b.u + 5 + 4 * capN i2 := a7
    have a2' : E2 = E ∨ E2 = 512 + (s.b.n + 1) := a2
    have d2 := a1.D_
    have f2 : ∀ k, k < (512 + s.b.n) → k ≠ T → k ≠ Dl → (k ≠ E ∨ k < 640) → b2.g k = s.b.g k := fun k hk hkT h1 h2 => (a3 k (by show k < 512 + (s.b.n + 1); omega) h1 h2).trans (g1 k hk hkT)
    have gL1 : (hp (Tk (s.setb (s.b.push (.inr (15, [.int 208, .int a, .int b, .int c, .int (nI cls.length)])) 5)) T n t (tkL t n L0 j) nu3 (nI 0) 208)).g Dl = some (.inr (16, [.int (Classical.choose hA.2.2.1), .ref E, .int (nI (dosL cls 0).length)])) := (hp_gb (nfx (by omega))).trans ((g1 Dl d.2.1 (by omega)).trans (Classical.choose_spec hA.2.2.1))
    have gX2 : b2.g X = some (.inr (4, [ve, vl, vq, .int (nI cls.length), .ref Dl])) := (f2 X r3 hXT r5 (Or.inl r6)).trans gX
    have x2 : ExT T lo (b2.n - s.b.n) (b2.u - s.b.u) s.b b2 := ⟨by omega, by omega, by omega, by omega, fun k hk hkT => f2 k (by omega) hkT (by omega) (by omega)⟩
    have hC2 : TC (s.setb b2) T n t := hC.ext x2 (by omega)
    have e1 : x = (if (tkL t n L0 j).2.2.1 = 59 then .inr ((8, a, b, c), C, j + 1) else .inl (1, j)) := e1
    by_cases cf : (tkL t n L0 j).2.2.1 = 59
    · have hs59 : sortS (byteF t n) (tkL t n L0 j) = 59 := (so_c j (c := 59) (v := 59) (by decide) (by decide +kernel) (by decide +kernel)).mpr cf
      rw [if_pos cf] at e1
      obtain ⟨nu4, hN4, w2⟩ := r_X3_want_t hC2 j (L0 := L0) (nu := nu3) (op := nI 0) (kd := 208) 59 hs59
      have hlen : nI cls.length + 1 = nI (cls ++ [((8, a, b, c) : Cl)]).length := by
        rw [nI_succ', List.length_append]
        rfl
      have hdo : dosL (cls ++ [((8, a, b, c) : Cl)]) 0 = dosL cls 0 ++ [(208, a, b, c, nI cls.length)] := by
        rw [dosL_app, if_neg (show ¬ (8 : Int32) ≤ 2 by decide), Nat.zero_add]
        rfl
      have hdn : (dosL (cls ++ [((8, a, b, c) : Cl)]) 0).length = (dosL cls 0).length + 1 := by
        rw [hdo, List.length_append]
        rfl
      have e3 : ∀ k, k < (512 + s.b.n) → (k < 512 ∨ lo ≤ k) → k ≠ X → k ≠ Dl → k ≠ E → (b2.set X (.inr (4, [ve, vl, vq, .int (nI cls.length + 1), .ref Dl]))).g k = s.b.g k := fun k hk hl hX h1 h2 => (set_go hX).trans (f2 k hk (by omega) h1 (Or.inl h2))
      have e32 : (b2.set X (.inr (4, [ve, vl, vq, .int (nI cls.length + 1), .ref Dl]))).g 2 = s.b.g 2 := (set_go (by omega)).trans (f2 2 (by omega) (by omega) (by omega) (Or.inr (by decide)))
      have sl : ∀ {β : Type} {Y : MethodName} {g : β → (Nat → Int32) → Value} {v : Value} {f : Option β}, SlotG Y g s.b lo X Dl E v f → SlotG Y g (b2.set X (.inr (4, [ve, vl, vq, .int (nI cls.length + 1), .ref Dl]))) lo X Dl E2 v f := fun h => h.by_ (by show s.b.n ≤ b2.n; omega) e3 (by omega) (by omega) e32
      have hD3 : ∀ k dd, (dosL (cls ++ [((8, a, b, c) : Cl)]) 0)[k]? = some dd → lo ≤ up dv (dosL cls 0).length (512 + s.b.n) k ∧ up dv (dosL cls 0).length (512 + s.b.n) k < 512 + b2.n ∧ (b2.set X (.inr (4, [ve, vl, vq, .int (nI cls.length + 1), .ref Dl]))).g (up dv (dosL cls 0).length (512 + s.b.n) k) = some (.inr (15, [.int dd.1, .int dd.2.1, .int dd.2.2.1, .int dd.2.2.2.1, .int dd.2.2.2.2])) := fun k dd hk => by
        rw [hdo] at hk
        by_cases hkl : k < (dosL cls 0).length
        · rw [List.getElem?_append_left hkl] at hk
          obtain ⟨p1, p2, p3⟩ := hD k dd hk
          rw [up_ne (by omega)]
          have nX : dv k ≠ X := fun q => by
            rw [q, gX] at p3
            exact absurd (show (4 : Nat) = 15 from congrArg Prod.fst (Sum.inr.inj (Option.some.inj p3))) (by decide)
          have nD : dv k ≠ Dl := fun q => by
            rw [q, Classical.choose_spec hA.2.2.1] at p3
            exact absurd (show (16 : Nat) = 15 from congrArg Prod.fst (Sum.inr.inj (Option.some.inj p3))) (by decide)
          have nE : dv k ≠ E := fun q => by
            rcases hA.2.2.2.2.2.2.2 with z | ⟨-, -, -, -, gg, z, -⟩
            · have := z.2
              omega
            · rw [q, z] at p3
              exact Sum.inl_ne_inr (Option.some.inj p3)
          exact ⟨p1, by omega, (e3 _ p2 (Or.inr p1) nX nD nE).trans p3⟩
        · have hkl2 := (List.getElem?_eq_some_iff.mp hk).1
          rw [List.length_append] at hkl2
          have hke : k = (dosL cls 0).length := by simp only [List.length_cons, List.length_nil] at hkl2; omega
          subst hke
          rw [List.getElem?_append_right (Nat.le_refl _), Nat.sub_self] at hk
          have hk2 := Option.some.inj hk
          subst hk2
          rw [up_eq]
          exact ⟨by omega, by omega, (set_go (by omega)).trans ((a3 (512 + s.b.n) (by show _ < 512 + (s.b.n + 1); omega) (by omega) (Or.inl (by omega))).trans gn)⟩
      have hA3 : AL (b2.set X (.inr (4, [ve, vl, vq, .int (nI cls.length + 1), .ref Dl]))) Dl E2 (dosL (cls ++ [((8, a, b, c) : Cl)]) 0).length i2 (fun k => .ref (up dv (dosL cls 0).length (512 + s.b.n) k)) := by
        have z := AL.cg a1 (g := fun k => .ref (up dv (dosL cls 0).length (512 + s.b.n) k)) (fun j hj => by unfold up; split <;> rfl)
        rw [hdn]
        refine z.by_ (Nat.le_refl _) (set_go (Ne.symm r5)) (Or.inr (set_go (by omega))) (fun k hk => ?_)
        obtain ⟨p1, p2, p3⟩ := hD3 k _ (List.getElem?_eq_getElem (by rw [hdn]; exact hk))
        exact hobj _ _ _ (by omega) p2 p3
      have ap : ∀ {β : Type} {P : Cd → β → Prop} {z : Int32} {o : Option β}, ¬ (8 : Int32) = z → lwOne P z cls C o → lwOne P z (cls ++ [((8, a, b, c) : Cl)]) C o := fun hz h => by
        have := h.app ((8, a, b, c) : Cl) [] hz
        rw [List.append_nil] at this
        exact this
      have hR3 : RdS (b2.set X (.inr (4, [ve, vl, vq, .int (nI cls.length + 1), .ref Dl]))) lo X Dl i2 (cls ++ [((8, a, b, c) : Cl)]) C L := ⟨E2, ve, vl, vq, up dv (dosL cls 0).length (512 + s.b.n), ⟨r1, r2, by show X < 512 + b2.n; omega, r4, r5, by omega, by omega⟩, by rw [← hlen]; exact set_g, hA3, hD3, ⟨sl s1, sl s2, sl s3⟩, ap (by decide) hl0, ap (by decide) hl1, ap (by decide) hl2⟩
      refine StQ.r e1 (by omega) (b2 := b2.set X (.inr (4, [ve, vl, vq, .int (nI cls.length + 1), .ref Dl]))) ⟨by show s.b.n ≤ b2.n; omega, by show b2.n ≤ _; omega, by show s.b.u ≤ b2.u; omega, by show b2.u + _ ≤ _; omega, fun k hk hkT => (set_go (by omega)).trans (x2.2.2.2.2 k hk hkT)⟩ hR3 hN4 (fun o h' kk => ?_)
      refine AW.aload_n dX3_read_12 rfl rfl ?_
      refine AW.get ci3 4 (by decide) q308 dX3_read_13 (gTk hT) rfl rfl ?_
      refine AW.sipush (v := 301) dX3_read_16 (by decide) rfl ?_
      refine AW.icmp_eq (tgt := 231) dX3_read_19 (by decide) rfl (fun c_ => by first | exact absurd c_ (show ¬ sortS (byteF t n) (tkL t n L0 i) = 301 by rw [hs]; decide) | exact absurd (show ¬ sortS (byteF t n) (tkL t n L0 i) = 301 by rw [hs]; decide) c_ | exact Bool.noConfusion (c_.symm.trans (show ¬ sortS (byteF t n) (tkL t n L0 i) = 301 by rw [hs]; decide))) (fun _ => ?_)
      refine AW.aload_n dX3_read_22 rfl rfl ?_
      refine AW.get ci3 4 (by decide) q308 dX3_read_23 (gTk hT) rfl rfl ?_
      refine AW.sipush (v := 200) dX3_read_26 (by decide) rfl ?_
      refine AW.icmp_lt (tgt := 42) dX3_read_29 (by decide) rfl (fun c_ => by first | exact absurd c_ (show ¬ sortS (byteF t n) (tkL t n L0 i) < 200 by rw [hs]; decide) | exact absurd (show ¬ sortS (byteF t n) (tkL t n L0 i) < 200 by rw [hs]; decide) c_ | exact Bool.noConfusion (c_.symm.trans (show ¬ sortS (byteF t n) (tkL t n L0 i) < 200 by rw [hs]; decide))) (fun _ => ?_)
      refine AW.aload_n dX3_read_32 rfl rfl ?_
      refine AW.get ci3 4 (by decide) q308 dX3_read_33 (gTk hT) rfl rfl ?_
      refine AW.sipush (v := 208) dX3_read_36 (by decide) rfl ?_
      refine AW.icmp_le (tgt := 48) dX3_read_39 (by decide) rfl (fun _ => ?_) (fun c_ => by first | exact absurd c_ (show sortS (byteF t n) (tkL t n L0 i) ≤ 208 by rw [hs]; decide) | exact absurd (show sortS (byteF t n) (tkL t n L0 i) ≤ 208 by rw [hs]; decide) c_ | exact absurd c_ (not_not_intro (show sortS (byteF t n) (tkL t n L0 i) ≤ 208 by rw [hs]; decide)) | exact Bool.noConfusion (c_.symm.trans (show sortS (byteF t n) (tkL t n L0 i) ≤ 208 by rw [hs]; decide)))
      refine AW.aload_n dX3_read_48 rfl rfl ?_
      refine AW.aload_n dX3_read_49 rfl rfl ?_
      refine AW.get ci3 4 (by decide) q308 dX3_read_50 (gTk hT) rfl rfl ?_
      refine AW.put ci3 7 (by decide) q311 dX3_read_53 (by omega) (gTk hT) rfl (fun _ => rfl) (fun _ => rfl) (Nat.le_of_ble_eq_true rfl) ((sTk7 hT).trans (congrArg (fun z => hp (Tk s T n t (tkL t n L0 i) nu (nI 0) z)) hs)) rfl ?_
      refine AW.aload_n dX3_read_56 rfl rfl ?_
      refine AW.get ci3 7 (by decide) q311 dX3_read_57 (gTk hT) rfl rfl ?_
      refine AW.sipush (v := 200) dX3_read_60 (by decide) rfl ?_
      refine AW.icmp_ne (tgt := 73) dX3_read_63 (by decide) rfl (fun _ => ?_) (fun c_ => by first | exact absurd c_ (show ¬ (208 : Int32) = 200 by decide) | exact absurd (show ¬ (208 : Int32) = 200 by decide) c_ | exact absurd c_ (not_not_intro (show ¬ (208 : Int32) = 200 by decide)) | exact Bool.noConfusion (c_.symm.trans (show ¬ (208 : Int32) = 200 by decide)))
      refine AW.aload_n dX3_read_73 rfl rfl ?_
      refine AW.get ci3 7 (by decide) q311 dX3_read_74 (gTk hT) rfl rfl ?_
      refine AW.sipush (v := 201) dX3_read_77 (by decide) rfl ?_
      refine AW.icmp_ne (tgt := 90) dX3_read_80 (by decide) rfl (fun _ => ?_) (fun c_ => by first | exact absurd c_ (show ¬ (208 : Int32) = 201 by decide) | exact absurd (show ¬ (208 : Int32) = 201 by decide) c_ | exact absurd c_ (not_not_intro (show ¬ (208 : Int32) = 201 by decide)) | exact Bool.noConfusion (c_.symm.trans (show ¬ (208 : Int32) = 201 by decide)))
      refine AW.aload_n dX3_read_90 rfl rfl ?_
      refine AW.get ci3 7 (by decide) q311 dX3_read_91 (gTk hT) rfl rfl ?_
      refine AW.sipush (v := 202) dX3_read_94 (by decide) rfl ?_
      refine AW.icmp_ne (tgt := 113) dX3_read_97 (by decide) rfl (fun _ => ?_) (fun c_ => by first | exact absurd c_ (show ¬ (208 : Int32) = 202 by decide) | exact absurd (show ¬ (208 : Int32) = 202 by decide) c_ | exact absurd c_ (not_not_intro (show ¬ (208 : Int32) = 202 by decide)) | exact Bool.noConfusion (c_.symm.trans (show ¬ (208 : Int32) = 202 by decide)))
      refine AW.aload_n dX3_read_113 rfl rfl ?_
      refine AW.getN ci4 3 (by decide) q371 dX3_read_114 (by first | exact ((hp_gb (nfx hX6)).trans ((Tk_g hXT).trans gX)) | exact ((hp_gb (nfx hX6)).trans ((Tk_g hXT).trans gX2)) | exact ((hp_gb (nfx hX6)).trans ((Tk_g hXT).trans gX3))) rfl rfl ?_
      refine AW.bipush (v := 24) dX3_read_117 (by decide) rfl ?_
      refine AW.icmp_ne (tgt := 129) dX3_read_119 (by decide) rfl (fun _ => ?_) (fun c_ => by first | exact absurd c_ h24 | exact absurd h24 c_ | exact absurd c_ (not_not_intro h24) | exact Bool.noConfusion (c_.symm.trans h24))
      refine AW.aload_n dX3_read_129 rfl rfl ?_
      refine AW.callV (Y := mX3_next) (n := 0) (w1) (by omega) (by decide) rfl (gTk hT) q386 q388 qs1 q142 q389 dX3_read_130 (by decide +kernel) rfl rfl (Nat.le_of_ble_eq_true rfl) rfl ?_
      refine AW.aload_n dX3_read_133 rfl rfl ?_
      refine AW.get ci3 7 (by decide) q311 dX3_read_134 (gTk hT) rfl rfl ?_
      refine AW.sipush (v := 200) dX3_read_137 (by decide) rfl ?_
      refine AW.icmp_ne (tgt := 154) dX3_read_140 (by decide) rfl (fun _ => ?_) (fun c_ => by first | exact absurd c_ (show ¬ (208 : Int32) = 200 by decide) | exact absurd (show ¬ (208 : Int32) = 200 by decide) c_ | exact absurd c_ (not_not_intro (show ¬ (208 : Int32) = 200 by decide)) | exact Bool.noConfusion (c_.symm.trans (show ¬ (208 : Int32) = 200 by decide)))
      refine AW.aload_n dX3_read_154 rfl rfl ?_
      refine AW.get ci3 7 (by decide) q311 dX3_read_155 (gTk hT) rfl rfl ?_
      refine AW.sipush (v := 201) dX3_read_158 (by decide) rfl ?_
      refine AW.icmp_ne (tgt := 175) dX3_read_161 (by decide) rfl (fun _ => ?_) (fun c_ => by first | exact absurd c_ (show ¬ (208 : Int32) = 201 by decide) | exact absurd (show ¬ (208 : Int32) = 201 by decide) c_ | exact absurd c_ (not_not_intro (show ¬ (208 : Int32) = 201 by decide)) | exact Bool.noConfusion (c_.symm.trans (show ¬ (208 : Int32) = 201 by decide)))
      refine AW.aload_n dX3_read_175 rfl rfl ?_
      refine AW.get ci3 7 (by decide) q311 dX3_read_176 (gTk hT) rfl rfl ?_
      refine AW.sipush (v := 202) dX3_read_179 (by decide) rfl ?_
      refine AW.icmp_ne (tgt := 196) dX3_read_182 (by decide) rfl (fun _ => ?_) (fun c_ => by first | exact absurd c_ (show ¬ (208 : Int32) = 202 by decide) | exact absurd (show ¬ (208 : Int32) = 202 by decide) c_ | exact absurd c_ (not_not_intro (show ¬ (208 : Int32) = 202 by decide)) | exact Bool.noConfusion (c_.symm.trans (show ¬ (208 : Int32) = 202 by decide)))
      refine AW.aload_n dX3_read_196 rfl rfl ?_
      refine AW.getN ci4 4 (by decide) q373 dX3_read_197 (by first | exact ((hp_gb (nfx hX6)).trans ((Tk_g hXT).trans gX)) | exact ((hp_gb (nfx hX6)).trans ((Tk_g hXT).trans gX2)) | exact ((hp_gb (nfx hX6)).trans ((Tk_g hXT).trans gX3))) rfl rfl ?_
      refine AW.aload_n dX3_read_200 rfl rfl ?_
      refine AW.aload_n dX3_read_201 rfl rfl ?_
      refine AW.getN ci4 3 (by decide) q371 dX3_read_202 (by first | exact ((hp_gb (nfx hX6)).trans ((Tk_g hXT).trans gX)) | exact ((hp_gb (nfx hX6)).trans ((Tk_g hXT).trans gX2)) | exact ((hp_gb (nfx hX6)).trans ((Tk_g hXT).trans gX3))) rfl rfl ?_
      refine AW.callV (Y := mX3_doing) (n := 1) (w9) (by omega) (by decide) rfl (gTk hT) q804 q806 qs21 q142 q807 dX3_read_205 (by decide +kernel) rfl rfl (Nat.le_of_ble_eq_true rfl) rfl ?_
      refine AW.callV (Y := mJ2_add) (n := 1) (w3) (by omega) (by decide) rfl gL1 q773 q648 q649 q146 q650 dX3_read_208 (by decide +kernel) rfl rfl (Nat.le_of_ble_eq_true rfl) rfl ?_
      refine AW.hp hb3 ?_
      refine AW.pop dX3_read_211 rfl rfl ?_
      refine AW.aload_n dX3_read_212 rfl rfl ?_
      refine AW.bipush (v := 59) dX3_read_213 (by decide) rfl ?_
      refine AW.callV (Y := mX3_want) (n := 1) (w2) (by omega) (by decide) rfl (gTk hT) q562 q564 qs11 q142 q565 dX3_read_215 (by decide +kernel) rfl rfl (Nat.le_of_ble_eq_true rfl) rfl ?_
      refine AW.aload_n dX3_read_218 rfl rfl ?_
      refine AW.dup dX3_read_219 rfl rfl ?_
      refine AW.getN ci4 3 (by decide) q371 dX3_read_220 (by first | exact ((hp_gb (nfx hX6)).trans ((Tk_g hXT).trans gX)) | exact ((hp_gb (nfx hX6)).trans ((Tk_g hXT).trans gX2)) | exact ((hp_gb (nfx hX6)).trans ((Tk_g hXT).trans gX3))) rfl rfl ?_
      refine AW.iconst (v := 1) dX3_read_223 (by decide) rfl ?_
      refine AW.iadd dX3_read_224 rfl ?_
      refine AW.putN ci4 3 (by decide) q371 dX3_read_225 (by omega) (by first | exact ((hp_gb (nfx hX6)).trans ((Tk_g hXT).trans gX)) | exact ((hp_gb (nfx hX6)).trans ((Tk_g hXT).trans gX2)) | exact ((hp_gb (nfx hX6)).trans ((Tk_g hXT).trans gX3))) rfl (fun _ => rfl) (fun _ => rfl) (Nat.le_of_ble_eq_true rfl) ((hp_set6 hX6).trans (tk_cm (s := s.setb b2) (Ne.symm hXT))) rfl ?_
      refine AW.goto (tgt := 12) dX3_read_228 (by decide) ?_
      exact kk
    · have hs59 : ¬ sortS (byteF t n) (tkL t n L0 j) = 59 := fun q => cf ((so_c j (c := 59) (v := 59) (by decide) (by decide +kernel) (by decide +kernel)).mp q)
      rw [if_neg cf] at e1
      have w2 := r_X3_want_f (s := s.setb b2) (n := n) (at_ := (tkL t n L0 j).1) (tk := (tkL t n L0 j).2.1) (nu := nu3) (op := nI 0) (kd := 208) hT (by show T < 512 + b2.n; omega) (by show 128 ≤ b2.n; omega) 59 hs59
      have q7 : EQ T n t L0 208 (512 + b2.n) 0 0 (s.setb b2) j 1 j _ := EQ.wr (s := s.setb b2) (L0 := L0) (nu := nu3) (op := nI 0) (Nat.le_refl _) 1
      have q8 : EQ T n t L0 208 lo 0 1000 s i 1 j _ := EQ.up q7 x2 (by omega) (by omega) (by omega) (by omega)
      refine StQ.l e1 q8 ?_
      refine AW.aload_n dX3_read_12 rfl rfl ?_
      refine AW.get ci3 4 (by decide) q308 dX3_read_13 (gTk hT) rfl rfl ?_
      refine AW.sipush (v := 301) dX3_read_16 (by decide) rfl ?_
      refine AW.icmp_eq (tgt := 231) dX3_read_19 (by decide) rfl (fun c_ => by first | exact absurd c_ (show ¬ sortS (byteF t n) (tkL t n L0 i) = 301 by rw [hs]; decide) | exact absurd (show ¬ sortS (byteF t n) (tkL t n L0 i) = 301 by rw [hs]; decide) c_ | exact Bool.noConfusion (c_.symm.trans (show ¬ sortS (byteF t n) (tkL t n L0 i) = 301 by rw [hs]; decide))) (fun _ => ?_)
      refine AW.aload_n dX3_read_22 rfl rfl ?_
      refine AW.get ci3 4 (by decide) q308 dX3_read_23 (gTk hT) rfl rfl ?_
      refine AW.sipush (v := 200) dX3_read_26 (by decide) rfl ?_
      refine AW.icmp_lt (tgt := 42) dX3_read_29 (by decide) rfl (fun c_ => by first | exact absurd c_ (show ¬ sortS (byteF t n) (tkL t n L0 i) < 200 by rw [hs]; decide) | exact absurd (show ¬ sortS (byteF t n) (tkL t n L0 i) < 200 by rw [hs]; decide) c_ | exact Bool.noConfusion (c_.symm.trans (show ¬ sortS (byteF t n) (tkL t n L0 i) < 200 by rw [hs]; decide))) (fun _ => ?_)
      refine AW.aload_n dX3_read_32 rfl rfl ?_
      refine AW.get ci3 4 (by decide) q308 dX3_read_33 (gTk hT) rfl rfl ?_
      refine AW.sipush (v := 208) dX3_read_36 (by decide) rfl ?_
      refine AW.icmp_le (tgt := 48) dX3_read_39 (by decide) rfl (fun _ => ?_) (fun c_ => by first | exact absurd c_ (show sortS (byteF t n) (tkL t n L0 i) ≤ 208 by rw [hs]; decide) | exact absurd (show sortS (byteF t n) (tkL t n L0 i) ≤ 208 by rw [hs]; decide) c_ | exact absurd c_ (not_not_intro (show sortS (byteF t n) (tkL t n L0 i) ≤ 208 by rw [hs]; decide)) | exact Bool.noConfusion (c_.symm.trans (show sortS (byteF t n) (tkL t n L0 i) ≤ 208 by rw [hs]; decide)))
      refine AW.aload_n dX3_read_48 rfl rfl ?_
      refine AW.aload_n dX3_read_49 rfl rfl ?_
      refine AW.get ci3 4 (by decide) q308 dX3_read_50 (gTk hT) rfl rfl ?_
      refine AW.put ci3 7 (by decide) q311 dX3_read_53 (by omega) (gTk hT) rfl (fun _ => rfl) (fun _ => rfl) (Nat.le_of_ble_eq_true rfl) ((sTk7 hT).trans (congrArg (fun z => hp (Tk s T n t (tkL t n L0 i) nu (nI 0) z)) hs)) rfl ?_
      refine AW.aload_n dX3_read_56 rfl rfl ?_
      refine AW.get ci3 7 (by decide) q311 dX3_read_57 (gTk hT) rfl rfl ?_
      refine AW.sipush (v := 200) dX3_read_60 (by decide) rfl ?_
      refine AW.icmp_ne (tgt := 73) dX3_read_63 (by decide) rfl (fun _ => ?_) (fun c_ => by first | exact absurd c_ (show ¬ (208 : Int32) = 200 by decide) | exact absurd (show ¬ (208 : Int32) = 200 by decide) c_ | exact absurd c_ (not_not_intro (show ¬ (208 : Int32) = 200 by decide)) | exact Bool.noConfusion (c_.symm.trans (show ¬ (208 : Int32) = 200 by decide)))
      refine AW.aload_n dX3_read_73 rfl rfl ?_
      refine AW.get ci3 7 (by decide) q311 dX3_read_74 (gTk hT) rfl rfl ?_
      refine AW.sipush (v := 201) dX3_read_77 (by decide) rfl ?_
      refine AW.icmp_ne (tgt := 90) dX3_read_80 (by decide) rfl (fun _ => ?_) (fun c_ => by first | exact absurd c_ (show ¬ (208 : Int32) = 201 by decide) | exact absurd (show ¬ (208 : Int32) = 201 by decide) c_ | exact absurd c_ (not_not_intro (show ¬ (208 : Int32) = 201 by decide)) | exact Bool.noConfusion (c_.symm.trans (show ¬ (208 : Int32) = 201 by decide)))
      refine AW.aload_n dX3_read_90 rfl rfl ?_
      refine AW.get ci3 7 (by decide) q311 dX3_read_91 (gTk hT) rfl rfl ?_
      refine AW.sipush (v := 202) dX3_read_94 (by decide) rfl ?_
      refine AW.icmp_ne (tgt := 113) dX3_read_97 (by decide) rfl (fun _ => ?_) (fun c_ => by first | exact absurd c_ (show ¬ (208 : Int32) = 202 by decide) | exact absurd (show ¬ (208 : Int32) = 202 by decide) c_ | exact absurd c_ (not_not_intro (show ¬ (208 : Int32) = 202 by decide)) | exact Bool.noConfusion (c_.symm.trans (show ¬ (208 : Int32) = 202 by decide)))
      refine AW.aload_n dX3_read_113 rfl rfl ?_
      refine AW.getN ci4 3 (by decide) q371 dX3_read_114 (by first | exact ((hp_gb (nfx hX6)).trans ((Tk_g hXT).trans gX)) | exact ((hp_gb (nfx hX6)).trans ((Tk_g hXT).trans gX2)) | exact ((hp_gb (nfx hX6)).trans ((Tk_g hXT).trans gX3))) rfl rfl ?_
      refine AW.bipush (v := 24) dX3_read_117 (by decide) rfl ?_
      refine AW.icmp_ne (tgt := 129) dX3_read_119 (by decide) rfl (fun _ => ?_) (fun c_ => by first | exact absurd c_ h24 | exact absurd h24 c_ | exact absurd c_ (not_not_intro h24) | exact Bool.noConfusion (c_.symm.trans h24))
      refine AW.aload_n dX3_read_129 rfl rfl ?_
      refine AW.callV (Y := mX3_next) (n := 0) (w1) (by omega) (by decide) rfl (gTk hT) q386 q388 qs1 q142 q389 dX3_read_130 (by decide +kernel) rfl rfl (Nat.le_of_ble_eq_true rfl) rfl ?_
      refine AW.aload_n dX3_read_133 rfl rfl ?_
      refine AW.get ci3 7 (by decide) q311 dX3_read_134 (gTk hT) rfl rfl ?_
      refine AW.sipush (v := 200) dX3_read_137 (by decide) rfl ?_
      refine AW.icmp_ne (tgt := 154) dX3_read_140 (by decide) rfl (fun _ => ?_) (fun c_ => by first | exact absurd c_ (show ¬ (208 : Int32) = 200 by decide) | exact absurd (show ¬ (208 : Int32) = 200 by decide) c_ | exact absurd c_ (not_not_intro (show ¬ (208 : Int32) = 200 by decide)) | exact Bool.noConfusion (c_.symm.trans (show ¬ (208 : Int32) = 200 by decide)))
      refine AW.aload_n dX3_read_154 rfl rfl ?_
      refine AW.get ci3 7 (by decide) q311 dX3_read_155 (gTk hT) rfl rfl ?_
      refine AW.sipush (v := 201) dX3_read_158 (by decide) rfl ?_
      refine AW.icmp_ne (tgt := 175) dX3_read_161 (by decide) rfl (fun _ => ?_) (fun c_ => by first | exact absurd c_ (show ¬ (208 : Int32) = 201 by decide) | exact absurd (show ¬ (208 : Int32) = 201 by decide) c_ | exact absurd c_ (not_not_intro (show ¬ (208 : Int32) = 201 by decide)) | exact Bool.noConfusion (c_.symm.trans (show ¬ (208 : Int32) = 201 by decide)))
      refine AW.aload_n dX3_read_175 rfl rfl ?_
      refine AW.get ci3 7 (by decide) q311 dX3_read_176 (gTk hT) rfl rfl ?_
      refine AW.sipush (v := 202) dX3_read_179 (by decide) rfl ?_
      refine AW.icmp_ne (tgt := 196) dX3_read_182 (by decide) rfl (fun _ => ?_) (fun c_ => by first | exact absurd c_ (show ¬ (208 : Int32) = 202 by decide) | exact absurd (show ¬ (208 : Int32) = 202 by decide) c_ | exact absurd c_ (not_not_intro (show ¬ (208 : Int32) = 202 by decide)) | exact Bool.noConfusion (c_.symm.trans (show ¬ (208 : Int32) = 202 by decide)))
      refine AW.aload_n dX3_read_196 rfl rfl ?_
      refine AW.getN ci4 4 (by decide) q373 dX3_read_197 (by first | exact ((hp_gb (nfx hX6)).trans ((Tk_g hXT).trans gX)) | exact ((hp_gb (nfx hX6)).trans ((Tk_g hXT).trans gX2)) | exact ((hp_gb (nfx hX6)).trans ((Tk_g hXT).trans gX3))) rfl rfl ?_
      refine AW.aload_n dX3_read_200 rfl rfl ?_
      refine AW.aload_n dX3_read_201 rfl rfl ?_
      refine AW.getN ci4 3 (by decide) q371 dX3_read_202 (by first | exact ((hp_gb (nfx hX6)).trans ((Tk_g hXT).trans gX)) | exact ((hp_gb (nfx hX6)).trans ((Tk_g hXT).trans gX2)) | exact ((hp_gb (nfx hX6)).trans ((Tk_g hXT).trans gX3))) rfl rfl ?_
      refine AW.callV (Y := mX3_doing) (n := 1) (w9) (by omega) (by decide) rfl (gTk hT) q804 q806 qs21 q142 q807 dX3_read_205 (by decide +kernel) rfl rfl (Nat.le_of_ble_eq_true rfl) rfl ?_
      refine AW.callV (Y := mJ2_add) (n := 1) (w3) (by omega) (by decide) rfl gL1 q773 q648 q649 q146 q650 dX3_read_208 (by decide +kernel) rfl rfl (Nat.le_of_ble_eq_true rfl) rfl ?_
      refine AW.hp hb3 ?_
      refine AW.pop dX3_read_211 rfl rfl ?_
      refine AW.aload_n dX3_read_212 rfl rfl ?_
      refine AW.bipush (v := 59) dX3_read_213 (by decide) rfl ?_
      exact AW.callVX (Y := mX3_want) (n := 1) (w2) (by decide) (by decide) rfl (gTk hT) q562 q564 qs11 q142 q565 dX3_read_215 (by decide +kernel) rfl rfl (Nat.le_of_ble_eq_true rfl) q332 rfl
