/-! SYSTEM 32: a text read as a whole (printed by tools/x32.py) -/
set_option maxRecDepth 100000
theorem r_X4_init {s : Sg} {X : Nat} (hb : 128 ≤ s.b.n) (hX : 640 ≤ X) (hXl : X < (512 + s.b.n)) (gX : s.b.g X = some (.inr (4, [.null, .null, .null, .int 0, .null]))) : Run 6 mX4_init [.ref X] (hp s) (.inl none) (hp (s.setb ((s.b.push (.inr (16, [.int 0, .ref 2, .int 0])) 3).set X (.inr (4, [.null, .null, .null, .int 0, .ref (512 + s.b.n)]))))) := by
  have w0 := r_J2_init (s := s.setb (s.b.push (.inr (16, [.int 0, .null, .int 0])) 3)) (D := (512 + s.b.n)) (v := .null) (m := 0) (by omega) push_g
  have hw0 : hp ((s.setb (s.b.push (.inr (16, [.int 0, .null, .int 0])) 3)).setb ((s.setb (s.b.push (.inr (16, [.int 0, .null, .int 0])) 3)).b.set (512 + s.b.n) (.inr (16, [.int 0, .ref 2, .int 0])))) = hp (s.setb (s.b.push (.inr (16, [.int 0, .ref 2, .int 0])) 3)) := congrArg (fun z => hp (s.setb z)) push_set
  have ga : (hp (s.setb (s.b.push (.inr (16, [.int 0, .ref 2, .int 0])) 3))).g X = some (.inr (4, [.null, .null, .null, .int 0, .null])) := (hp_gb (nfx hX)).trans ((push_go (by omega)).trans gX)
  refine Run.of rfl (Nat.le_of_ble_eq_true rfl) rfl ?_
  refine AW.aload_n dX4_init_0 rfl rfl ?_
  refine AW.obj dX4_init_1 q338 q178 q179 (by decide) rfl (by decide) rfl ?_
  refine AW.aload_n dX4_init_4 rfl rfl ?_
  refine AW.new ci16 dX4_init_5 q339 q340 q146 dfJ2 (hp_push hb) rfl ?_
  refine AW.dup dX4_init_8 rfl rfl ?_
  refine AW.callI (Y := mJ2_init) (n := 0) (w0) (by decide) (by decide) rfl q341 q342 q146 q343 dX4_init_9 rfl (by decide +kernel) rfl rfl (Nat.le_of_ble_eq_true rfl) rfl ?_
  refine AW.hp hw0 ?_
  refine AW.putF ci4 4 (by decide) q372 dX4_init_12 (by omega) ga rfl rfl rfl (fun _ => rfl) (fun _ => rfl) (Nat.le_of_ble_eq_true rfl) (hp_set6 hX) rfl ?_
  exact AW.vretE dX4_init_15 rfl rfl rfl
theorem r_X3_init {s : Sg} {T n : Nat} (hT : 640 ≤ T) (gT : s.b.g T = some (.inr (3, [.null, .int 0, .int 0, .int 0, .int 0, .int 0, .int 0, .int 0]))) : Run 3 mX3_init [.ref T, .ref 619, .int (nI n)] (hp s) (.inl none) (hp (tkS s T n 0 0 0 0 0 0)) := by
  have ga : (hp s).g T = some (.inr (3, [.null, .int 0, .int 0, .int 0, .int 0, .int 0, .int 0, .int 0])) := (hp_gb (nfx hT)).trans gT
  have gb : (hp (s.setb (s.b.set T (.inr (3, [.ref 619, .int 0, .int 0, .int 0, .int 0, .int 0, .int 0, .int 0]))))).g T = some (.inr (3, [.ref 619, .int 0, .int 0, .int 0, .int 0, .int 0, .int 0, .int 0])) := (hp_gb (nfx hT)).trans set_g
  refine Run.of rfl (Nat.le_of_ble_eq_true rfl) rfl ?_
  refine AW.aload_n dX3_init_0 rfl rfl ?_
  refine AW.obj dX3_init_1 q303 q178 q179 (by decide) rfl (by decide) rfl ?_
  refine AW.aload_n dX3_init_4 rfl rfl ?_
  refine AW.aload_n dX3_init_5 rfl rfl ?_
  refine AW.putF ci3 0 (by decide) q304 dX3_init_6 (by omega) (by first | exact ga | exact gb) rfl rfl rfl (fun _ => rfl) (fun _ => rfl) (Nat.le_of_ble_eq_true rfl) (hp_set6 hT) rfl ?_
  refine AW.aload_n dX3_init_9 rfl rfl ?_
  refine AW.iload_n dX3_init_10 rfl rfl ?_
  refine AW.putF ci3 1 (by decide) q305 dX3_init_11 (by omega) (by first | exact ga | exact gb) rfl rfl rfl (fun _ => rfl) (fun _ => rfl) (Nat.le_of_ble_eq_true rfl) ((hp_set6 hT).trans (hsb (s := s) set_set)) rfl ?_
  exact AW.vretE dX3_init_14 rfl rfl rfl
/-- the end of a reading as a whole -/
def RdW (T n : Nat) (t : Nat → Int32) (L0 : Lq) (s : Sg) (x : Sum (Int32 × Nat) (List Cl × Cd × Nat)) (oh : OR × AH) : Prop := match x with
  | .inl e => ∃ kd2, EQ T n t L0 kd2 (512 + s.b.n) 2 2008 s 0 e.1 e.2 oh
  | .inr q => ∃ b2 nu2 kd2 L2 ix2, (s.b.n ≤ b2.n ∧ b2.n ≤ s.b.n + 2 + 16 * q.2.2 ∧ s.b.u ≤ b2.u ∧ b2.u ≤ s.b.u + 8 + 120 * q.2.2 + 4 * capN ix2 ∧ ∀ k, k < (512 + s.b.n) → k ≠ T → b2.g k = s.b.g k) ∧ RdS b2 (512 + s.b.n) (512 + s.b.n) (512 + (s.b.n + 1)) ix2 q.1 q.2.1 L2 ∧ oh = (.inl (some (.ref (512 + s.b.n))), hp (Tk (s.setb b2) T n t (tkL t n L0 q.2.2) nu2 (nI 0) kd2))
theorem r_X3_read {s : Sg} {T n : Nat} {t : Nat → Int32} (hC : TC s T n t) {tk so nu kd : Int32} (L0 : Lq) (f : Nat) (hz : ∀ j, ¬ rdT (byteF t n) (tkL t n L0) f [] [] 0 = .inl (0, j)) : RXO (RdW T n t L0 s (rdT (byteF t n) (tkL t n L0) f [] [] 0)) 52 mX3_read [.ref T] (hp (tkS s T n (nI 0) tk so nu (nI 0) kd)) := by
  have hT := hC.1
  have hTb := hC.2.1
  have h300 := hC.2.2.2.1
  have hB := hC.2.2.2.2
  have hb := hB.1
  have w0 := r_X4_init (s := (tkS (s.setb (s.b.push (.inr (4, [.null, .null, .null, .int 0, .null])) 5)) T n (nI 0) tk so nu (nI 0) kd)) (X := (512 + s.b.n)) (by show 128 ≤ s.b.n + 1; omega) (by omega) (by show _ < 512 + (s.b.n + 1); omega) ((set_go (by omega)).trans push_g)
  have bg : ∀ k, k < (512 + s.b.n) → k ≠ T → ((s.b.push (.inr (4, [.null, .null, .null, .int 0, .null])) 5).push (.inr (16, [.int 0, .ref 2, .int 0])) 3 |>.set (512 + s.b.n) (.inr (4, [.null, .null, .null, .int 0, .ref (512 + (s.b.n + 1))]))).g k = s.b.g k := fun k hk hkT => (set_go (by omega)).trans ((push_go (by show k ≠ 512 + (s.b.n + 1); omega)).trans (push_go (by omega)))
  have hw0 : hp ((tkS (s.setb (s.b.push (.inr (4, [.null, .null, .null, .int 0, .null])) 5)) T n (nI 0) tk so nu (nI 0) kd).setb (((tkS (s.setb (s.b.push (.inr (4, [.null, .null, .null, .int 0, .null])) 5)) T n (nI 0) tk so nu (nI 0) kd).b.push (.inr (16, [.int 0, .ref 2, .int 0])) 3).set (512 + s.b.n) (.inr (4, [.null, .null, .null, .int 0, .ref (512 + (tkS (s.setb (s.b.push (.inr (4, [.null, .null, .null, .int 0, .null])) 5)) T n (nI 0) tk so nu (nI 0) kd).b.n)])))) = hp (tkS (s.setb (((s.b.push (.inr (4, [.null, .null, .null, .int 0, .null])) 5).push (.inr (16, [.int 0, .ref 2, .int 0])) 3).set (512 + s.b.n) (.inr (4, [.null, .null, .null, .int 0, .ref (512 + (s.b.n + 1))])))) T n (nI 0) tk so nu (nI 0) kd) := (hsb (s := s) (congrArg (fun z => AH.set z (512 + s.b.n) (.inr (4, [.null, .null, .null, .int 0, .ref (512 + (s.b.n + 1))]))) (sset_push (b := (s.b.push (.inr (4, [.null, .null, .null, .int 0, .null])) 5)) (by show T < 512 + (s.b.n + 1); omega)))).trans (hsb (s := s) (sset_set (by omega)))
  have x1 : ExT T (512 + s.b.n) 2 8 s.b (((s.b.push (.inr (4, [.null, .null, .null, .int 0, .null])) 5).push (.inr (16, [.int 0, .ref 2, .int 0])) 3).set (512 + s.b.n) (.inr (4, [.null, .null, .null, .int 0, .ref (512 + (s.b.n + 1))]))) := ⟨by show s.b.n ≤ s.b.n + 1 + 1; omega, by show s.b.n + 1 + 1 ≤ _; omega, by show s.b.u ≤ s.b.u + 5 + 3; omega, by show s.b.u + 5 + 3 ≤ _; omega, bg⟩
  have hC1 : TC (s.setb (((s.b.push (.inr (4, [.null, .null, .null, .int 0, .null])) 5).push (.inr (16, [.int 0, .ref 2, .int 0])) 3).set (512 + s.b.n) (.inr (4, [.null, .null, .null, .int 0, .ref (512 + (s.b.n + 1))])))) T n t := hC.ext x1 (by omega)
  have w1 := r_X3_next (s := s.setb (((s.b.push (.inr (4, [.null, .null, .null, .int 0, .null])) 5).push (.inr (16, [.int 0, .ref 2, .int 0])) 3).set (512 + s.b.n) (.inr (4, [.null, .null, .null, .int 0, .ref (512 + (s.b.n + 1))])))) hC1.1 hC1.2.2.1 hC1.2.2.2.1 hC1.2.2.2.2 (tk := tk) (so := so) (nu := nu) (op := nI 0) (kd := kd) L0 0 (Nat.zero_le _)
  have gD : (((s.b.push (.inr (4, [.null, .null, .null, .int 0, .null])) 5).push (.inr (16, [.int 0, .ref 2, .int 0])) 3).set (512 + s.b.n) (.inr (4, [.null, .null, .null, .int 0, .ref (512 + (s.b.n + 1))]))).g (512 + (s.b.n + 1)) = some (.inr (16, [.int 0, .ref 2, .int 0])) := (set_go (by omega)).trans push_g
  have hR : RdS (((s.b.push (.inr (4, [.null, .null, .null, .int 0, .null])) 5).push (.inr (16, [.int 0, .ref 2, .int 0])) 3).set (512 + s.b.n) (.inr (4, [.null, .null, .null, .int 0, .ref (512 + (s.b.n + 1))]))) (512 + s.b.n) (512 + s.b.n) (512 + (s.b.n + 1)) 0 [] [] (none, none, none) := ⟨2, .null, .null, .null, fun _ => 0, ⟨by omega, Nat.le_refl _, by show _ < 512 + (s.b.n + 1 + 1); omega, by omega, by omega, by omega, Or.inl rfl⟩, set_g, ⟨by omega, by show _ < 512 + (s.b.n + 1 + 1); omega, ⟨0, gD⟩, Nat.le_refl _, by decide, Nat.le_refl _, fun j hj => absurd hj (Nat.not_lt_zero j), Or.inl ⟨rfl, rfl⟩⟩, fun k d hk => by
    rw [show (dosL [] 0)[k]? = none from rfl] at hk
    exact absurd hk.symm (Option.some_ne_none d), ⟨rfl, rfl, rfl⟩, rfl, rfl, rfl⟩
  have q := rd_loop (T := T) (n := n) (t := t) (L0 := L0) (lo := (512 + s.b.n)) (X := (512 + s.b.n)) (Dl := 512 + (s.b.n + 1)) hTb f (s.setb (((s.b.push (.inr (4, [.null, .null, .null, .int 0, .null])) 5).push (.inr (16, [.int 0, .ref 2, .int 0])) 3).set (512 + s.b.n) (.inr (4, [.null, .null, .null, .int 0, .ref (512 + (s.b.n + 1))])))) 0 kd 0 [] [] _ _ hC1 hR (Nat.zero_le _) rfl hz (nu := (nuS (byteF t n) n (spn isWs (byteF t n) n 0) nu))
  cases hx : rdT (byteF t n) (tkL t n L0) f [] [] 0 with
  | inl e =>
    obtain ⟨r, j⟩ := e
    rw [hx] at q
    obtain ⟨⟨o9, h9⟩, kd2, q1, q2⟩ := q
    have q8 : EQ T n t L0 kd2 (512 + s.b.n) 2 2008 s 0 r j (o9, h9) := EQ.up q1 x1 (Nat.le_refl _) (Nat.le_refl _) (by omega) (by have : capN 0 = 0 := rfl; omega)
    obtain ⟨-, q, b2, nu3, op3, -, -, qe⟩ := id q8
    obtain ⟨rfl, rfl⟩ := Prod.mk.inj qe
    refine ⟨_, ⟨kd2, q8⟩, ?_⟩
    refine Run.ofX rfl (Nat.le_of_ble_eq_true rfl) rfl ?_
    refine AW.new ci4 dX3_read_0 q333 q334 q143 dfX4 (tk_push hTb hb) rfl ?_
    refine AW.dup dX3_read_3 rfl rfl ?_
    refine AW.callIN (Y := mX4_init) (n := 0) (w0) (by decide) (by decide) rfl q335 q336 q143 q337 dX3_read_4 rfl (by decide +kernel) rfl rfl (Nat.le_of_ble_eq_true rfl) rfl ?_
    refine AW.hp hw0 ?_
    refine AW.astore_n (i := 1) dX3_read_7 rfl rfl (Nat.le_of_ble_eq_true rfl) rfl rfl ?_
    refine AW.aload_n dX3_read_8 rfl rfl ?_
    refine AW.callV (Y := mX3_next) (n := 0) (w1) (by decide) (by decide) rfl (gTk hT) q386 q388 qs1 q142 q389 dX3_read_9 (by decide +kernel) rfl rfl (Nat.le_of_ble_eq_true rfl) rfl ?_
    exact q2
  | inr e =>
    obtain ⟨cls, C, j⟩ := e
    rw [hx] at q
    obtain ⟨h0, b2, nu2, kd2, L2, ix2, ⟨g1, g2, g3, g4, g5⟩, h2, h4⟩ := q
    have cz : capN 0 = 0 := rfl
    have g1' : s.b.n + 1 + 1 ≤ b2.n := g1
    have g2' : b2.n ≤ s.b.n + 1 + 1 + 16 * (j - 0) := g2
    have g3' : s.b.u + 5 + 3 ≤ b2.u := g3
    have g4' : b2.u + 4 * capN 0 ≤ s.b.u + 5 + 3 + 120 * (j - 0) + 4 * capN ix2 := g4
    refine ⟨_, ⟨b2, nu2, kd2, L2, ix2, ⟨by omega, by show _ ≤ s.b.n + 2 + 16 * j; omega, by omega, by show _ ≤ s.b.u + 8 + 120 * j + _; omega, fun k hk hkT => (g5 k hk hkT).trans (bg k hk hkT)⟩, h2, rfl⟩, ?_⟩
    refine Run.of rfl (Nat.le_of_ble_eq_true rfl) rfl ?_
    refine AW.new ci4 dX3_read_0 q333 q334 q143 dfX4 (tk_push hTb hb) rfl ?_
    refine AW.dup dX3_read_3 rfl rfl ?_
    refine AW.callIN (Y := mX4_init) (n := 0) (w0) (by decide) (by decide) rfl q335 q336 q143 q337 dX3_read_4 rfl (by decide +kernel) rfl rfl (Nat.le_of_ble_eq_true rfl) rfl ?_
    refine AW.hp hw0 ?_
    refine AW.astore_n (i := 1) dX3_read_7 rfl rfl (Nat.le_of_ble_eq_true rfl) rfl rfl ?_
    refine AW.aload_n dX3_read_8 rfl rfl ?_
    refine AW.callV (Y := mX3_next) (n := 0) (w1) (by decide) (by decide) rfl (gTk hT) q386 q388 qs1 q142 q389 dX3_read_9 (by decide +kernel) rfl rfl (Nat.le_of_ble_eq_true rfl) rfl ?_
    exact h4
