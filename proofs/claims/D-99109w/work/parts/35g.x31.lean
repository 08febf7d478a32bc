/-! SYSTEM 31: tokens: a text read (printed by tools/x31.py) -/
set_option maxRecDepth 100000
def sF (so : Int32) : Int32 := if so = 200 then 0 else if so = 201 then 1 else if so = 202 then 2 else if so = 203 then 3 else if so = 204 then 4 else if so = 205 then 5 else if so = 206 then 6 else if so = 207 then 7 else if so = 208 then 8 else -1
theorem sf_tk {t : Nat → Int32} {n : Nat} {L0 : Lq} (hn : n ≤ 300) (i : Nat) : sortF (tkL t n L0 i) = sF (sortS (byteF t n) (tkL t n L0 i)) := by
  unfold sortF sF
  have e0 : (isWd (tkL t n L0 i) (w5F 101 97 114 110 115) = true) = (sortS (byteF t n) (tkL t n L0 i) = 200) := propext (so_w hn i (k := 0) (by decide) (by decide) (by decide +kernel)).symm
  have e1 : (isWd (tkL t n L0 i) (w5F 108 111 115 101 115) = true) = (sortS (byteF t n) (tkL t n L0 i) = 201) := propext (so_w hn i (k := 1) (by decide) (by decide) (by decide +kernel)).symm
  have e2 : (isWd (tkL t n L0 i) (w4F 108 101 116 115) = true) = (sortS (byteF t n) (tkL t n L0 i) = 202) := propext (so_w hn i (k := 2) (by decide) (by decide) (by decide +kernel)).symm
  have e3 : (isWd (tkL t n L0 i) (w5F 104 111 117 115 101) = true) = (sortS (byteF t n) (tkL t n L0 i) = 203) := propext (so_w hn i (k := 3) (by decide) (by decide) (by decide +kernel)).symm
  have e4 : (isWd (tkL t n L0 i) (w5F 107 110 111 99 107) = true) = (sortS (byteF t n) (tkL t n L0 i) = 204) := propext (so_w hn i (k := 4) (by decide) (by decide) (by decide +kernel)).symm
  have e5 : (isWd (tkL t n L0 i) (w5F 109 97 114 114 121) = true) = (sortS (byteF t n) (tkL t n L0 i) = 205) := propext (so_w hn i (k := 5) (by decide) (by decide) (by decide +kernel)).symm
  have e6 : (isWd (tkL t n L0 i) (w3F 104 97 116) = true) = (sortS (byteF t n) (tkL t n L0 i) = 206) := propext (so_w hn i (k := 6) (by decide) (by decide) (by decide +kernel)).symm
  have e7 : (isWd (tkL t n L0 i) (w6F 102 111 114 103 101 116) = true) = (sortS (byteF t n) (tkL t n L0 i) = 207) := propext (so_w hn i (k := 7) (by decide) (by decide) (by decide +kernel)).symm
  have e8 : (isWd (tkL t n L0 i) (w3F 100 97 121) = true) = (sortS (byteF t n) (tkL t n L0 i) = 208) := propext (so_w hn i (k := 8) (by decide) (by decide) (by decide +kernel)).symm
  simp only [e0, e1, e2, e3, e4, e5, e6, e7, e8]
theorem sF_or {so : Int32} (h : ¬ so < 200) (h2 : so ≤ 208) : so = 200 ∨ so = 201 ∨ so = 202 ∨ so = 203 ∨ so = 204 ∨ so = 205 ∨ so = 206 ∨ so = 207 ∨ so = 208 := by
  have a : (200 : Int32).toInt = 200 := rfl
  have b : (208 : Int32).toInt = 208 := rfl
  rw [Int32.lt_iff_toInt_lt, a] at h
  rw [Int32.le_iff_toInt_le, b] at h2
  have c : ∀ k : Int32, so = k ↔ so.toInt = k.toInt := fun k => Int32.toInt_inj.symm
  rw [c 200, c 201, c 202, c 203, c 204, c 205, c 206, c 207, c 208]
  have c1 : (201 : Int32).toInt = 201 := rfl
  have c2 : (202 : Int32).toInt = 202 := rfl
  have c3 : (203 : Int32).toInt = 203 := rfl
  have c4 : (204 : Int32).toInt = 204 := rfl
  have c5 : (205 : Int32).toInt = 205 := rfl
  have c6 : (206 : Int32).toInt = 206 := rfl
  have c7 : (207 : Int32).toInt = 207 := rfl
  omega
/-- what the reading of a text ends in -/
def RdE (T n : Nat) (t : Nat → Int32) (L0 : Lq) (lo X Dl ix : Nat) (s : Sg) (i : Nat) (kd nu : Int32) (x : Sum (Int32 × Nat) (List Cl × Cd × Nat)) : Prop := match x with
  | .inl e => ∃ oh kd2, EQ T n t L0 kd2 lo 0 (2000 - 4 * capN ix) s i e.1 e.2 oh ∧ AW 52 mX3_read (hp (Tk s T n t (tkL t n L0 i) nu (nI 0) kd)) 12 [some (.ref T), some (.ref X)] [] oh.1 oh.2
  | .inr q => i ≤ q.2.2 ∧ ∃ b2 nu2 kd2 L2 ix2, (s.b.n ≤ b2.n ∧ b2.n ≤ s.b.n + 16 * (q.2.2 - i) ∧ s.b.u ≤ b2.u ∧ b2.u + 4 * capN ix ≤ s.b.u + 120 * (q.2.2 - i) + 4 * capN ix2 ∧ ∀ k, k < lo → k ≠ T → b2.g k = s.b.g k) ∧ RdS b2 lo X Dl ix2 q.1 q.2.1 L2 ∧ AW 52 mX3_read (hp (Tk s T n t (tkL t n L0 i) nu (nI 0) kd)) 12 [some (.ref T), some (.ref X)] [] (.inl (some (.ref X))) (hp (Tk (s.setb b2) T n t (tkL t n L0 q.2.2) nu2 (nI 0) kd2))
def cnt9 (B : Nat → Int32) (K : Nat → Lq) (f : Nat) (cls : List Cl) (y : CR) : Sum (Int32 × Nat) (List Cl × Cd × Nat) := match y with
  | .inl e => .inl e
  | .inr q => rdT B K f (cls ++ [q.1]) q.2.1 q.2.2
section RDE
variable {T n : Nat} {t : Nat → Int32} {L0 : Lq} {lo X Dl ix : Nat} {s : Sg} {i : Nat} {kd nu : Int32} {x : Sum (Int32 × Nat) (List Cl × Cd × Nat)}
theorem RdE.l {r : Int32} {j : Nat} (hx : x = .inl (r, j)) {oh : OR × AH} {kd2 : Int32} (h : EQ T n t L0 kd2 lo 0 (2000 - 4 * capN ix) s i r j oh) (w : AW 52 mX3_read (hp (Tk s T n t (tkL t n L0 i) nu (nI 0) kd)) 12 [some (.ref T), some (.ref X)] [] oh.1 oh.2) : RdE T n t L0 lo X Dl ix s i kd nu x := by
  subst hx
  exact ⟨oh, kd2, h, w⟩
theorem RdE.r {cls2 : List Cl} {C2 : Cd} {j : Nat} (hx : x = .inr (cls2, C2, j)) (h0 : i ≤ j) {b2 : AH} {nu2 kd2 : Int32} {L2 : Lw} {ix2 : Nat} (h1 : s.b.n ≤ b2.n ∧ b2.n ≤ s.b.n + 16 * (j - i) ∧ s.b.u ≤ b2.u ∧ b2.u + 4 * capN ix ≤ s.b.u + 120 * (j - i) + 4 * capN ix2 ∧ ∀ k, k < lo → k ≠ T → b2.g k = s.b.g k) (h2 : RdS b2 lo X Dl ix2 cls2 C2 L2) (h4 : AW 52 mX3_read (hp (Tk s T n t (tkL t n L0 i) nu (nI 0) kd)) 12 [some (.ref T), some (.ref X)] [] (.inl (some (.ref X))) (hp (Tk (s.setb b2) T n t (tkL t n L0 j) nu2 (nI 0) kd2))) : RdE T n t L0 lo X Dl ix s i kd nu x := by
  subst hx
  exact ⟨h0, b2, nu2, kd2, L2, ix2, h1, h2, h4⟩
/-- a clause read, then the rest -/
theorem RdE.step {f : Nat} {kd2 : Int32} {cls : List Cl} {y : CR} (hC : TC s T n t) (hlo : 640 ≤ lo) (h : StQ T n t L0 lo X Dl ix s i kd kd2 nu cls y) (hx : x = cnt9 (byteF t n) (tkL t n L0) f cls y) (ih : ∀ (s2 : Sg) (i2 : Nat) (kd3 nu3 : Int32) (ix2 : Nat) (cls2 : List Cl) (C2 : Cd) (L2 : Lw) (x2 : Sum (Int32 × Nat) (List Cl × Cd × Nat)), TC s2 T n t → RdS s2.b lo X Dl ix2 cls2 C2 L2 → cls2.length ≤ cls.length + 1 → x2 = rdT (byteF t n) (tkL t n L0) f cls2 C2 i2 → x = x2 → RdE T n t L0 lo X Dl ix2 s2 i2 kd3 nu3 x2) : RdE T n t L0 lo X Dl ix s i kd nu x := by
  have cl1 := capN_le ix
  cases y with
  | inl e =>
    obtain ⟨r, j⟩ := e
    obtain ⟨oh, h1, h2⟩ := h
    exact RdE.l hx (EQ.up (b1 := s.b) (show EQ T n t L0 kd2 lo 0 1000 (s.setb s.b) i r j oh from h1) (ExT.refl T lo s.b) (Nat.le_refl _) (Nat.le_refl _) (by omega) (by omega)) h2
  | inr q =>
    obtain ⟨cl, C2, j⟩ := q
    obtain ⟨h0, b2, nu2, L2, ix2, ⟨g1, g2, g3, g4, g5⟩, h2, h3, h4⟩ := h
    have h0' : i + 2 ≤ j := h0
    have g2' : b2.n ≤ s.b.n + 16 * (j - i) := g2
    have g4' : b2.u + 4 * capN ix ≤ s.b.u + 120 * (j - i) + 4 * capN ix2 := g4
    have cl2 := capN_le ix2
    have x1 : ExT T lo (b2.n - s.b.n) (b2.u - s.b.u) s.b b2 := ⟨by omega, by omega, by omega, by omega, g5⟩
    have q := ih (s.setb b2) j kd2 nu2 ix2 (cls ++ [cl]) C2 L2 x (hC.ext x1 (by omega)) h2 (by rw [List.length_append]; exact Nat.le_refl _) hx rfl
    cases x with
    | inl e =>
      obtain ⟨r, j2⟩ := e
      obtain ⟨oh, kd4, q1, q2⟩ := q
      exact RdE.l rfl (EQ.up q1 x1 (Nat.le_refl _) (by omega) (by omega) (by omega)) (h4 _ _ q2)
    | inr e =>
      obtain ⟨cls3, C3, j3⟩ := e
      obtain ⟨p0, b3, nu4, kd4, L3, ix3, ⟨p1, p2, p3, p4, p5⟩, p6, p7⟩ := q
      have p0' : j ≤ j3 := p0
      have p1' : b2.n ≤ b3.n := p1
      have p2' : b3.n ≤ b2.n + 16 * (j3 - j) := p2
      have p3' : b2.u ≤ b3.u := p3
      have p4' : b3.u + 4 * capN ix2 ≤ b2.u + 120 * (j3 - j) + 4 * capN ix3 := p4
      exact RdE.r rfl (by omega) ⟨by omega, by omega, by omega, by omega, fun k hk hkT => (p5 k hk hkT).trans (g5 k hk hkT)⟩ p6 (h4 _ _ p7)
end RDE
theorem sF_lo {so : Int32} (h : so < 200 ∨ ¬ so ≤ 208) : sF so < 0 := by
  unfold sF
  repeat' split
  all_goals first
    | decide
    | (rename_i q; subst q; exact absurd h (by decide))
theorem rd_loop {T n : Nat} {t : Nat → Int32} {L0 : Lq} {lo X Dl : Nat} (hTlo : T < lo) : ∀ (f : Nat) (s : Sg) (i : Nat) (kd nu : Int32) (ix : Nat) (cls : List Cl) (C : Cd) (L : Lw) (x : Sum (Int32 × Nat) (List Cl × Cd × Nat)), TC s T n t → RdS s.b lo X Dl ix cls C L → cls.length ≤ 24 → x = rdT (byteF t n) (tkL t n L0) f cls C i → (∀ j, ¬ x = .inl (0, j)) → RdE T n t L0 lo X Dl ix s i kd nu x
  | 0, s, i, kd, nu, ix, cls, C, L, x, _, _, _, e0, hz => absurd e0 (hz i)
  | f + 1, s, i, kd, nu, ix, cls, C, L, x, hC, hR, hl24, e0, hz => by
    have hT := hC.1
    have hTb := hC.2.1
    have h300 := hC.2.2.2.1
    have hB := hC.2.2.2.2
    have hb := hB.1
    have hR0 := hR
    have cl1 := capN_le ix
    obtain ⟨E, ve, vl, vq, dv, ⟨r1, r2, r3, r4, r5, r6, r7⟩, gX, hA, hD, ⟨s1, s2, s3⟩, hl0, hl1, hl2⟩ := hR
    have hX6 : 640 ≤ X := by omega
    have hXT : X ≠ T := by omega
    have e1 : x = (if (tkL t n L0 i).2.2.1 = 0 then .inr (cls, C, i) else match clR (byteF t n) (tkL t n L0) cls C i with
        | .inl e => .inl e
        | .inr q => rdT (byteF t n) (tkL t n L0) f (cls ++ [q.1]) q.2.1 q.2.2) := e0
    have wr : ∀ (r kd9 : Int32), Run 8 mX3_wrong [.ref T, .int r] (hp (Tk s T n t (tkL t n L0 i) nu (nI 0) kd9)) (.inl (some (.ref (512 + s.b.n)))) (hp (Tk (s.setb (s.b.push (wrC (512 + s.b.n) r (tkL t n L0 i).2.1) 8)) T n t (tkL t n L0 i) nu (nI 0) kd9)) := fun r kd9 => r_X3_wrong hT hTb hb r
    have eq : ∀ (r kd9 : Int32), EQ T n t L0 kd9 lo 0 (2000 - 4 * capN ix) s i r i (.inr (512 + s.b.n), hp (Tk (s.setb (s.b.push (wrC (512 + s.b.n) r (tkL t n L0 i).2.1) 8)) T n t (tkL t n L0 i) nu (nI 0) kd9)) := fun r kd9 => EQ.wr (by omega) r
    by_cases k0 : (tkL t n L0 i).2.2.1 = 0
    · rw [if_pos k0] at e1
      have hs : sortS (byteF t n) (tkL t n L0 i) = 301 := (so_c i (c := 301) (v := 0) (by decide) (by decide +kernel) (by decide +kernel)).mpr k0
      refine RdE.r e1 (Nat.le_refl _) (b2 := s.b) (nu2 := nu) (kd2 := kd) (ix2 := ix) ⟨Nat.le_refl _, by omega, Nat.le_refl _, by omega, fun k _ _ => rfl⟩ hR0 ?_
      refine AW.aload_n dX3_read_12 rfl rfl ?_
      refine AW.get ci3 4 (by decide) q308 dX3_read_13 (gTk hT) rfl rfl ?_
      refine AW.sipush (v := 301) dX3_read_16 (by decide) rfl ?_
      refine AW.icmp_eq (tgt := 231) dX3_read_19 (by decide) rfl (fun _ => ?_) (fun c_ => by first | exact absurd c_ hs | exact absurd hs c_ | exact absurd c_ (not_not_intro hs) | exact Bool.noConfusion (c_.symm.trans hs))
      refine AW.aload_n dX3_read_231 rfl rfl ?_
      exact AW.aretE dX3_read_232 rfl (Or.inl ⟨_, rfl⟩) (Or.inr ⟨_, rfl⟩) rfl rfl rfl
    rw [if_neg k0] at e1
    have hs301 : ¬ sortS (byteF t n) (tkL t n L0 i) = 301 := fun q => k0 ((so_c i (c := 301) (v := 0) (by decide) (by decide +kernel) (by decide +kernel)).mp q)
    have hsf := sf_tk (t := t) (L0 := L0) h300 i
    by_cases ca : sortS (byteF t n) (tkL t n L0 i) < 200
    · have hc : clR (byteF t n) (tkL t n L0) cls C i = .inl (1, i) := by
        unfold clR
        rw [if_pos (by rw [hsf]; exact sF_lo (Or.inl ca))]
      rw [hc] at e1
      refine RdE.l e1 (eq 1 kd) ?_
      refine AW.aload_n dX3_read_12 rfl rfl ?_
      refine AW.get ci3 4 (by decide) q308 dX3_read_13 (gTk hT) rfl rfl ?_
      refine AW.sipush (v := 301) dX3_read_16 (by decide) rfl ?_
      refine AW.icmp_eq (tgt := 231) dX3_read_19 (by decide) rfl (fun c_ => by first | exact absurd c_ hs301 | exact absurd hs301 c_ | exact Bool.noConfusion (c_.symm.trans hs301)) (fun _ => ?_)
      refine AW.aload_n dX3_read_22 rfl rfl ?_
      refine AW.get ci3 4 (by decide) q308 dX3_read_23 (gTk hT) rfl rfl ?_
      refine AW.sipush (v := 200) dX3_read_26 (by decide) rfl ?_
      refine AW.icmp_lt (tgt := 42) dX3_read_29 (by decide) rfl (fun _ => ?_) (fun c_ => by first | exact absurd c_ ca | exact absurd ca c_ | exact absurd c_ (not_not_intro ca) | exact Bool.noConfusion (c_.symm.trans ca))
      refine AW.aload_n dX3_read_42 rfl rfl ?_
      refine AW.iconst (v := 1) dX3_read_43 (by decide) rfl ?_
      refine AW.callV (Y := mX3_wrong) (n := 1) (wr _ _) (by decide) (by decide) rfl (gTk hT) q455 q457 qs3 q142 q458 dX3_read_44 (by decide +kernel) rfl rfl (Nat.le_of_ble_eq_true rfl) rfl ?_
      exact AW.athrow dX3_read_47 q332 (by omega) ((tk_g (nfx (by omega)) (by omega)).trans push_g) rfl
    by_cases cb : ¬ sortS (byteF t n) (tkL t n L0 i) ≤ 208
    · have hc : clR (byteF t n) (tkL t n L0) cls C i = .inl (1, i) := by
        unfold clR
        rw [if_pos (by rw [hsf]; exact sF_lo (Or.inr cb))]
      rw [hc] at e1
      refine RdE.l e1 (eq 1 kd) ?_
      refine AW.aload_n dX3_read_12 rfl rfl ?_
      refine AW.get ci3 4 (by decide) q308 dX3_read_13 (gTk hT) rfl rfl ?_
      refine AW.sipush (v := 301) dX3_read_16 (by decide) rfl ?_
      refine AW.icmp_eq (tgt := 231) dX3_read_19 (by decide) rfl (fun c_ => by first | exact absurd c_ hs301 | exact absurd hs301 c_ | exact Bool.noConfusion (c_.symm.trans hs301)) (fun _ => ?_)
      refine AW.aload_n dX3_read_22 rfl rfl ?_
      refine AW.get ci3 4 (by decide) q308 dX3_read_23 (gTk hT) rfl rfl ?_
      refine AW.sipush (v := 200) dX3_read_26 (by decide) rfl ?_
      refine AW.icmp_lt (tgt := 42) dX3_read_29 (by decide) rfl (fun c_ => by first | exact absurd c_ ca | exact absurd ca c_ | exact Bool.noConfusion (c_.symm.trans ca)) (fun _ => ?_)
      refine AW.aload_n dX3_read_32 rfl rfl ?_
      refine AW.get ci3 4 (by decide) q308 dX3_read_33 (gTk hT) rfl rfl ?_
      refine AW.sipush (v := 208) dX3_read_36 (by decide) rfl ?_
      refine AW.icmp_le (tgt := 48) dX3_read_39 (by decide) rfl (fun c_ => by first | exact absurd c_ cb | exact absurd cb c_ | exact Bool.noConfusion (c_.symm.trans cb)) (fun _ => ?_)
      refine AW.aload_n dX3_read_42 rfl rfl ?_
      refine AW.iconst (v := 1) dX3_read_43 (by decide) rfl ?_
      refine AW.callV (Y := mX3_wrong) (n := 1) (wr _ _) (by decide) (by decide) rfl (gTk hT) q455 q457 qs3 q142 q458 dX3_read_44 (by decide +kernel) rfl rfl (Nat.le_of_ble_eq_true rfl) rfl ?_
      exact AW.athrow dX3_read_47 q332 (by omega) ((tk_g (nfx (by omega)) (by omega)).trans push_g) rfl
    rcases sF_or ca (Classical.not_not.mp cb) with hs | hs | hs | hs | hs | hs | hs | hs | hs
    · have hf : sortF (tkL t n L0 i) = 0 := by rw [hsf, hs]; decide
      by_cases hh : hasS cls 0 = true
      · have hc : clR (byteF t n) (tkL t n L0) cls C i = .inl (4, i) := by
          unfold clR
          rw [hf, if_neg (by decide), if_pos ⟨by decide, hh⟩]
        rw [hc] at e1
        obtain ⟨F, hF⟩ := hl0.no.2 hh
        have s9 := s1
        rw [hF] at s9
        obtain ⟨a, lo1, hi1, rfl, -⟩ := s9
        refine RdE.l e1 (eq 4 200) ?_
        refine AW.aload_n dX3_read_12 rfl rfl ?_
        refine AW.get ci3 4 (by decide) q308 dX3_read_13 (gTk hT) rfl rfl ?_
        refine AW.sipush (v := 301) dX3_read_16 (by decide) rfl ?_
        refine AW.icmp_eq (tgt := 231) dX3_read_19 (by decide) rfl (fun c_ => by first | exact absurd c_ (show ¬ sortS (byteF t n) (tkL t n L0 i) = 301 by rw [hs]; decide) | exact absurd (show ¬ sortS (byteF t n) (tkL t n L0 i) = 301 by rw [hs]; decide) c_ | exact Bool.noConfusion (c_.symm.trans (show ¬ sortS (byteF t n) (tkL t n L0 i) = 301 by rw [hs]; decide))) (fun _ => ?_)
        refine AW.aload_n dX3_read_22 rfl rfl ?_
        refine AW.get ci3 4 (by decide) q308 dX3_read_23 (gTk hT) rfl rfl ?_
        refine AW.sipush (v := 200) dX3_read_26 (by decide) rfl ?_
        refine AW.icmp_lt (tgt := 42) dX3_read_29 (by decide) rfl (fun c_ => by first | exact absurd c_ (show ¬ sortS (byteF t n) (tkL t n L0 i) < 200 by rw [hs]; decide) | exact absurd (show ¬ sortS (byteF t n) (tkL t n L0 i) < 200 by rw [hs]; decide) c_ | exact Bool.noConfusion (c_.symm.trans (show ¬ sortS (byteF t n) (tkL t n L0 i) < 200 by rw [hs]; decide))) (fun _ => ?_)
        refine AW.aload_n dX3_read_32 rfl rfl ?_
        refine AW.get ci3 4 (by decide) q308 dX3_read_33 (gTk hT) rfl rfl ?_
        refine AW.sipush (v := 208) dX3_read_36 (by decide) rfl ?_
        refine AW.icmp_le (tgt := 48) dX3_read_39 (by decide) rfl (fun _ => ?_) (fun c_ => by first | exact absurd c_ (show sortS (byteF t n) (tkL t n L0 i) ≤ 208 by rw [hs]; decide) | exact absurd (show sortS (byteF t n) (tkL t n L0 i) ≤ 208 by rw [hs]; decide) c_ | exact absurd c_ (not_not_intro (show sortS (byteF t n) (tkL t n L0 i) ≤ 208 by rw [hs]; decide)) | exact Bool.noConfusion (c_.symm.trans (show sortS (byteF t n) (tkL t n L0 i) ≤ 208 by rw [hs]; decide)))
        refine AW.aload_n dX3_read_48 rfl rfl ?_
        refine AW.aload_n dX3_read_49 rfl rfl ?_
        refine AW.get ci3 4 (by decide) q308 dX3_read_50 (gTk hT) rfl rfl ?_
        refine AW.put ci3 7 (by decide) q311 dX3_read_53 (by omega) (gTk hT) rfl (fun _ => rfl) (fun _ => rfl) (Nat.le_of_ble_eq_true rfl) ((sTk7 hT).trans (congrArg (fun z => hp (Tk s T n t (tkL t n L0 i) nu (nI 0) z)) hs)) rfl ?_
        refine AW.aload_n dX3_read_56 rfl rfl ?_
        refine AW.get ci3 7 (by decide) q311 dX3_read_57 (gTk hT) rfl rfl ?_
        refine AW.sipush (v := 200) dX3_read_60 (by decide) rfl ?_
        refine AW.icmp_ne (tgt := 73) dX3_read_63 (by decide) rfl (fun c_ => by first | exact absurd c_ (show (200 : Int32) = 200 from rfl) | exact absurd (show (200 : Int32) = 200 from rfl) c_ | exact Bool.noConfusion (c_.symm.trans (show (200 : Int32) = 200 from rfl))) (fun _ => ?_)
        refine AW.aload_n dX3_read_66 rfl rfl ?_
        refine AW.getN ci4 0 (by decide) q365 dX3_read_67 ((hp_gb (nfx hX6)).trans ((Tk_g hXT).trans gX)) rfl rfl ?_
        refine AW.ifnonnull (tgt := 107) dX3_read_70 (by decide) ?_
        refine AW.aload_n dX3_read_107 rfl rfl ?_
        refine AW.iconst (v := 4) dX3_read_108 (by decide) rfl ?_
        refine AW.callV (Y := mX3_wrong) (n := 1) (wr _ _) (by decide) (by decide) rfl (gTk hT) q455 q457 qs3 q142 q458 dX3_read_109 (by decide +kernel) rfl rfl (Nat.le_of_ble_eq_true rfl) rfl ?_
        exact AW.athrow dX3_read_112 q332 (by omega) ((tk_g (nfx (by omega)) (by omega)).trans push_g) rfl
      have hno : hasS cls 0 = false := Bool.not_eq_true _ ▸ hh
      by_cases h24 : cls.length = 24
      · have hc : clR (byteF t n) (tkL t n L0) cls C i = .inl (6, i) := by
          unfold clR
          rw [hf, if_neg (by decide), if_neg (fun q => hh q.2), if_pos h24]
        rw [hc] at e1
        have s9 := s1
        rw [hl0.no.1 hno] at s9
        have s9 : ve = .null := s9
        subst s9
        have h24 : nI cls.length = 24 := congrArg nI h24
        refine RdE.l e1 (eq 6 200) ?_
        refine AW.aload_n dX3_read_12 rfl rfl ?_
        refine AW.get ci3 4 (by decide) q308 dX3_read_13 (gTk hT) rfl rfl ?_
        refine AW.sipush (v := 301) dX3_read_16 (by decide) rfl ?_
        refine AW.icmp_eq (tgt := 231) dX3_read_19 (by decide) rfl (fun c_ => by first | exact absurd c_ (show ¬ sortS (byteF t n) (tkL t n L0 i) = 301 by rw [hs]; decide) | exact absurd (show ¬ sortS (byteF t n) (tkL t n L0 i) = 301 by rw [hs]; decide) c_ | exact Bool.noConfusion (c_.symm.trans (show ¬ sortS (byteF t n) (tkL t n L0 i) = 301 by rw [hs]; decide))) (fun _ => ?_)
        refine AW.aload_n dX3_read_22 rfl rfl ?_
        refine AW.get ci3 4 (by decide) q308 dX3_read_23 (gTk hT) rfl rfl ?_
        refine AW.sipush (v := 200) dX3_read_26 (by decide) rfl ?_
        refine AW.icmp_lt (tgt := 42) dX3_read_29 (by decide) rfl (fun c_ => by first | exact absurd c_ (show ¬ sortS (byteF t n) (tkL t n L0 i) < 200 by rw [hs]; decide) | exact absurd (show ¬ sortS (byteF t n) (tkL t n L0 i) < 200 by rw [hs]; decide) c_ | exact Bool.noConfusion (c_.symm.trans (show ¬ sortS (byteF t n) (tkL t n L0 i) < 200 by rw [hs]; decide))) (fun _ => ?_)
        refine AW.aload_n dX3_read_32 rfl rfl ?_
        refine AW.get ci3 4 (by decide) q308 dX3_read_33 (gTk hT) rfl rfl ?_
        refine AW.sipush (v := 208) dX3_read_36 (by decide) rfl ?_
        refine AW.icmp_le (tgt := 48) dX3_read_39 (by decide) rfl (fun _ => ?_) (fun c_ => by first | exact absurd c_ (show sortS (byteF t n) (tkL t n L0 i) ≤ 208 by rw [hs]; decide) | exact absurd (show sortS (byteF t n) (tkL t n L0 i) ≤ 208 by rw [hs]; decide) c_ | exact absurd c_ (not_not_intro (show sortS (byteF t n) (tkL t n L0 i) ≤ 208 by rw [hs]; decide)) | exact Bool.noConfusion (c_.symm.trans (show sortS (byteF t n) (tkL t n L0 i) ≤ 208 by rw [hs]; decide)))
        refine AW.aload_n dX3_read_48 rfl rfl ?_
        refine AW.aload_n dX3_read_49 rfl rfl ?_
        refine AW.get ci3 4 (by decide) q308 dX3_read_50 (gTk hT) rfl rfl ?_
        refine AW.put ci3 7 (by decide) q311 dX3_read_53 (by omega) (gTk hT) rfl (fun _ => rfl) (fun _ => rfl) (Nat.le_of_ble_eq_true rfl) ((sTk7 hT).trans (congrArg (fun z => hp (Tk s T n t (tkL t n L0 i) nu (nI 0) z)) hs)) rfl ?_
        refine AW.aload_n dX3_read_56 rfl rfl ?_
        refine AW.get ci3 7 (by decide) q311 dX3_read_57 (gTk hT) rfl rfl ?_
        refine AW.sipush (v := 200) dX3_read_60 (by decide) rfl ?_
        refine AW.icmp_ne (tgt := 73) dX3_read_63 (by decide) rfl (fun c_ => by first | exact absurd c_ (show (200 : Int32) = 200 from rfl) | exact absurd (show (200 : Int32) = 200 from rfl) c_ | exact Bool.noConfusion (c_.symm.trans (show (200 : Int32) = 200 from rfl))) (fun _ => ?_)
        refine AW.aload_n dX3_read_66 rfl rfl ?_
        refine AW.getN ci4 0 (by decide) q365 dX3_read_67 ((hp_gb (nfx hX6)).trans ((Tk_g hXT).trans gX)) rfl rfl ?_
        refine AW.ifnonnullN dX3_read_70 rfl ?_
        refine AW.aload_n dX3_read_73 rfl rfl ?_
        refine AW.get ci3 7 (by decide) q311 dX3_read_74 (gTk hT) rfl rfl ?_
        refine AW.sipush (v := 201) dX3_read_77 (by decide) rfl ?_
        refine AW.icmp_ne (tgt := 90) dX3_read_80 (by decide) rfl (fun _ => ?_) (fun c_ => by first | exact absurd c_ (show ¬ (200 : Int32) = 201 by decide) | exact absurd (show ¬ (200 : Int32) = 201 by decide) c_ | exact absurd c_ (not_not_intro (show ¬ (200 : Int32) = 201 by decide)) | exact Bool.noConfusion (c_.symm.trans (show ¬ (200 : Int32) = 201 by decide)))
        refine AW.aload_n dX3_read_90 rfl rfl ?_
        refine AW.get ci3 7 (by decide) q311 dX3_read_91 (gTk hT) rfl rfl ?_
        refine AW.sipush (v := 202) dX3_read_94 (by decide) rfl ?_
        refine AW.icmp_ne (tgt := 113) dX3_read_97 (by decide) rfl (fun _ => ?_) (fun c_ => by first | exact absurd c_ (show ¬ (200 : Int32) = 202 by decide) | exact absurd (show ¬ (200 : Int32) = 202 by decide) c_ | exact absurd c_ (not_not_intro (show ¬ (200 : Int32) = 202 by decide)) | exact Bool.noConfusion (c_.symm.trans (show ¬ (200 : Int32) = 202 by decide)))
        refine AW.aload_n dX3_read_113 rfl rfl ?_
        refine AW.getN ci4 3 (by decide) q371 dX3_read_114 ((hp_gb (nfx hX6)).trans ((Tk_g hXT).trans gX)) rfl rfl ?_
        refine AW.bipush (v := 24) dX3_read_117 (by decide) rfl ?_
        refine AW.icmp_ne (tgt := 129) dX3_read_119 (by decide) rfl (fun c_ => by first | exact absurd c_ h24 | exact absurd h24 c_ | exact Bool.noConfusion (c_.symm.trans h24)) (fun _ => ?_)
        refine AW.aload_n dX3_read_122 rfl rfl ?_
        refine AW.bipush (v := 6) dX3_read_123 (by decide) rfl ?_
        refine AW.callV (Y := mX3_wrong) (n := 1) (wr _ _) (by decide) (by decide) rfl (gTk hT) q455 q457 qs3 q142 q458 dX3_read_125 (by decide +kernel) rfl rfl (Nat.le_of_ble_eq_true rfl) rfl ?_
        exact AW.athrow dX3_read_128 q332 (by omega) ((tk_g (nfx (by omega)) (by omega)).trans push_g) rfl
      have hc : clR (byteF t n) (tkL t n L0) cls C i = semi (tkL t n L0) (clB (byteF t n) (tkL t n L0) 0 C (i + 1)) := by
        unfold clR
        rw [hf, if_neg (by decide), if_neg (fun q => hh q.2), if_neg h24]
      rw [hc] at e1
      refine RdE.step hC r1 (rc_0 hC hTlo hR0 hs hno (by omega) rfl (fun j hj => by rw [hj] at e1; exact hz j e1)) e1 (fun s2 i2 kd3 nu3 ix2 cls2 C2 L2 x2 hC2 hR2 hl2 hx2 hxx => rd_loop hTlo f s2 i2 kd3 nu3 ix2 cls2 C2 L2 x2 hC2 hR2 (by omega) hx2 (by rw [← hxx]; exact hz))
    · have hf : sortF (tkL t n L0 i) = 1 := by rw [hsf, hs]; decide
      by_cases hh : hasS cls 1 = true
      · have hc : clR (byteF t n) (tkL t n L0) cls C i = .inl (4, i) := by
          unfold clR
          rw [hf, if_neg (by decide), if_pos ⟨by decide, hh⟩]
        rw [hc] at e1
        obtain ⟨F, hF⟩ := hl1.no.2 hh
        have s9 := s2
        rw [hF] at s9
        obtain ⟨a, lo1, hi1, rfl, -⟩ := s9
        refine RdE.l e1 (eq 4 201) ?_
        refine AW.aload_n dX3_read_12 rfl rfl ?_
        refine AW.get ci3 4 (by decide) q308 dX3_read_13 (gTk hT) rfl rfl ?_
        refine AW.sipush (v := 301) dX3_read_16 (by decide) rfl ?_
        refine AW.icmp_eq (tgt := 231) dX3_read_19 (by decide) rfl (fun c_ => by first | exact absurd c_ (show ¬ sortS (byteF t n) (tkL t n L0 i) = 301 by rw [hs]; decide) | exact absurd (show ¬ sortS (byteF t n) (tkL t n L0 i) = 301 by rw [hs]; decide) c_ | exact Bool.noConfusion (c_.symm.trans (show ¬ sortS (byteF t n) (tkL t n L0 i) = 301 by rw [hs]; decide))) (fun _ => ?_)
        refine AW.aload_n dX3_read_22 rfl rfl ?_
        refine AW.get ci3 4 (by decide) q308 dX3_read_23 (gTk hT) rfl rfl ?_
        refine AW.sipush (v := 200) dX3_read_26 (by decide) rfl ?_
        refine AW.icmp_lt (tgt := 42) dX3_read_29 (by decide) rfl (fun c_ => by first | exact absurd c_ (show ¬ sortS (byteF t n) (tkL t n L0 i) < 200 by rw [hs]; decide) | exact absurd (show ¬ sortS (byteF t n) (tkL t n L0 i) < 200 by rw [hs]; decide) c_ | exact Bool.noConfusion (c_.symm.trans (show ¬ sortS (byteF t n) (tkL t n L0 i) < 200 by rw [hs]; decide))) (fun _ => ?_)
        refine AW.aload_n dX3_read_32 rfl rfl ?_
        refine AW.get ci3 4 (by decide) q308 dX3_read_33 (gTk hT) rfl rfl ?_
        refine AW.sipush (v := 208) dX3_read_36 (by decide) rfl ?_
        refine AW.icmp_le (tgt := 48) dX3_read_39 (by decide) rfl (fun _ => ?_) (fun c_ => by first | exact absurd c_ (show sortS (byteF t n) (tkL t n L0 i) ≤ 208 by rw [hs]; decide) | exact absurd (show sortS (byteF t n) (tkL t n L0 i) ≤ 208 by rw [hs]; decide) c_ | exact absurd c_ (not_not_intro (show sortS (byteF t n) (tkL t n L0 i) ≤ 208 by rw [hs]; decide)) | exact Bool.noConfusion (c_.symm.trans (show sortS (byteF t n) (tkL t n L0 i) ≤ 208 by rw [hs]; decide)))
        refine AW.aload_n dX3_read_48 rfl rfl ?_
        refine AW.aload_n dX3_read_49 rfl rfl ?_
        refine AW.get ci3 4 (by decide) q308 dX3_read_50 (gTk hT) rfl rfl ?_
        refine AW.put ci3 7 (by decide) q311 dX3_read_53 (by omega) (gTk hT) rfl (fun _ => rfl) (fun _ => rfl) (Nat.le_of_ble_eq_true rfl) ((sTk7 hT).trans (congrArg (fun z => hp (Tk s T n t (tkL t n L0 i) nu (nI 0) z)) hs)) rfl ?_
        refine AW.aload_n dX3_read_56 rfl rfl ?_
        refine AW.get ci3 7 (by decide) q311 dX3_read_57 (gTk hT) rfl rfl ?_
        refine AW.sipush (v := 200) dX3_read_60 (by decide) rfl ?_
        refine AW.icmp_ne (tgt := 73) dX3_read_63 (by decide) rfl (fun _ => ?_) (fun c_ => by first | exact absurd c_ (show ¬ (201 : Int32) = 200 by decide) | exact absurd (show ¬ (201 : Int32) = 200 by decide) c_ | exact absurd c_ (not_not_intro (show ¬ (201 : Int32) = 200 by decide)) | exact Bool.noConfusion (c_.symm.trans (show ¬ (201 : Int32) = 200 by decide)))
        refine AW.aload_n dX3_read_73 rfl rfl ?_
        refine AW.get ci3 7 (by decide) q311 dX3_read_74 (gTk hT) rfl rfl ?_
        refine AW.sipush (v := 201) dX3_read_77 (by decide) rfl ?_
        refine AW.icmp_ne (tgt := 90) dX3_read_80 (by decide) rfl (fun c_ => by first | exact absurd c_ (show (201 : Int32) = 201 from rfl) | exact absurd (show (201 : Int32) = 201 from rfl) c_ | exact Bool.noConfusion (c_.symm.trans (show (201 : Int32) = 201 from rfl))) (fun _ => ?_)
        refine AW.aload_n dX3_read_83 rfl rfl ?_
        refine AW.getN ci4 1 (by decide) q367 dX3_read_84 ((hp_gb (nfx hX6)).trans ((Tk_g hXT).trans gX)) rfl rfl ?_
        refine AW.ifnonnull (tgt := 107) dX3_read_87 (by decide) ?_
        refine AW.aload_n dX3_read_107 rfl rfl ?_
        refine AW.iconst (v := 4) dX3_read_108 (by decide) rfl ?_
        refine AW.callV (Y := mX3_wrong) (n := 1) (wr _ _) (by decide) (by decide) rfl (gTk hT) q455 q457 qs3 q142 q458 dX3_read_109 (by decide +kernel) rfl rfl (Nat.le_of_ble_eq_true rfl) rfl ?_
        exact AW.athrow dX3_read_112 q332 (by omega) ((tk_g (nfx (by omega)) (by omega)).trans push_g) rfl
      have hno : hasS cls 1 = false := Bool.not_eq_true _ ▸ hh
      by_cases h24 : cls.length = 24
      · have hc : clR (byteF t n) (tkL t n L0) cls C i = .inl (6, i) := by
          unfold clR
          rw [hf, if_neg (by decide), if_neg (fun q => hh q.2), if_pos h24]
        rw [hc] at e1
        have s9 := s2
        rw [hl1.no.1 hno] at s9
        have s9 : vl = .null := s9
        subst s9
        have h24 : nI cls.length = 24 := congrArg nI h24
        refine RdE.l e1 (eq 6 201) ?_
        refine AW.aload_n dX3_read_12 rfl rfl ?_
        refine AW.get ci3 4 (by decide) q308 dX3_read_13 (gTk hT) rfl rfl ?_
        refine AW.sipush (v := 301) dX3_read_16 (by decide) rfl ?_
        refine AW.icmp_eq (tgt := 231) dX3_read_19 (by decide) rfl (fun c_ => by first | exact absurd c_ (show ¬ sortS (byteF t n) (tkL t n L0 i) = 301 by rw [hs]; decide) | exact absurd (show ¬ sortS (byteF t n) (tkL t n L0 i) = 301 by rw [hs]; decide) c_ | exact Bool.noConfusion (c_.symm.trans (show ¬ sortS (byteF t n) (tkL t n L0 i) = 301 by rw [hs]; decide))) (fun _ => ?_)
        refine AW.aload_n dX3_read_22 rfl rfl ?_
        refine AW.get ci3 4 (by decide) q308 dX3_read_23 (gTk hT) rfl rfl ?_
        refine AW.sipush (v := 200) dX3_read_26 (by decide) rfl ?_
        refine AW.icmp_lt (tgt := 42) dX3_read_29 (by decide) rfl (fun c_ => by first | exact absurd c_ (show ¬ sortS (byteF t n) (tkL t n L0 i) < 200 by rw [hs]; decide) | exact absurd (show ¬ sortS (byteF t n) (tkL t n L0 i) < 200 by rw [hs]; decide) c_ | exact Bool.noConfusion (c_.symm.trans (show ¬ sortS (byteF t n) (tkL t n L0 i) < 200 by rw [hs]; decide))) (fun _ => ?_)
        refine AW.aload_n dX3_read_32 rfl rfl ?_
        refine AW.get ci3 4 (by decide) q308 dX3_read_33 (gTk hT) rfl rfl ?_
        refine AW.sipush (v := 208) dX3_read_36 (by decide) rfl ?_
        refine AW.icmp_le (tgt := 48) dX3_read_39 (by decide) rfl (fun _ => ?_) (fun c_ => by first | exact absurd c_ (show sortS (byteF t n) (tkL t n L0 i) ≤ 208 by rw [hs]; decide) | exact absurd (show sortS (byteF t n) (tkL t n L0 i) ≤ 208 by rw [hs]; decide) c_ | exact absurd c_ (not_not_intro (show sortS (byteF t n) (tkL t n L0 i) ≤ 208 by rw [hs]; decide)) | exact Bool.noConfusion (c_.symm.trans (show sortS (byteF t n) (tkL t n L0 i) ≤ 208 by rw [hs]; decide)))
        refine AW.aload_n dX3_read_48 rfl rfl ?_
        refine AW.aload_n dX3_read_49 rfl rfl ?_
        refine AW.get ci3 4 (by decide) q308 dX3_read_50 (gTk hT) rfl rfl ?_
        refine AW.put ci3 7 (by decide) q311 dX3_read_53 (by omega) (gTk hT) rfl (fun _ => rfl) (fun _ => rfl) (Nat.le_of_ble_eq_true rfl) ((sTk7 hT).trans (congrArg (fun z => hp (Tk s T n t (tkL t n L0 i) nu (nI 0) z)) hs)) rfl ?_
        refine AW.aload_n dX3_read_56 rfl rfl ?_
        refine AW.get ci3 7 (by decide) q311 dX3_read_57 (gTk hT) rfl rfl ?_
        refine AW.sipush (v := 200) dX3_read_60 (by decide) rfl ?_
        refine AW.icmp_ne (tgt := 73) dX3_read_63 (by decide) rfl (fun _ => ?_) (fun c_ => by first | exact absurd c_ (show ¬ (201 : Int32) = 200 by decide) | exact absurd (show ¬ (201 : Int32) = 200 by decide) c_ | exact absurd c_ (not_not_intro (show ¬ (201 : Int32) = 200 by decide)) | exact Bool.noConfusion (c_.symm.trans (show ¬ (201 : Int32) = 200 by decide)))
        refine AW.aload_n dX3_read_73 rfl rfl ?_
        refine AW.get ci3 7 (by decide) q311 dX3_read_74 (gTk hT) rfl rfl ?_
        refine AW.sipush (v := 201) dX3_read_77 (by decide) rfl ?_
        refine AW.icmp_ne (tgt := 90) dX3_read_80 (by decide) rfl (fun c_ => by first | exact absurd c_ (show (201 : Int32) = 201 from rfl) | exact absurd (show (201 : Int32) = 201 from rfl) c_ | exact Bool.noConfusion (c_.symm.trans (show (201 : Int32) = 201 from rfl))) (fun _ => ?_)
        refine AW.aload_n dX3_read_83 rfl rfl ?_
        refine AW.getN ci4 1 (by decide) q367 dX3_read_84 ((hp_gb (nfx hX6)).trans ((Tk_g hXT).trans gX)) rfl rfl ?_
        refine AW.ifnonnullN dX3_read_87 rfl ?_
        refine AW.aload_n dX3_read_90 rfl rfl ?_
        refine AW.get ci3 7 (by decide) q311 dX3_read_91 (gTk hT) rfl rfl ?_
        refine AW.sipush (v := 202) dX3_read_94 (by decide) rfl ?_
        refine AW.icmp_ne (tgt := 113) dX3_read_97 (by decide) rfl (fun _ => ?_) (fun c_ => by first | exact absurd c_ (show ¬ (201 : Int32) = 202 by decide) | exact absurd (show ¬ (201 : Int32) = 202 by decide) c_ | exact absurd c_ (not_not_intro (show ¬ (201 : Int32) = 202 by decide)) | exact Bool.noConfusion (c_.symm.trans (show ¬ (201 : Int32) = 202 by decide)))
        refine AW.aload_n dX3_read_113 rfl rfl ?_
        refine AW.getN ci4 3 (by decide) q371 dX3_read_114 ((hp_gb (nfx hX6)).trans ((Tk_g hXT).trans gX)) rfl rfl ?_
        refine AW.bipush (v := 24) dX3_read_117 (by decide) rfl ?_
        refine AW.icmp_ne (tgt := 129) dX3_read_119 (by decide) rfl (fun c_ => by first | exact absurd c_ h24 | exact absurd h24 c_ | exact Bool.noConfusion (c_.symm.trans h24)) (fun _ => ?_)
        refine AW.aload_n dX3_read_122 rfl rfl ?_
        refine AW.bipush (v := 6) dX3_read_123 (by decide) rfl ?_
        refine AW.callV (Y := mX3_wrong) (n := 1) (wr _ _) (by decide) (by decide) rfl (gTk hT) q455 q457 qs3 q142 q458 dX3_read_125 (by decide +kernel) rfl rfl (Nat.le_of_ble_eq_true rfl) rfl ?_
        exact AW.athrow dX3_read_128 q332 (by omega) ((tk_g (nfx (by omega)) (by omega)).trans push_g) rfl
      have hc : clR (byteF t n) (tkL t n L0) cls C i = semi (tkL t n L0) (clB (byteF t n) (tkL t n L0) 1 C (i + 1)) := by
        unfold clR
        rw [hf, if_neg (by decide), if_neg (fun q => hh q.2), if_neg h24]
      rw [hc] at e1
      refine RdE.step hC r1 (rc_1 hC hTlo hR0 hs hno (by omega) rfl (fun j hj => by rw [hj] at e1; exact hz j e1)) e1 (fun s2 i2 kd3 nu3 ix2 cls2 C2 L2 x2 hC2 hR2 hl2 hx2 hxx => rd_loop hTlo f s2 i2 kd3 nu3 ix2 cls2 C2 L2 x2 hC2 hR2 (by omega) hx2 (by rw [← hxx]; exact hz))
    · have hf : sortF (tkL t n L0 i) = 2 := by rw [hsf, hs]; decide
      by_cases hh : hasS cls 2 = true
      · have hc : clR (byteF t n) (tkL t n L0) cls C i = .inl (4, i) := by
          unfold clR
          rw [hf, if_neg (by decide), if_pos ⟨by decide, hh⟩]
        rw [hc] at e1
        obtain ⟨F, hF⟩ := hl2.no.2 hh
        have s9 := s3
        rw [hF] at s9
        obtain ⟨a, lo1, hi1, rfl, -⟩ := s9
        refine RdE.l e1 (eq 4 202) ?_
        refine AW.aload_n dX3_read_12 rfl rfl ?_
        refine AW.get ci3 4 (by decide) q308 dX3_read_13 (gTk hT) rfl rfl ?_
        refine AW.sipush (v := 301) dX3_read_16 (by decide) rfl ?_
        refine AW.icmp_eq (tgt := 231) dX3_read_19 (by decide) rfl (fun c_ => by first | exact absurd c_ (show ¬ sortS (byteF t n) (tkL t n L0 i) = 301 by rw [hs]; decide) | exact absurd (show ¬ sortS (byteF t n) (tkL t n L0 i) = 301 by rw [hs]; decide) c_ | exact Bool.noConfusion (c_.symm.trans (show ¬ sortS (byteF t n) (tkL t n L0 i) = 301 by rw [hs]; decide))) (fun _ => ?_)
        refine AW.aload_n dX3_read_22 rfl rfl ?_
        refine AW.get ci3 4 (by decide) q308 dX3_read_23 (gTk hT) rfl rfl ?_
        refine AW.sipush (v := 200) dX3_read_26 (by decide) rfl ?_
        refine AW.icmp_lt (tgt := 42) dX3_read_29 (by decide) rfl (fun c_ => by first | exact absurd c_ (show ¬ sortS (byteF t n) (tkL t n L0 i) < 200 by rw [hs]; decide) | exact absurd (show ¬ sortS (byteF t n) (tkL t n L0 i) < 200 by rw [hs]; decide) c_ | exact Bool.noConfusion (c_.symm.trans (show ¬ sortS (byteF t n) (tkL t n L0 i) < 200 by rw [hs]; decide))) (fun _ => ?_)
        refine AW.aload_n dX3_read_32 rfl rfl ?_
        refine AW.get ci3 4 (by decide) q308 dX3_read_33 (gTk hT) rfl rfl ?_
        refine AW.sipush (v := 208) dX3_read_36 (by decide) rfl ?_
        refine AW.icmp_le (tgt := 48) dX3_read_39 (by decide) rfl (fun _ => ?_) (fun c_ => by first | exact absurd c_ (show sortS (byteF t n) (tkL t n L0 i) ≤ 208 by rw [hs]; decide) | exact absurd (show sortS (byteF t n) (tkL t n L0 i) ≤ 208 by rw [hs]; decide) c_ | exact absurd c_ (not_not_intro (show sortS (byteF t n) (tkL t n L0 i) ≤ 208 by rw [hs]; decide)) | exact Bool.noConfusion (c_.symm.trans (show sortS (byteF t n) (tkL t n L0 i) ≤ 208 by rw [hs]; decide)))
        refine AW.aload_n dX3_read_48 rfl rfl ?_
        refine AW.aload_n dX3_read_49 rfl rfl ?_
        refine AW.get ci3 4 (by decide) q308 dX3_read_50 (gTk hT) rfl rfl ?_
        refine AW.put ci3 7 (by decide) q311 dX3_read_53 (by omega) (gTk hT) rfl (fun _ => rfl) (fun _ => rfl) (Nat.le_of_ble_eq_true rfl) ((sTk7 hT).trans (congrArg (fun z => hp (Tk s T n t (tkL t n L0 i) nu (nI 0) z)) hs)) rfl ?_
        refine AW.aload_n dX3_read_56 rfl rfl ?_
        refine AW.get ci3 7 (by decide) q311 dX3_read_57 (gTk hT) rfl rfl ?_
        refine AW.sipush (v := 200) dX3_read_60 (by decide) rfl ?_
        refine AW.icmp_ne (tgt := 73) dX3_read_63 (by decide) rfl (fun _ => ?_) (fun c_ => by first | exact absurd c_ (show ¬ (202 : Int32) = 200 by decide) | exact absurd (show ¬ (202 : Int32) = 200 by decide) c_ | exact absurd c_ (not_not_intro (show ¬ (202 : Int32) = 200 by decide)) | exact Bool.noConfusion (c_.symm.trans (show ¬ (202 : Int32) = 200 by decide)))
        refine AW.aload_n dX3_read_73 rfl rfl ?_
        refine AW.get ci3 7 (by decide) q311 dX3_read_74 (gTk hT) rfl rfl ?_
        refine AW.sipush (v := 201) dX3_read_77 (by decide) rfl ?_
        refine AW.icmp_ne (tgt := 90) dX3_read_80 (by decide) rfl (fun _ => ?_) (fun c_ => by first | exact absurd c_ (show ¬ (202 : Int32) = 201 by decide) | exact absurd (show ¬ (202 : Int32) = 201 by decide) c_ | exact absurd c_ (not_not_intro (show ¬ (202 : Int32) = 201 by decide)) | exact Bool.noConfusion (c_.symm.trans (show ¬ (202 : Int32) = 201 by decide)))
        refine AW.aload_n dX3_read_90 rfl rfl ?_
        refine AW.get ci3 7 (by decide) q311 dX3_read_91 (gTk hT) rfl rfl ?_
        refine AW.sipush (v := 202) dX3_read_94 (by decide) rfl ?_
        refine AW.icmp_ne (tgt := 113) dX3_read_97 (by decide) rfl (fun c_ => by first | exact absurd c_ (show (202 : Int32) = 202 from rfl) | exact absurd (show (202 : Int32) = 202 from rfl) c_ | exact Bool.noConfusion (c_.symm.trans (show (202 : Int32) = 202 from rfl))) (fun _ => ?_)
        refine AW.aload_n dX3_read_100 rfl rfl ?_
        refine AW.getN ci4 2 (by decide) q369 dX3_read_101 ((hp_gb (nfx hX6)).trans ((Tk_g hXT).trans gX)) rfl rfl ?_
        refine AW.ifnull dX3_read_104 rfl ?_
        refine AW.aload_n dX3_read_107 rfl rfl ?_
        refine AW.iconst (v := 4) dX3_read_108 (by decide) rfl ?_
        refine AW.callV (Y := mX3_wrong) (n := 1) (wr _ _) (by decide) (by decide) rfl (gTk hT) q455 q457 qs3 q142 q458 dX3_read_109 (by decide +kernel) rfl rfl (Nat.le_of_ble_eq_true rfl) rfl ?_
        exact AW.athrow dX3_read_112 q332 (by omega) ((tk_g (nfx (by omega)) (by omega)).trans push_g) rfl
      have hno : hasS cls 2 = false := Bool.not_eq_true _ ▸ hh
      by_cases h24 : cls.length = 24
      · have hc : clR (byteF t n) (tkL t n L0) cls C i = .inl (6, i) := by
          unfold clR
          rw [hf, if_neg (by decide), if_neg (fun q => hh q.2), if_pos h24]
        rw [hc] at e1
        have s9 := s3
        rw [hl2.no.1 hno] at s9
        have s9 : vq = .null := s9
        subst s9
        have h24 : nI cls.length = 24 := congrArg nI h24
        refine RdE.l e1 (eq 6 202) ?_
        refine AW.aload_n dX3_read_12 rfl rfl ?_
        refine AW.get ci3 4 (by decide) q308 dX3_read_13 (gTk hT) rfl rfl ?_
        refine AW.sipush (v := 301) dX3_read_16 (by decide) rfl ?_
        refine AW.icmp_eq (tgt := 231) dX3_read_19 (by decide) rfl (fun c_ => by first | exact absurd c_ (show ¬ sortS (byteF t n) (tkL t n L0 i) = 301 by rw [hs]; decide) | exact absurd (show ¬ sortS (byteF t n) (tkL t n L0 i) = 301 by rw [hs]; decide) c_ | exact Bool.noConfusion (c_.symm.trans (show ¬ sortS (byteF t n) (tkL t n L0 i) = 301 by rw [hs]; decide))) (fun _ => ?_)
        refine AW.aload_n dX3_read_22 rfl rfl ?_
        refine AW.get ci3 4 (by decide) q308 dX3_read_23 (gTk hT) rfl rfl ?_
        refine AW.sipush (v := 200) dX3_read_26 (by decide) rfl ?_
        refine AW.icmp_lt (tgt := 42) dX3_read_29 (by decide) rfl (fun c_ => by first | exact absurd c_ (show ¬ sortS (byteF t n) (tkL t n L0 i) < 200 by rw [hs]; decide) | exact absurd (show ¬ sortS (byteF t n) (tkL t n L0 i) < 200 by rw [hs]; decide) c_ | exact Bool.noConfusion (c_.symm.trans (show ¬ sortS (byteF t n) (tkL t n L0 i) < 200 by rw [hs]; decide))) (fun _ => ?_)
        refine AW.aload_n dX3_read_32 rfl rfl ?_
        refine AW.get ci3 4 (by decide) q308 dX3_read_33 (gTk hT) rfl rfl ?_
        refine AW.sipush (v := 208) dX3_read_36 (by decide) rfl ?_
        refine AW.icmp_le (tgt := 48) dX3_read_39 (by decide) rfl (fun _ => ?_) (fun c_ => by first | exact absurd c_ (show sortS (byteF t n) (tkL t n L0 i) ≤ 208 by rw [hs]; decide) | exact absurd (show sortS (byteF t n) (tkL t n L0 i) ≤ 208 by rw [hs]; decide) c_ | exact absurd c_ (not_not_intro (show sortS (byteF t n) (tkL t n L0 i) ≤ 208 by rw [hs]; decide)) | exact Bool.noConfusion (c_.symm.trans (show sortS (byteF t n) (tkL t n L0 i) ≤ 208 by rw [hs]; decide)))
        refine AW.aload_n dX3_read_48 rfl rfl ?_
        refine AW.aload_n dX3_read_49 rfl rfl ?_
        refine AW.get ci3 4 (by decide) q308 dX3_read_50 (gTk hT) rfl rfl ?_
        refine AW.put ci3 7 (by decide) q311 dX3_read_53 (by omega) (gTk hT) rfl (fun _ => rfl) (fun _ => rfl) (Nat.le_of_ble_eq_true rfl) ((sTk7 hT).trans (congrArg (fun z => hp (Tk s T n t (tkL t n L0 i) nu (nI 0) z)) hs)) rfl ?_
        refine AW.aload_n dX3_read_56 rfl rfl ?_
        refine AW.get ci3 7 (by decide) q311 dX3_read_57 (gTk hT) rfl rfl ?_
        refine AW.sipush (v := 200) dX3_read_60 (by decide) rfl ?_
        refine AW.icmp_ne (tgt := 73) dX3_read_63 (by decide) rfl (fun _ => ?_) (fun c_ => by first | exact absurd c_ (show ¬ (202 : Int32) = 200 by decide) | exact absurd (show ¬ (202 : Int32) = 200 by decide) c_ | exact absurd c_ (not_not_intro (show ¬ (202 : Int32) = 200 by decide)) | exact Bool.noConfusion (c_.symm.trans (show ¬ (202 : Int32) = 200 by decide)))
        refine AW.aload_n dX3_read_73 rfl rfl ?_
        refine AW.get ci3 7 (by decide) q311 dX3_read_74 (gTk hT) rfl rfl ?_
        refine AW.sipush (v := 201) dX3_read_77 (by decide) rfl ?_
        refine AW.icmp_ne (tgt := 90) dX3_read_80 (by decide) rfl (fun _ => ?_) (fun c_ => by first | exact absurd c_ (show ¬ (202 : Int32) = 201 by decide) | exact absurd (show ¬ (202 : Int32) = 201 by decide) c_ | exact absurd c_ (not_not_intro (show ¬ (202 : Int32) = 201 by decide)) | exact Bool.noConfusion (c_.symm.trans (show ¬ (202 : Int32) = 201 by decide)))
        refine AW.aload_n dX3_read_90 rfl rfl ?_
        refine AW.get ci3 7 (by decide) q311 dX3_read_91 (gTk hT) rfl rfl ?_
        refine AW.sipush (v := 202) dX3_read_94 (by decide) rfl ?_
        refine AW.icmp_ne (tgt := 113) dX3_read_97 (by decide) rfl (fun c_ => by first | exact absurd c_ (show (202 : Int32) = 202 from rfl) | exact absurd (show (202 : Int32) = 202 from rfl) c_ | exact Bool.noConfusion (c_.symm.trans (show (202 : Int32) = 202 from rfl))) (fun _ => ?_)
        refine AW.aload_n dX3_read_100 rfl rfl ?_
        refine AW.getN ci4 2 (by decide) q369 dX3_read_101 ((hp_gb (nfx hX6)).trans ((Tk_g hXT).trans gX)) rfl rfl ?_
        refine AW.ifnullN (tgt := 113) dX3_read_104 (by decide) ?_
        refine AW.aload_n dX3_read_113 rfl rfl ?_
        refine AW.getN ci4 3 (by decide) q371 dX3_read_114 ((hp_gb (nfx hX6)).trans ((Tk_g hXT).trans gX)) rfl rfl ?_
        refine AW.bipush (v := 24) dX3_read_117 (by decide) rfl ?_
        refine AW.icmp_ne (tgt := 129) dX3_read_119 (by decide) rfl (fun c_ => by first | exact absurd c_ h24 | exact absurd h24 c_ | exact Bool.noConfusion (c_.symm.trans h24)) (fun _ => ?_)
        refine AW.aload_n dX3_read_122 rfl rfl ?_
        refine AW.bipush (v := 6) dX3_read_123 (by decide) rfl ?_
        refine AW.callV (Y := mX3_wrong) (n := 1) (wr _ _) (by decide) (by decide) rfl (gTk hT) q455 q457 qs3 q142 q458 dX3_read_125 (by decide +kernel) rfl rfl (Nat.le_of_ble_eq_true rfl) rfl ?_
        exact AW.athrow dX3_read_128 q332 (by omega) ((tk_g (nfx (by omega)) (by omega)).trans push_g) rfl
      have hc : clR (byteF t n) (tkL t n L0) cls C i = semi (tkL t n L0) (clB (byteF t n) (tkL t n L0) 2 C (i + 1)) := by
        unfold clR
        rw [hf, if_neg (by decide), if_neg (fun q => hh q.2), if_neg h24]
      rw [hc] at e1
      refine RdE.step hC r1 (rc_2 hC hTlo hR0 hs hno (by omega) rfl (fun j hj => by rw [hj] at e1; exact hz j e1)) e1 (fun s2 i2 kd3 nu3 ix2 cls2 C2 L2 x2 hC2 hR2 hl2 hx2 hxx => rd_loop hTlo f s2 i2 kd3 nu3 ix2 cls2 C2 L2 x2 hC2 hR2 (by omega) hx2 (by rw [← hxx]; exact hz))
    · have hf : sortF (tkL t n L0 i) = 3 := by rw [hsf, hs]; decide
      by_cases h24 : cls.length = 24
      · have hc : clR (byteF t n) (tkL t n L0) cls C i = .inl (6, i) := by
          unfold clR
          rw [hf, if_neg (by decide), if_neg (fun q => absurd q.1 (by decide)), if_pos h24]
        rw [hc] at e1
        have h24 : nI cls.length = 24 := congrArg nI h24
        refine RdE.l e1 (eq 6 203) ?_
        refine AW.aload_n dX3_read_12 rfl rfl ?_
        refine AW.get ci3 4 (by decide) q308 dX3_read_13 (gTk hT) rfl rfl ?_
        refine AW.sipush (v := 301) dX3_read_16 (by decide) rfl ?_
        refine AW.icmp_eq (tgt := 231) dX3_read_19 (by decide) rfl (fun c_ => by first | exact absurd c_ (show ¬ sortS (byteF t n) (tkL t n L0 i) = 301 by rw [hs]; decide) | exact absurd (show ¬ sortS (byteF t n) (tkL t n L0 i) = 301 by rw [hs]; decide) c_ | exact Bool.noConfusion (c_.symm.trans (show ¬ sortS (byteF t n) (tkL t n L0 i) = 301 by rw [hs]; decide))) (fun _ => ?_)
        refine AW.aload_n dX3_read_22 rfl rfl ?_
        refine AW.get ci3 4 (by decide) q308 dX3_read_23 (gTk hT) rfl rfl ?_
        refine AW.sipush (v := 200) dX3_read_26 (by decide) rfl ?_
        refine AW.icmp_lt (tgt := 42) dX3_read_29 (by decide) rfl (fun c_ => by first | exact absurd c_ (show ¬ sortS (byteF t n) (tkL t n L0 i) < 200 by rw [hs]; decide) | exact absurd (show ¬ sortS (byteF t n) (tkL t n L0 i) < 200 by rw [hs]; decide) c_ | exact Bool.noConfusion (c_.symm.trans (show ¬ sortS (byteF t n) (tkL t n L0 i) < 200 by rw [hs]; decide))) (fun _ => ?_)
        refine AW.aload_n dX3_read_32 rfl rfl ?_
        refine AW.get ci3 4 (by decide) q308 dX3_read_33 (gTk hT) rfl rfl ?_
        refine AW.sipush (v := 208) dX3_read_36 (by decide) rfl ?_
        refine AW.icmp_le (tgt := 48) dX3_read_39 (by decide) rfl (fun _ => ?_) (fun c_ => by first | exact absurd c_ (show sortS (byteF t n) (tkL t n L0 i) ≤ 208 by rw [hs]; decide) | exact absurd (show sortS (byteF t n) (tkL t n L0 i) ≤ 208 by rw [hs]; decide) c_ | exact absurd c_ (not_not_intro (show sortS (byteF t n) (tkL t n L0 i) ≤ 208 by rw [hs]; decide)) | exact Bool.noConfusion (c_.symm.trans (show sortS (byteF t n) (tkL t n L0 i) ≤ 208 by rw [hs]; decide)))
        refine AW.aload_n dX3_read_48 rfl rfl ?_
        refine AW.aload_n dX3_read_49 rfl rfl ?_
        refine AW.get ci3 4 (by decide) q308 dX3_read_50 (gTk hT) rfl rfl ?_
        refine AW.put ci3 7 (by decide) q311 dX3_read_53 (by omega) (gTk hT) rfl (fun _ => rfl) (fun _ => rfl) (Nat.le_of_ble_eq_true rfl) ((sTk7 hT).trans (congrArg (fun z => hp (Tk s T n t (tkL t n L0 i) nu (nI 0) z)) hs)) rfl ?_
        refine AW.aload_n dX3_read_56 rfl rfl ?_
        refine AW.get ci3 7 (by decide) q311 dX3_read_57 (gTk hT) rfl rfl ?_
        refine AW.sipush (v := 200) dX3_read_60 (by decide) rfl ?_
        refine AW.icmp_ne (tgt := 73) dX3_read_63 (by decide) rfl (fun _ => ?_) (fun c_ => by first | exact absurd c_ (show ¬ (203 : Int32) = 200 by decide) | exact absurd (show ¬ (203 : Int32) = 200 by decide) c_ | exact absurd c_ (not_not_intro (show ¬ (203 : Int32) = 200 by decide)) | exact Bool.noConfusion (c_.symm.trans (show ¬ (203 : Int32) = 200 by decide)))
        refine AW.aload_n dX3_read_73 rfl rfl ?_
        refine AW.get ci3 7 (by decide) q311 dX3_read_74 (gTk hT) rfl rfl ?_
        refine AW.sipush (v := 201) dX3_read_77 (by decide) rfl ?_
        refine AW.icmp_ne (tgt := 90) dX3_read_80 (by decide) rfl (fun _ => ?_) (fun c_ => by first | exact absurd c_ (show ¬ (203 : Int32) = 201 by decide) | exact absurd (show ¬ (203 : Int32) = 201 by decide) c_ | exact absurd c_ (not_not_intro (show ¬ (203 : Int32) = 201 by decide)) | exact Bool.noConfusion (c_.symm.trans (show ¬ (203 : Int32) = 201 by decide)))
        refine AW.aload_n dX3_read_90 rfl rfl ?_
        refine AW.get ci3 7 (by decide) q311 dX3_read_91 (gTk hT) rfl rfl ?_
        refine AW.sipush (v := 202) dX3_read_94 (by decide) rfl ?_
        refine AW.icmp_ne (tgt := 113) dX3_read_97 (by decide) rfl (fun _ => ?_) (fun c_ => by first | exact absurd c_ (show ¬ (203 : Int32) = 202 by decide) | exact absurd (show ¬ (203 : Int32) = 202 by decide) c_ | exact absurd c_ (not_not_intro (show ¬ (203 : Int32) = 202 by decide)) | exact Bool.noConfusion (c_.symm.trans (show ¬ (203 : Int32) = 202 by decide)))
        refine AW.aload_n dX3_read_113 rfl rfl ?_
        refine AW.getN ci4 3 (by decide) q371 dX3_read_114 ((hp_gb (nfx hX6)).trans ((Tk_g hXT).trans gX)) rfl rfl ?_
        refine AW.bipush (v := 24) dX3_read_117 (by decide) rfl ?_
        refine AW.icmp_ne (tgt := 129) dX3_read_119 (by decide) rfl (fun c_ => by first | exact absurd c_ h24 | exact absurd h24 c_ | exact Bool.noConfusion (c_.symm.trans h24)) (fun _ => ?_)
        refine AW.aload_n dX3_read_122 rfl rfl ?_
        refine AW.bipush (v := 6) dX3_read_123 (by decide) rfl ?_
        refine AW.callV (Y := mX3_wrong) (n := 1) (wr _ _) (by decide) (by decide) rfl (gTk hT) q455 q457 qs3 q142 q458 dX3_read_125 (by decide +kernel) rfl rfl (Nat.le_of_ble_eq_true rfl) rfl ?_
        exact AW.athrow dX3_read_128 q332 (by omega) ((tk_g (nfx (by omega)) (by omega)).trans push_g) rfl
      have hc : clR (byteF t n) (tkL t n L0) cls C i = semi (tkL t n L0) (clB (byteF t n) (tkL t n L0) 3 C (i + 1)) := by
        unfold clR
        rw [hf, if_neg (by decide), if_neg (fun q => absurd q.1 (by decide)), if_neg h24]
      rw [hc] at e1
      refine RdE.step hC r1 (rc_3 hC hTlo hR0 hs (by omega) rfl) e1 (fun s2 i2 kd3 nu3 ix2 cls2 C2 L2 x2 hC2 hR2 hl2 hx2 hxx => rd_loop hTlo f s2 i2 kd3 nu3 ix2 cls2 C2 L2 x2 hC2 hR2 (by omega) hx2 (by rw [← hxx]; exact hz))
    · have hf : sortF (tkL t n L0 i) = 4 := by rw [hsf, hs]; decide
      by_cases h24 : cls.length = 24
      · have hc : clR (byteF t n) (tkL t n L0) cls C i = .inl (6, i) := by
          unfold clR
          rw [hf, if_neg (by decide), if_neg (fun q => absurd q.1 (by decide)), if_pos h24]
        rw [hc] at e1
        have h24 : nI cls.length = 24 := congrArg nI h24
        refine RdE.l e1 (eq 6 204) ?_
        refine AW.aload_n dX3_read_12 rfl rfl ?_
        refine AW.get ci3 4 (by decide) q308 dX3_read_13 (gTk hT) rfl rfl ?_
        refine AW.sipush (v := 301) dX3_read_16 (by decide) rfl ?_
        refine AW.icmp_eq (tgt := 231) dX3_read_19 (by decide) rfl (fun c_ => by first | exact absurd c_ (show ¬ sortS (byteF t n) (tkL t n L0 i) = 301 by rw [hs]; decide) | exact absurd (show ¬ sortS (byteF t n) (tkL t n L0 i) = 301 by rw [hs]; decide) c_ | exact Bool.noConfusion (c_.symm.trans (show ¬ sortS (byteF t n) (tkL t n L0 i) = 301 by rw [hs]; decide))) (fun _ => ?_)
        refine AW.aload_n dX3_read_22 rfl rfl ?_
        refine AW.get ci3 4 (by decide) q308 dX3_read_23 (gTk hT) rfl rfl ?_
        refine AW.sipush (v := 200) dX3_read_26 (by decide) rfl ?_
        refine AW.icmp_lt (tgt := 42) dX3_read_29 (by decide) rfl (fun c_ => by first | exact absurd c_ (show ¬ sortS (byteF t n) (tkL t n L0 i) < 200 by rw [hs]; decide) | exact absurd (show ¬ sortS (byteF t n) (tkL t n L0 i) < 200 by rw [hs]; decide) c_ | exact Bool.noConfusion (c_.symm.trans (show ¬ sortS (byteF t n) (tkL t n L0 i) < 200 by rw [hs]; decide))) (fun _ => ?_)
        refine AW.aload_n dX3_read_32 rfl rfl ?_
        refine AW.get ci3 4 (by decide) q308 dX3_read_33 (gTk hT) rfl rfl ?_
        refine AW.sipush (v := 208) dX3_read_36 (by decide) rfl ?_
        refine AW.icmp_le (tgt := 48) dX3_read_39 (by decide) rfl (fun _ => ?_) (fun c_ => by first | exact absurd c_ (show sortS (byteF t n) (tkL t n L0 i) ≤ 208 by rw [hs]; decide) | exact absurd (show sortS (byteF t n) (tkL t n L0 i) ≤ 208 by rw [hs]; decide) c_ | exact absurd c_ (not_not_intro (show sortS (byteF t n) (tkL t n L0 i) ≤ 208 by rw [hs]; decide)) | exact Bool.noConfusion (c_.symm.trans (show sortS (byteF t n) (tkL t n L0 i) ≤ 208 by rw [hs]; decide)))
        refine AW.aload_n dX3_read_48 rfl rfl ?_
        refine AW.aload_n dX3_read_49 rfl rfl ?_
        refine AW.get ci3 4 (by decide) q308 dX3_read_50 (gTk hT) rfl rfl ?_
        refine AW.put ci3 7 (by decide) q311 dX3_read_53 (by omega) (gTk hT) rfl (fun _ => rfl) (fun _ => rfl) (Nat.le_of_ble_eq_true rfl) ((sTk7 hT).trans (congrArg (fun z => hp (Tk s T n t (tkL t n L0 i) nu (nI 0) z)) hs)) rfl ?_
        refine AW.aload_n dX3_read_56 rfl rfl ?_
        refine AW.get ci3 7 (by decide) q311 dX3_read_57 (gTk hT) rfl rfl ?_
        refine AW.sipush (v := 200) dX3_read_60 (by decide) rfl ?_
        refine AW.icmp_ne (tgt := 73) dX3_read_63 (by decide) rfl (fun _ => ?_) (fun c_ => by first | exact absurd c_ (show ¬ (204 : Int32) = 200 by decide) | exact absurd (show ¬ (204 : Int32) = 200 by decide) c_ | exact absurd c_ (not_not_intro (show ¬ (204 : Int32) = 200 by decide)) | exact Bool.noConfusion (c_.symm.trans (show ¬ (204 : Int32) = 200 by decide)))
        refine AW.aload_n dX3_read_73 rfl rfl ?_
        refine AW.get ci3 7 (by decide) q311 dX3_read_74 (gTk hT) rfl rfl ?_
        refine AW.sipush (v := 201) dX3_read_77 (by decide) rfl ?_
        refine AW.icmp_ne (tgt := 90) dX3_read_80 (by decide) rfl (fun _ => ?_) (fun c_ => by first | exact absurd c_ (show ¬ (204 : Int32) = 201 by decide) | exact absurd (show ¬ (204 : Int32) = 201 by decide) c_ | exact absurd c_ (not_not_intro (show ¬ (204 : Int32) = 201 by decide)) | exact Bool.noConfusion (c_.symm.trans (show ¬ (204 : Int32) = 201 by decide)))
        refine AW.aload_n dX3_read_90 rfl rfl ?_
        refine AW.get ci3 7 (by decide) q311 dX3_read_91 (gTk hT) rfl rfl ?_
        refine AW.sipush (v := 202) dX3_read_94 (by decide) rfl ?_
        refine AW.icmp_ne (tgt := 113) dX3_read_97 (by decide) rfl (fun _ => ?_) (fun c_ => by first | exact absurd c_ (show ¬ (204 : Int32) = 202 by decide) | exact absurd (show ¬ (204 : Int32) = 202 by decide) c_ | exact absurd c_ (not_not_intro (show ¬ (204 : Int32) = 202 by decide)) | exact Bool.noConfusion (c_.symm.trans (show ¬ (204 : Int32) = 202 by decide)))
        refine AW.aload_n dX3_read_113 rfl rfl ?_
        refine AW.getN ci4 3 (by decide) q371 dX3_read_114 ((hp_gb (nfx hX6)).trans ((Tk_g hXT).trans gX)) rfl rfl ?_
        refine AW.bipush (v := 24) dX3_read_117 (by decide) rfl ?_
        refine AW.icmp_ne (tgt := 129) dX3_read_119 (by decide) rfl (fun c_ => by first | exact absurd c_ h24 | exact absurd h24 c_ | exact Bool.noConfusion (c_.symm.trans h24)) (fun _ => ?_)
        refine AW.aload_n dX3_read_122 rfl rfl ?_
        refine AW.bipush (v := 6) dX3_read_123 (by decide) rfl ?_
        refine AW.callV (Y := mX3_wrong) (n := 1) (wr _ _) (by decide) (by decide) rfl (gTk hT) q455 q457 qs3 q142 q458 dX3_read_125 (by decide +kernel) rfl rfl (Nat.le_of_ble_eq_true rfl) rfl ?_
        exact AW.athrow dX3_read_128 q332 (by omega) ((tk_g (nfx (by omega)) (by omega)).trans push_g) rfl
      have hc : clR (byteF t n) (tkL t n L0) cls C i = semi (tkL t n L0) (clB (byteF t n) (tkL t n L0) 4 C (i + 1)) := by
        unfold clR
        rw [hf, if_neg (by decide), if_neg (fun q => absurd q.1 (by decide)), if_neg h24]
      rw [hc] at e1
      refine RdE.step hC r1 (rc_4 hC hTlo hR0 hs (by omega) rfl) e1 (fun s2 i2 kd3 nu3 ix2 cls2 C2 L2 x2 hC2 hR2 hl2 hx2 hxx => rd_loop hTlo f s2 i2 kd3 nu3 ix2 cls2 C2 L2 x2 hC2 hR2 (by omega) hx2 (by rw [← hxx]; exact hz))
    · have hf : sortF (tkL t n L0 i) = 5 := by rw [hsf, hs]; decide
      by_cases h24 : cls.length = 24
      · have hc : clR (byteF t n) (tkL t n L0) cls C i = .inl (6, i) := by
          unfold clR
          rw [hf, if_neg (by decide), if_neg (fun q => absurd q.1 (by decide)), if_pos h24]
        rw [hc] at e1
        have h24 : nI cls.length = 24 := congrArg nI h24
        refine RdE.l e1 (eq 6 205) ?_
        refine AW.aload_n dX3_read_12 rfl rfl ?_
        refine AW.get ci3 4 (by decide) q308 dX3_read_13 (gTk hT) rfl rfl ?_
        refine AW.sipush (v := 301) dX3_read_16 (by decide) rfl ?_
        refine AW.icmp_eq (tgt := 231) dX3_read_19 (by decide) rfl (fun c_ => by first | exact absurd c_ (show ¬ sortS (byteF t n) (tkL t n L0 i) = 301 by rw [hs]; decide) | exact absurd (show ¬ sortS (byteF t n) (tkL t n L0 i) = 301 by rw [hs]; decide) c_ | exact Bool.noConfusion (c_.symm.trans (show ¬ sortS (byteF t n) (tkL t n L0 i) = 301 by rw [hs]; decide))) (fun _ => ?_)
        refine AW.aload_n dX3_read_22 rfl rfl ?_
        refine AW.get ci3 4 (by decide) q308 dX3_read_23 (gTk hT) rfl rfl ?_
        refine AW.sipush (v := 200) dX3_read_26 (by decide) rfl ?_
        refine AW.icmp_lt (tgt := 42) dX3_read_29 (by decide) rfl (fun c_ => by first | exact absurd c_ (show ¬ sortS (byteF t n) (tkL t n L0 i) < 200 by rw [hs]; decide) | exact absurd (show ¬ sortS (byteF t n) (tkL t n L0 i) < 200 by rw [hs]; decide) c_ | exact Bool.noConfusion (c_.symm.trans (show ¬ sortS (byteF t n) (tkL t n L0 i) < 200 by rw [hs]; decide))) (fun _ => ?_)
        refine AW.aload_n dX3_read_32 rfl rfl ?_
        refine AW.get ci3 4 (by decide) q308 dX3_read_33 (gTk hT) rfl rfl ?_
        refine AW.sipush (v := 208) dX3_read_36 (by decide) rfl ?_
        refine AW.icmp_le (tgt := 48) dX3_read_39 (by decide) rfl (fun _ => ?_) (fun c_ => by first | exact absurd c_ (show sortS (byteF t n) (tkL t n L0 i) ≤ 208 by rw [hs]; decide) | exact absurd (show sortS (byteF t n) (tkL t n L0 i) ≤ 208 by rw [hs]; decide) c_ | exact absurd c_ (not_not_intro (show sortS (byteF t n) (tkL t n L0 i) ≤ 208 by rw [hs]; decide)) | exact Bool.noConfusion (c_.symm.trans (show sortS (byteF t n) (tkL t n L0 i) ≤ 208 by rw [hs]; decide)))
        refine AW.aload_n dX3_read_48 rfl rfl ?_
        refine AW.aload_n dX3_read_49 rfl rfl ?_
        refine AW.get ci3 4 (by decide) q308 dX3_read_50 (gTk hT) rfl rfl ?_
        refine AW.put ci3 7 (by decide) q311 dX3_read_53 (by omega) (gTk hT) rfl (fun _ => rfl) (fun _ => rfl) (Nat.le_of_ble_eq_true rfl) ((sTk7 hT).trans (congrArg (fun z => hp (Tk s T n t (tkL t n L0 i) nu (nI 0) z)) hs)) rfl ?_
        refine AW.aload_n dX3_read_56 rfl rfl ?_
        refine AW.get ci3 7 (by decide) q311 dX3_read_57 (gTk hT) rfl rfl ?_
        refine AW.sipush (v := 200) dX3_read_60 (by decide) rfl ?_
        refine AW.icmp_ne (tgt := 73) dX3_read_63 (by decide) rfl (fun _ => ?_) (fun c_ => by first | exact absurd c_ (show ¬ (205 : Int32) = 200 by decide) | exact absurd (show ¬ (205 : Int32) = 200 by decide) c_ | exact absurd c_ (not_not_intro (show ¬ (205 : Int32) = 200 by decide)) | exact Bool.noConfusion (c_.symm.trans (show ¬ (205 : Int32) = 200 by decide)))
        refine AW.aload_n dX3_read_73 rfl rfl ?_
        refine AW.get ci3 7 (by decide) q311 dX3_read_74 (gTk hT) rfl rfl ?_
        refine AW.sipush (v := 201) dX3_read_77 (by decide) rfl ?_
        refine AW.icmp_ne (tgt := 90) dX3_read_80 (by decide) rfl (fun _ => ?_) (fun c_ => by first | exact absurd c_ (show ¬ (205 : Int32) = 201 by decide) | exact absurd (show ¬ (205 : Int32) = 201 by decide) c_ | exact absurd c_ (not_not_intro (show ¬ (205 : Int32) = 201 by decide)) | exact Bool.noConfusion (c_.symm.trans (show ¬ (205 : Int32) = 201 by decide)))
        refine AW.aload_n dX3_read_90 rfl rfl ?_
        refine AW.get ci3 7 (by decide) q311 dX3_read_91 (gTk hT) rfl rfl ?_
        refine AW.sipush (v := 202) dX3_read_94 (by decide) rfl ?_
        refine AW.icmp_ne (tgt := 113) dX3_read_97 (by decide) rfl (fun _ => ?_) (fun c_ => by first | exact absurd c_ (show ¬ (205 : Int32) = 202 by decide) | exact absurd (show ¬ (205 : Int32) = 202 by decide) c_ | exact absurd c_ (not_not_intro (show ¬ (205 : Int32) = 202 by decide)) | exact Bool.noConfusion (c_.symm.trans (show ¬ (205 : Int32) = 202 by decide)))
        refine AW.aload_n dX3_read_113 rfl rfl ?_
        refine AW.getN ci4 3 (by decide) q371 dX3_read_114 ((hp_gb (nfx hX6)).trans ((Tk_g hXT).trans gX)) rfl rfl ?_
        refine AW.bipush (v := 24) dX3_read_117 (by decide) rfl ?_
        refine AW.icmp_ne (tgt := 129) dX3_read_119 (by decide) rfl (fun c_ => by first | exact absurd c_ h24 | exact absurd h24 c_ | exact Bool.noConfusion (c_.symm.trans h24)) (fun _ => ?_)
        refine AW.aload_n dX3_read_122 rfl rfl ?_
        refine AW.bipush (v := 6) dX3_read_123 (by decide) rfl ?_
        refine AW.callV (Y := mX3_wrong) (n := 1) (wr _ _) (by decide) (by decide) rfl (gTk hT) q455 q457 qs3 q142 q458 dX3_read_125 (by decide +kernel) rfl rfl (Nat.le_of_ble_eq_true rfl) rfl ?_
        exact AW.athrow dX3_read_128 q332 (by omega) ((tk_g (nfx (by omega)) (by omega)).trans push_g) rfl
      have hc : clR (byteF t n) (tkL t n L0) cls C i = semi (tkL t n L0) (clB (byteF t n) (tkL t n L0) 5 C (i + 1)) := by
        unfold clR
        rw [hf, if_neg (by decide), if_neg (fun q => absurd q.1 (by decide)), if_neg h24]
      rw [hc] at e1
      refine RdE.step hC r1 (rc_5 hC hTlo hR0 hs (by omega) rfl) e1 (fun s2 i2 kd3 nu3 ix2 cls2 C2 L2 x2 hC2 hR2 hl2 hx2 hxx => rd_loop hTlo f s2 i2 kd3 nu3 ix2 cls2 C2 L2 x2 hC2 hR2 (by omega) hx2 (by rw [← hxx]; exact hz))
    · have hf : sortF (tkL t n L0 i) = 6 := by rw [hsf, hs]; decide
      by_cases h24 : cls.length = 24
      · have hc : clR (byteF t n) (tkL t n L0) cls C i = .inl (6, i) := by
          unfold clR
          rw [hf, if_neg (by decide), if_neg (fun q => absurd q.1 (by decide)), if_pos h24]
        rw [hc] at e1
        have h24 : nI cls.length = 24 := congrArg nI h24
        refine RdE.l e1 (eq 6 206) ?_
        refine AW.aload_n dX3_read_12 rfl rfl ?_
        refine AW.get ci3 4 (by decide) q308 dX3_read_13 (gTk hT) rfl rfl ?_
        refine AW.sipush (v := 301) dX3_read_16 (by decide) rfl ?_
        refine AW.icmp_eq (tgt := 231) dX3_read_19 (by decide) rfl (fun c_ => by first | exact absurd c_ (show ¬ sortS (byteF t n) (tkL t n L0 i) = 301 by rw [hs]; decide) | exact absurd (show ¬ sortS (byteF t n) (tkL t n L0 i) = 301 by rw [hs]; decide) c_ | exact Bool.noConfusion (c_.symm.trans (show ¬ sortS (byteF t n) (tkL t n L0 i) = 301 by rw [hs]; decide))) (fun _ => ?_)
        refine AW.aload_n dX3_read_22 rfl rfl ?_
        refine AW.get ci3 4 (by decide) q308 dX3_read_23 (gTk hT) rfl rfl ?_
        refine AW.sipush (v := 200) dX3_read_26 (by decide) rfl ?_
        refine AW.icmp_lt (tgt := 42) dX3_read_29 (by decide) rfl (fun c_ => by first | exact absurd c_ (show ¬ sortS (byteF t n) (tkL t n L0 i) < 200 by rw [hs]; decide) | exact absurd (show ¬ sortS (byteF t n) (tkL t n L0 i) < 200 by rw [hs]; decide) c_ | exact Bool.noConfusion (c_.symm.trans (show ¬ sortS (byteF t n) (tkL t n L0 i) < 200 by rw [hs]; decide))) (fun _ => ?_)
        refine AW.aload_n dX3_read_32 rfl rfl ?_
        refine AW.get ci3 4 (by decide) q308 dX3_read_33 (gTk hT) rfl rfl ?_
        refine AW.sipush (v := 208) dX3_read_36 (by decide) rfl ?_
        refine AW.icmp_le (tgt := 48) dX3_read_39 (by decide) rfl (fun _ => ?_) (fun c_ => by first | exact absurd c_ (show sortS (byteF t n) (tkL t n L0 i) ≤ 208 by rw [hs]; decide) | exact absurd (show sortS (byteF t n) (tkL t n L0 i) ≤ 208 by rw [hs]; decide) c_ | exact absurd c_ (not_not_intro (show sortS (byteF t n) (tkL t n L0 i) ≤ 208 by rw [hs]; decide)) | exact Bool.noConfusion (c_.symm.trans (show sortS (byteF t n) (tkL t n L0 i) ≤ 208 by rw [hs]; decide)))
        refine AW.aload_n dX3_read_48 rfl rfl ?_
        refine AW.aload_n dX3_read_49 rfl rfl ?_
        refine AW.get ci3 4 (by decide) q308 dX3_read_50 (gTk hT) rfl rfl ?_
        refine AW.put ci3 7 (by decide) q311 dX3_read_53 (by omega) (gTk hT) rfl (fun _ => rfl) (fun _ => rfl) (Nat.le_of_ble_eq_true rfl) ((sTk7 hT).trans (congrArg (fun z => hp (Tk s T n t (tkL t n L0 i) nu (nI 0) z)) hs)) rfl ?_
        refine AW.aload_n dX3_read_56 rfl rfl ?_
        refine AW.get ci3 7 (by decide) q311 dX3_read_57 (gTk hT) rfl rfl ?_
        refine AW.sipush (v := 200) dX3_read_60 (by decide) rfl ?_
        refine AW.icmp_ne (tgt := 73) dX3_read_63 (by decide) rfl (fun _ => ?_) (fun c_ => by first | exact absurd c_ (show ¬ (206 : Int32) = 200 by decide) | exact absurd (show ¬ (206 : Int32) = 200 by decide) c_ | exact absurd c_ (not_not_intro (show ¬ (206 : Int32) = 200 by decide)) | exact Bool.noConfusion (c_.symm.trans (show ¬ (206 : Int32) = 200 by decide)))
        refine AW.aload_n dX3_read_73 rfl rfl ?_
        refine AW.get ci3 7 (by decide) q311 dX3_read_74 (gTk hT) rfl rfl ?_
        refine AW.sipush (v := 201) dX3_read_77 (by decide) rfl ?_
        refine AW.icmp_ne (tgt := 90) dX3_read_80 (by decide) rfl (fun _ => ?_) (fun c_ => by first | exact absurd c_ (show ¬ (206 : Int32) = 201 by decide) | exact absurd (show ¬ (206 : Int32) = 201 by decide) c_ | exact absurd c_ (not_not_intro (show ¬ (206 : Int32) = 201 by decide)) | exact Bool.noConfusion (c_.symm.trans (show ¬ (206 : Int32) = 201 by decide)))
        refine AW.aload_n dX3_read_90 rfl rfl ?_
        refine AW.get ci3 7 (by decide) q311 dX3_read_91 (gTk hT) rfl rfl ?_
        refine AW.sipush (v := 202) dX3_read_94 (by decide) rfl ?_
        refine AW.icmp_ne (tgt := 113) dX3_read_97 (by decide) rfl (fun _ => ?_) (fun c_ => by first | exact absurd c_ (show ¬ (206 : Int32) = 202 by decide) | exact absurd (show ¬ (206 : Int32) = 202 by decide) c_ | exact absurd c_ (not_not_intro (show ¬ (206 : Int32) = 202 by decide)) | exact Bool.noConfusion (c_.symm.trans (show ¬ (206 : Int32) = 202 by decide)))
        refine AW.aload_n dX3_read_113 rfl rfl ?_
        refine AW.getN ci4 3 (by decide) q371 dX3_read_114 ((hp_gb (nfx hX6)).trans ((Tk_g hXT).trans gX)) rfl rfl ?_
        refine AW.bipush (v := 24) dX3_read_117 (by decide) rfl ?_
        refine AW.icmp_ne (tgt := 129) dX3_read_119 (by decide) rfl (fun c_ => by first | exact absurd c_ h24 | exact absurd h24 c_ | exact Bool.noConfusion (c_.symm.trans h24)) (fun _ => ?_)
        refine AW.aload_n dX3_read_122 rfl rfl ?_
        refine AW.bipush (v := 6) dX3_read_123 (by decide) rfl ?_
        refine AW.callV (Y := mX3_wrong) (n := 1) (wr _ _) (by decide) (by decide) rfl (gTk hT) q455 q457 qs3 q142 q458 dX3_read_125 (by decide +kernel) rfl rfl (Nat.le_of_ble_eq_true rfl) rfl ?_
        exact AW.athrow dX3_read_128 q332 (by omega) ((tk_g (nfx (by omega)) (by omega)).trans push_g) rfl
      have hc : clR (byteF t n) (tkL t n L0) cls C i = semi (tkL t n L0) (clB (byteF t n) (tkL t n L0) 6 C (i + 1)) := by
        unfold clR
        rw [hf, if_neg (by decide), if_neg (fun q => absurd q.1 (by decide)), if_neg h24]
      rw [hc] at e1
      refine RdE.step hC r1 (rc_6 hC hTlo hR0 hs (by omega) rfl) e1 (fun s2 i2 kd3 nu3 ix2 cls2 C2 L2 x2 hC2 hR2 hl2 hx2 hxx => rd_loop hTlo f s2 i2 kd3 nu3 ix2 cls2 C2 L2 x2 hC2 hR2 (by omega) hx2 (by rw [← hxx]; exact hz))
    · have hf : sortF (tkL t n L0 i) = 7 := by rw [hsf, hs]; decide
      by_cases h24 : cls.length = 24
      · have hc : clR (byteF t n) (tkL t n L0) cls C i = .inl (6, i) := by
          unfold clR
          rw [hf, if_neg (by decide), if_neg (fun q => absurd q.1 (by decide)), if_pos h24]
        rw [hc] at e1
        have h24 : nI cls.length = 24 := congrArg nI h24
        refine RdE.l e1 (eq 6 207) ?_
        refine AW.aload_n dX3_read_12 rfl rfl ?_
        refine AW.get ci3 4 (by decide) q308 dX3_read_13 (gTk hT) rfl rfl ?_
        refine AW.sipush (v := 301) dX3_read_16 (by decide) rfl ?_
        refine AW.icmp_eq (tgt := 231) dX3_read_19 (by decide) rfl (fun c_ => by first | exact absurd c_ (show ¬ sortS (byteF t n) (tkL t n L0 i) = 301 by rw [hs]; decide) | exact absurd (show ¬ sortS (byteF t n) (tkL t n L0 i) = 301 by rw [hs]; decide) c_ | exact Bool.noConfusion (c_.symm.trans (show ¬ sortS (byteF t n) (tkL t n L0 i) = 301 by rw [hs]; decide))) (fun _ => ?_)
        refine AW.aload_n dX3_read_22 rfl rfl ?_
        refine AW.get ci3 4 (by decide) q308 dX3_read_23 (gTk hT) rfl rfl ?_
        refine AW.sipush (v := 200) dX3_read_26 (by decide) rfl ?_
        refine AW.icmp_lt (tgt := 42) dX3_read_29 (by decide) rfl (fun c_ => by first | exact absurd c_ (show ¬ sortS (byteF t n) (tkL t n L0 i) < 200 by rw [hs]; decide) | exact absurd (show ¬ sortS (byteF t n) (tkL t n L0 i) < 200 by rw [hs]; decide) c_ | exact Bool.noConfusion (c_.symm.trans (show ¬ sortS (byteF t n) (tkL t n L0 i) < 200 by rw [hs]; decide))) (fun _ => ?_)
        refine AW.aload_n dX3_read_32 rfl rfl ?_
        refine AW.get ci3 4 (by decide) q308 dX3_read_33 (gTk hT) rfl rfl ?_
        refine AW.sipush (v := 208) dX3_read_36 (by decide) rfl ?_
        refine AW.icmp_le (tgt := 48) dX3_read_39 (by decide) rfl (fun _ => ?_) (fun c_ => by first | exact absurd c_ (show sortS (byteF t n) (tkL t n L0 i) ≤ 208 by rw [hs]; decide) | exact absurd (show sortS (byteF t n) (tkL t n L0 i) ≤ 208 by rw [hs]; decide) c_ | exact absurd c_ (not_not_intro (show sortS (byteF t n) (tkL t n L0 i) ≤ 208 by rw [hs]; decide)) | exact Bool.noConfusion (c_.symm.trans (show sortS (byteF t n) (tkL t n L0 i) ≤ 208 by rw [hs]; decide)))
        refine AW.aload_n dX3_read_48 rfl rfl ?_
        refine AW.aload_n dX3_read_49 rfl rfl ?_
        refine AW.get ci3 4 (by decide) q308 dX3_read_50 (gTk hT) rfl rfl ?_
        refine AW.put ci3 7 (by decide) q311 dX3_read_53 (by omega) (gTk hT) rfl (fun _ => rfl) (fun _ => rfl) (Nat.le_of_ble_eq_true rfl) ((sTk7 hT).trans (congrArg (fun z => hp (Tk s T n t (tkL t n L0 i) nu (nI 0) z)) hs)) rfl ?_
        refine AW.aload_n dX3_read_56 rfl rfl ?_
        refine AW.get ci3 7 (by decide) q311 dX3_read_57 (gTk hT) rfl rfl ?_
        refine AW.sipush (v := 200) dX3_read_60 (by decide) rfl ?_
        refine AW.icmp_ne (tgt := 73) dX3_read_63 (by decide) rfl (fun _ => ?_) (fun c_ => by first | exact absurd c_ (show ¬ (207 : Int32) = 200 by decide) | exact absurd (show ¬ (207 : Int32) = 200 by decide) c_ | exact absurd c_ (not_not_intro (show ¬ (207 : Int32) = 200 by decide)) | exact Bool.noConfusion (c_.symm.trans (show ¬ (207 : Int32) = 200 by decide)))
        refine AW.aload_n dX3_read_73 rfl rfl ?_
        refine AW.get ci3 7 (by decide) q311 dX3_read_74 (gTk hT) rfl rfl ?_
        refine AW.sipush (v := 201) dX3_read_77 (by decide) rfl ?_
        refine AW.icmp_ne (tgt := 90) dX3_read_80 (by decide) rfl (fun _ => ?_) (fun c_ => by first | exact absurd c_ (show ¬ (207 : Int32) = 201 by decide) | exact absurd (show ¬ (207 : Int32) = 201 by decide) c_ | exact absurd c_ (not_not_intro (show ¬ (207 : Int32) = 201 by decide)) | exact Bool.noConfusion (c_.symm.trans (show ¬ (207 : Int32) = 201 by decide)))
        refine AW.aload_n dX3_read_90 rfl rfl ?_
        refine AW.get ci3 7 (by decide) q311 dX3_read_91 (gTk hT) rfl rfl ?_
        refine AW.sipush (v := 202) dX3_read_94 (by decide) rfl ?_
        refine AW.icmp_ne (tgt := 113) dX3_read_97 (by decide) rfl (fun _ => ?_) (fun c_ => by first | exact absurd c_ (show ¬ (207 : Int32) = 202 by decide) | exact absurd (show ¬ (207 : Int32) = 202 by decide) c_ | exact absurd c_ (not_not_intro (show ¬ (207 : Int32) = 202 by decide)) | exact Bool.noConfusion (c_.symm.trans (show ¬ (207 : Int32) = 202 by decide)))
        refine AW.aload_n dX3_read_113 rfl rfl ?_
        refine AW.getN ci4 3 (by decide) q371 dX3_read_114 ((hp_gb (nfx hX6)).trans ((Tk_g hXT).trans gX)) rfl rfl ?_
        refine AW.bipush (v := 24) dX3_read_117 (by decide) rfl ?_
        refine AW.icmp_ne (tgt := 129) dX3_read_119 (by decide) rfl (fun c_ => by first | exact absurd c_ h24 | exact absurd h24 c_ | exact Bool.noConfusion (c_.symm.trans h24)) (fun _ => ?_)
        refine AW.aload_n dX3_read_122 rfl rfl ?_
        refine AW.bipush (v := 6) dX3_read_123 (by decide) rfl ?_
        refine AW.callV (Y := mX3_wrong) (n := 1) (wr _ _) (by decide) (by decide) rfl (gTk hT) q455 q457 qs3 q142 q458 dX3_read_125 (by decide +kernel) rfl rfl (Nat.le_of_ble_eq_true rfl) rfl ?_
        exact AW.athrow dX3_read_128 q332 (by omega) ((tk_g (nfx (by omega)) (by omega)).trans push_g) rfl
      have hc : clR (byteF t n) (tkL t n L0) cls C i = semi (tkL t n L0) (clB (byteF t n) (tkL t n L0) 7 C (i + 1)) := by
        unfold clR
        rw [hf, if_neg (by decide), if_neg (fun q => absurd q.1 (by decide)), if_neg h24]
      rw [hc] at e1
      refine RdE.step hC r1 (rc_7 hC hTlo hR0 hs (by omega) rfl) e1 (fun s2 i2 kd3 nu3 ix2 cls2 C2 L2 x2 hC2 hR2 hl2 hx2 hxx => rd_loop hTlo f s2 i2 kd3 nu3 ix2 cls2 C2 L2 x2 hC2 hR2 (by omega) hx2 (by rw [← hxx]; exact hz))
    · have hf : sortF (tkL t n L0 i) = 8 := by rw [hsf, hs]; decide
      by_cases h24 : cls.length = 24
      · have hc : clR (byteF t n) (tkL t n L0) cls C i = .inl (6, i) := by
          unfold clR
          rw [hf, if_neg (by decide), if_neg (fun q => absurd q.1 (by decide)), if_pos h24]
        rw [hc] at e1
        have h24 : nI cls.length = 24 := congrArg nI h24
        refine RdE.l e1 (eq 6 208) ?_
        refine AW.aload_n dX3_read_12 rfl rfl ?_
        refine AW.get ci3 4 (by decide) q308 dX3_read_13 (gTk hT) rfl rfl ?_
        refine AW.sipush (v := 301) dX3_read_16 (by decide) rfl ?_
        refine AW.icmp_eq (tgt := 231) dX3_read_19 (by decide) rfl (fun c_ => by first | exact absurd c_ (show ¬ sortS (byteF t n) (tkL t n L0 i) = 301 by rw [hs]; decide) | exact absurd (show ¬ sortS (byteF t n) (tkL t n L0 i) = 301 by rw [hs]; decide) c_ | exact Bool.noConfusion (c_.symm.trans (show ¬ sortS (byteF t n) (tkL t n L0 i) = 301 by rw [hs]; decide))) (fun _ => ?_)
        refine AW.aload_n dX3_read_22 rfl rfl ?_
        refine AW.get ci3 4 (by decide) q308 dX3_read_23 (gTk hT) rfl rfl ?_
        refine AW.sipush (v := 200) dX3_read_26 (by decide) rfl ?_
        refine AW.icmp_lt (tgt := 42) dX3_read_29 (by decide) rfl (fun c_ => by first | exact absurd c_ (show ¬ sortS (byteF t n) (tkL t n L0 i) < 200 by rw [hs]; decide) | exact absurd (show ¬ sortS (byteF t n) (tkL t n L0 i) < 200 by rw [hs]; decide) c_ | exact Bool.noConfusion (c_.symm.trans (show ¬ sortS (byteF t n) (tkL t n L0 i) < 200 by rw [hs]; decide))) (fun _ => ?_)
        refine AW.aload_n dX3_read_32 rfl rfl ?_
        refine AW.get ci3 4 (by decide) q308 dX3_read_33 (gTk hT) rfl rfl ?_
        refine AW.sipush (v := 208) dX3_read_36 (by decide) rfl ?_
        refine AW.icmp_le (tgt := 48) dX3_read_39 (by decide) rfl (fun _ => ?_) (fun c_ => by first | exact absurd c_ (show sortS (byteF t n) (tkL t n L0 i) ≤ 208 by rw [hs]; decide) | exact absurd (show sortS (byteF t n) (tkL t n L0 i) ≤ 208 by rw [hs]; decide) c_ | exact absurd c_ (not_not_intro (show sortS (byteF t n) (tkL t n L0 i) ≤ 208 by rw [hs]; decide)) | exact Bool.noConfusion (c_.symm.trans (show sortS (byteF t n) (tkL t n L0 i) ≤ 208 by rw [hs]; decide)))
        refine AW.aload_n dX3_read_48 rfl rfl ?_
        refine AW.aload_n dX3_read_49 rfl rfl ?_
        refine AW.get ci3 4 (by decide) q308 dX3_read_50 (gTk hT) rfl rfl ?_
        refine AW.put ci3 7 (by decide) q311 dX3_read_53 (by omega) (gTk hT) rfl (fun _ => rfl) (fun _ => rfl) (Nat.le_of_ble_eq_true rfl) ((sTk7 hT).trans (congrArg (fun z => hp (Tk s T n t (tkL t n L0 i) nu (nI 0) z)) hs)) rfl ?_
        refine AW.aload_n dX3_read_56 rfl rfl ?_
        refine AW.get ci3 7 (by decide) q311 dX3_read_57 (gTk hT) rfl rfl ?_
        refine AW.sipush (v := 200) dX3_read_60 (by decide) rfl ?_
        refine AW.icmp_ne (tgt := 73) dX3_read_63 (by decide) rfl (fun _ => ?_) (fun c_ => by first | exact absurd c_ (show ¬ (208 : Int32) = 200 by decide) | exact absurd (show ¬ (208 : Int32) = 200 by decide) c_ | exact absurd c_ (not_not_intro (show ¬ (208 : Int32) = 200 by decide)) | exact Bool.noConfusion (c_.symm.trans (show ¬ (208 : Int32) = 200 by decide)))
        refine AW.aload_n dX3_read_73 rfl rfl ?_
        refine AW.get ci3 7 (by decide) q311 dX3_read_74 (gTk hT) rfl rfl ?_
        refine AW.sipush (v := 201) dX3_read_77 (by decide) rfl ?_
        refine AW.icmp_ne (tgt := 90) dX3_read_80 (by decide) rfl (fun _ => ?_) (fun c_ => by first | exact absurd c_ (show ¬ (208 : Int32) = 201 by decide) | exact absurd (show ¬ (208 : Int32) = 201 by decide) c_ | exact absurd c_ (not_not_intro (show ¬ (208 : Int32) = 201 by decide)) | exact Bool.noConfusion (c_.symm.trans (show ¬ (208 : Int32) = 201 by decide)))
        refine AW.aload_n dX3_read_90 rfl rfl ?_
        refine AW.get ci3 7 (by decide) q311 dX3_read_91 (gTk hT) rfl rfl ?_
        refine AW.sipush (v := 202) dX3_read_94 (by decide) rfl ?_
        refine AW.icmp_ne (tgt := 113) dX3_read_97 (by decide) rfl (fun _ => ?_) (fun c_ => by first | exact absurd c_ (show ¬ (208 : Int32) = 202 by decide) | exact absurd (show ¬ (208 : Int32) = 202 by decide) c_ | exact absurd c_ (not_not_intro (show ¬ (208 : Int32) = 202 by decide)) | exact Bool.noConfusion (c_.symm.trans (show ¬ (208 : Int32) = 202 by decide)))
        refine AW.aload_n dX3_read_113 rfl rfl ?_
        refine AW.getN ci4 3 (by decide) q371 dX3_read_114 ((hp_gb (nfx hX6)).trans ((Tk_g hXT).trans gX)) rfl rfl ?_
        refine AW.bipush (v := 24) dX3_read_117 (by decide) rfl ?_
        refine AW.icmp_ne (tgt := 129) dX3_read_119 (by decide) rfl (fun c_ => by first | exact absurd c_ h24 | exact absurd h24 c_ | exact Bool.noConfusion (c_.symm.trans h24)) (fun _ => ?_)
        refine AW.aload_n dX3_read_122 rfl rfl ?_
        refine AW.bipush (v := 6) dX3_read_123 (by decide) rfl ?_
        refine AW.callV (Y := mX3_wrong) (n := 1) (wr _ _) (by decide) (by decide) rfl (gTk hT) q455 q457 qs3 q142 q458 dX3_read_125 (by decide +kernel) rfl rfl (Nat.le_of_ble_eq_true rfl) rfl ?_
        exact AW.athrow dX3_read_128 q332 (by omega) ((tk_g (nfx (by omega)) (by omega)).trans push_g) rfl
      have hc : clR (byteF t n) (tkL t n L0) cls C i = semi (tkL t n L0) (clB (byteF t n) (tkL t n L0) 8 C (i + 1)) := by
        unfold clR
        rw [hf, if_neg (by decide), if_neg (fun q => absurd q.1 (by decide)), if_neg h24]
      rw [hc] at e1
      refine RdE.step hC r1 (rc_8 hC hTlo hR0 hs (by omega) rfl) e1 (fun s2 i2 kd3 nu3 ix2 cls2 C2 L2 x2 hC2 hR2 hl2 hx2 hxx => rd_loop hTlo f s2 i2 kd3 nu3 ix2 cls2 C2 L2 x2 hC2 hR2 (by omega) hx2 (by rw [← hxx]; exact hz))
