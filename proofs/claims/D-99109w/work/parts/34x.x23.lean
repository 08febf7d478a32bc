/-! SYSTEM 23: tokens: what is wanted and found; products and sums (printed by tools/x23.py) -/
set_option maxRecDepth 100000
theorem r_X3_want_t {s : Sg} {T n : Nat} {t : Nat → Int32} {L0 : Lq} {kd : Int32} (hC : TC s T n t) (i : Nat) {nu op : Int32} (w : Int32) (h : sortS (byteF t n) (tkL t n L0 i) = w) : ∃ nu2, NuOk (tkL t n L0 (i + 1)) nu2 ∧ Run 10 mX3_want [.ref T, .int w] (hp (Tk s T n t (tkL t n L0 i) nu op kd)) (.inl none) (hp (Tk s T n t (tkL t n L0 (i + 1)) nu2 op kd)) := by
  have hT := hC.1
  obtain ⟨nu2, hn, w1⟩ := tk_next hC L0 i (nu := nu) (op := op) (kd := kd)
  refine ⟨nu2, hn, ?_⟩
  refine Run.of rfl (Nat.le_of_ble_eq_true rfl) rfl ?_
  refine AW.aload_n dX3_want_0 rfl rfl ?_
  refine AW.get ci3 4 (by decide) q308 dX3_want_1 (gTk hT) rfl rfl ?_
  refine AW.iload_n dX3_want_4 rfl rfl ?_
  refine AW.icmp_eq (tgt := 14) dX3_want_5 (by decide) rfl (fun _ => ?_) (fun c_ => by first | exact absurd c_ h | exact absurd h c_ | exact absurd c_ (not_not_intro h) | exact Bool.noConfusion (c_.symm.trans h))
  refine AW.aload_n dX3_want_14 rfl rfl ?_
  refine AW.callV (Y := mX3_next) (n := 0) (w1) (by decide) (by decide) rfl (gTk hT) q386 q388 qs1 q142 q389 dX3_want_15 (by decide +kernel) rfl rfl (Nat.le_of_ble_eq_true rfl) rfl ?_
  exact AW.vretE dX3_want_18 rfl rfl rfl
theorem r_X3_opens_t {s : Sg} {T n : Nat} {t : Nat → Int32} {L0 : Lq} {kd : Int32} (hC : TC s T n t) (i : Nat) {nu op : Int32} (h : ¬ op = 8) : ∃ nu2, NuOk (tkL t n L0 (i + 1)) nu2 ∧ Run 10 mX3_opens [.ref T] (hp (Tk s T n t (tkL t n L0 i) nu op kd)) (.inl none) (hp (Tk s T n t (tkL t n L0 (i + 1)) nu2 (op + 1) kd)) := by
  have hT := hC.1
  obtain ⟨nu2, hn, w1⟩ := tk_next hC L0 i (nu := nu) (op := (op + 1)) (kd := kd)
  refine ⟨nu2, hn, ?_⟩
  refine Run.of rfl (Nat.le_of_ble_eq_true rfl) rfl ?_
  refine AW.aload_n dX3_opens_0 rfl rfl ?_
  refine AW.get ci3 6 (by decide) q310 dX3_opens_1 (gTk hT) rfl rfl ?_
  refine AW.bipush (v := 8) dX3_opens_4 (by decide) rfl ?_
  refine AW.icmp_ne (tgt := 15) dX3_opens_6 (by decide) rfl (fun _ => ?_) (fun c_ => by first | exact absurd c_ h | exact absurd h c_ | exact absurd c_ (not_not_intro h) | exact Bool.noConfusion (c_.symm.trans h))
  refine AW.aload_n dX3_opens_15 rfl rfl ?_
  refine AW.dup dX3_opens_16 rfl rfl ?_
  refine AW.get ci3 6 (by decide) q310 dX3_opens_17 (gTk hT) rfl rfl ?_
  refine AW.iconst (v := 1) dX3_opens_20 (by decide) rfl ?_
  refine AW.iadd dX3_opens_21 rfl ?_
  refine AW.put ci3 6 (by decide) q310 dX3_opens_22 (by omega) (gTk hT) rfl (fun _ => rfl) (fun _ => rfl) (Nat.le_of_ble_eq_true rfl) (sTk6 hT) rfl ?_
  refine AW.aload_n dX3_opens_25 rfl rfl ?_
  refine AW.callV (Y := mX3_next) (n := 0) (w1) (by decide) (by decide) rfl (gTk hT) q386 q388 qs1 q142 q389 dX3_opens_26 (by decide +kernel) rfl rfl (Nat.le_of_ble_eq_true rfl) rfl ?_
  exact AW.vretE dX3_opens_29 rfl rfl rfl
theorem r_X3_number_t {s : Sg} {T n : Nat} {t : Nat → Int32} {L0 : Lq} {kd : Int32} (hC : TC s T n t) (i : Nat) {nu op : Int32} (lo hi : Int32) (h : sortS (byteF t n) (tkL t n L0 i) = 300) (h2 : inI nu lo hi = true) : ∃ nu2, NuOk (tkL t n L0 (i + 1)) nu2 ∧ Run 10 mX3_number [.ref T, .int lo, .int hi] (hp (Tk s T n t (tkL t n L0 i) nu op kd)) (.inl (some (.int nu))) (hp (Tk s T n t (tkL t n L0 (i + 1)) nu2 op kd)) := by
  have hT := hC.1
  obtain ⟨nu2, hn, w1⟩ := tk_next hC L0 i (nu := nu) (op := op) (kd := kd)
  refine ⟨nu2, hn, ?_⟩
  have h5 := Bool.and_eq_true_iff.mp h2
  have h3 : ¬ nu < lo := Int32.not_lt.mpr (of_decide_eq_true h5.1)
  have h4 : nu ≤ hi := of_decide_eq_true h5.2
  refine Run.of rfl (Nat.le_of_ble_eq_true rfl) rfl ?_
  refine AW.aload_n dX3_number_0 rfl rfl ?_
  refine AW.get ci3 4 (by decide) q308 dX3_number_1 (gTk hT) rfl rfl ?_
  refine AW.sipush (v := 300) dX3_number_4 (by decide) rfl ?_
  refine AW.icmp_eq (tgt := 16) dX3_number_7 (by decide) rfl (fun _ => ?_) (fun c_ => by first | exact absurd c_ h | exact absurd h c_ | exact absurd c_ (not_not_intro h) | exact Bool.noConfusion (c_.symm.trans h))
  refine AW.aload_n dX3_number_16 rfl rfl ?_
  refine AW.get ci3 5 (by decide) q309 dX3_number_17 (gTk hT) rfl rfl ?_
  refine AW.iload_n dX3_number_20 rfl rfl ?_
  refine AW.icmp_lt (tgt := 32) dX3_number_21 (by decide) rfl (fun c_ => by first | exact absurd c_ h3 | exact absurd h3 c_ | exact Bool.noConfusion (c_.symm.trans h3)) (fun _ => ?_)
  refine AW.aload_n dX3_number_24 rfl rfl ?_
  refine AW.get ci3 5 (by decide) q309 dX3_number_25 (gTk hT) rfl rfl ?_
  refine AW.iload_n dX3_number_28 rfl rfl ?_
  refine AW.icmp_le (tgt := 38) dX3_number_29 (by decide) rfl (fun _ => ?_) (fun c_ => by first | exact absurd c_ h4 | exact absurd h4 c_ | exact absurd c_ (not_not_intro h4) | exact Bool.noConfusion (c_.symm.trans h4))
  refine AW.aload_n dX3_number_38 rfl rfl ?_
  refine AW.get ci3 5 (by decide) q309 dX3_number_39 (gTk hT) rfl rfl ?_
  refine AW.istore_n (i := 3) dX3_number_42 rfl rfl (Nat.le_of_ble_eq_true rfl) rfl rfl ?_
  refine AW.aload_n dX3_number_43 rfl rfl ?_
  refine AW.callV (Y := mX3_next) (n := 0) (w1) (by decide) (by decide) rfl (gTk hT) q386 q388 qs1 q142 q389 dX3_number_44 (by decide +kernel) rfl rfl (Nat.le_of_ble_eq_true rfl) rfl ?_
  refine AW.iload_n dX3_number_47 rfl rfl ?_
  exact AW.iretE dX3_number_48 rfl rfl rfl rfl
def EQ (T n : Nat) (t : Nat → Int32) (L0 : Lq) (kd : Int32) (lo sc su : Nat) (s : Sg) (i : Nat) (r : Int32) (j : Nat) (oh : OR × AH) : Prop := i ≤ j ∧ ∃ q b2 nu2 op2, ExT T lo (16 * (j - i) + sc + 4) (120 * (j - i) + su + 20) s.b b2 ∧ (lo ≤ q ∧ q < 512 + b2.n ∧ b2.g q = some (wrC q r (tkL t n L0 j).2.1)) ∧ oh = (.inr q, hp (Tk (s.setb b2) T n t (tkL t n L0 j) nu2 op2 kd))
def SQ (T n : Nat) (t : Nat → Int32) (L0 : Lq) (kd : Int32) (G : Cd → Nat → AH → Nat → Prop) (z lo sc su : Nat) (s : Sg) (i : Nat) (op : Int32) (c : Cd) (j : Nat) (oh : OR × AH) : Prop := i + z ≤ j ∧ ∃ a b2 nu2, ExT T lo (16 * (j - i) + sc) (120 * (j - i) + su) s.b b2 ∧ G c lo b2 a ∧ NuOk (tkL t n L0 j) nu2 ∧ oh = (.inl (some (.ref a)), hp (Tk (s.setb b2) T n t (tkL t n L0 j) nu2 op kd))
/-- what an end of the reader's descent says -/
def PQ (T n : Nat) (t : Nat → Int32) (L0 : Lq) (kd : Int32) (G : Cd → Nat → AH → Nat → Prop) (z lo sc su : Nat) (s : Sg) (i : Nat) (op : Int32) (x : RD) (oh : OR × AH) : Prop := match x with
  | .inl e => EQ T n t L0 kd lo sc su s i e.1 e.2 oh
  | .inr e => SQ T n t L0 kd G z lo sc su s i op e.1 e.2 oh
/-- the fuel was enough -/
def nz (x : RD) : Prop := ∀ j, ¬ x = .inl (0, j)
def GS (D : Nat) (c : Cd) (lo : Nat) (b : AH) (a : Nat) : Prop := ∃ F, CS c F ∧ SumO lo (512 + b.n) b D a F
def GA (D : Nat) (c : Cd) (lo : Nat) (b : AH) (a : Nat) : Prop := ∃ F, CA c F ∧ AskO lo (512 + b.n) b D a F
theorem GS.wid {D D2 : Nat} {c : Cd} {lo lo2 : Nat} {b : AH} {a : Nat} (h : GS D c lo b a) (h6 : 640 ≤ lo2) (hl : lo2 ≤ lo) (hD : D ≤ D2) : GS D2 c lo2 b a := by
  obtain ⟨F, h1, h2⟩ := h
  exact ⟨F, h1, FnO.widen h2 h6 hl (Nat.le_refl _) (Nat.le_refl _) hD⟩
theorem GA.wid {D D2 : Nat} {c : Cd} {lo lo2 : Nat} {b : AH} {a : Nat} (h : GA D c lo b a) (h6 : 640 ≤ lo2) (hl : lo2 ≤ lo) (hD : D ≤ D2) : GA D2 c lo2 b a := by
  obtain ⟨F, h1, h2⟩ := h
  exact ⟨F, h1, FnO.widen h2 h6 hl (Nat.le_refl _) (Nat.le_refl _) hD⟩
section PQS
variable {T n : Nat} {t : Nat → Int32} {L0 : Lq} {kd : Int32} {s : Sg}
theorem PQ.le {G : Cd → Nat → AH → Nat → Prop} {z lo sc su i : Nat} {op : Int32} {e : Int32 × Nat} {oh : OR × AH} (h : PQ T n t L0 kd G z lo sc su s i op (.inl e) oh) : EQ T n t L0 kd lo sc su s i e.1 e.2 oh := h
theorem EQ.up {lo lo1 sc su sc1 su1 c u i i1 j : Nat} {r : Int32} {b1 : AH} {oh : OR × AH} (h : EQ T n t L0 kd lo1 sc1 su1 (s.setb b1) i1 r j oh) (x : ExT T lo c u s.b b1) (hl : lo ≤ lo1) (hi : i ≤ i1) (hc : c + sc1 ≤ 16 * (i1 - i) + sc) (hu : u + su1 ≤ 120 * (i1 - i) + su) : EQ T n t L0 kd lo sc su s i r j oh := by
  obtain ⟨h1, q, b2, nu2, op2, h2, ⟨h3, h4, h5⟩, h6⟩ := h
  exact ⟨by omega, q, b2, nu2, op2, (x.trans h2 hl).mono (Nat.le_refl _) (by omega) (by omega), ⟨by omega, h4, h5⟩, h6⟩
theorem SQ.up {G G2 : Cd → Nat → AH → Nat → Prop} {z z1 lo lo1 sc su sc1 su1 c u i i1 j : Nat} {op : Int32} {C : Cd} {b1 : AH} {oh : OR × AH} (h : SQ T n t L0 kd G z1 lo1 sc1 su1 (s.setb b1) i1 op C j oh) (x : ExT T lo c u s.b b1) (hl : lo ≤ lo1) (hi : i + z ≤ i1 + z1) (hi2 : i ≤ i1) (hc : c + sc1 ≤ 16 * (i1 - i) + sc) (hu : u + su1 ≤ 120 * (i1 - i) + su) (hG : ∀ b2 a, G C lo1 b2 a → G2 C lo b2 a) : SQ T n t L0 kd G2 z lo sc su s i op C j oh := by
  obtain ⟨h1, a, b2, nu2, h2, h3, h4, h5⟩ := h
  exact ⟨by omega, a, b2, nu2, (x.trans h2 hl).mono (Nat.le_refl _) (by omega) (by omega), hG b2 a h3, h4, h5⟩
theorem PQ.up {G G2 : Cd → Nat → AH → Nat → Prop} {z z1 lo lo1 sc su sc1 su1 c u i i1 : Nat} {op : Int32} {b1 : AH} {x : RD} {oh : OR × AH} (h : PQ T n t L0 kd G z1 lo1 sc1 su1 (s.setb b1) i1 op x oh) (hx : ExT T lo c u s.b b1) (hl : lo ≤ lo1) (hi : i + z ≤ i1 + z1) (hi2 : i ≤ i1) (hc : c + sc1 ≤ 16 * (i1 - i) + sc) (hu : u + su1 ≤ 120 * (i1 - i) + su) (hG : ∀ C b2 a, G C lo1 b2 a → G2 C lo b2 a) : PQ T n t L0 kd G2 z lo sc su s i op x oh := by
  cases x with
  | inl e => exact EQ.up h hx hl hi2 hc hu
  | inr e => exact SQ.up h hx hl hi hi2 hc hu (hG _)
theorem PQ.l {G : Cd → Nat → AH → Nat → Prop} {z lo sc su i : Nat} {op : Int32} {x : RD} {e : Int32 × Nat} {oh : OR × AH} (hx : x = .inl e) (h : EQ T n t L0 kd lo sc su s i e.1 e.2 oh) : PQ T n t L0 kd G z lo sc su s i op x oh := by
  subst hx
  exact h
theorem PQ.r {G : Cd → Nat → AH → Nat → Prop} {z lo sc su i : Nat} {op : Int32} {x : RD} {e : Cd × Nat} {oh : OR × AH} (hx : x = .inr e) (h : SQ T n t L0 kd G z lo sc su s i op e.1 e.2 oh) : PQ T n t L0 kd G z lo sc su s i op x oh := by
  subst hx
  exact h
/-- what lies ahead of the reader in its heap -/
theorem Tk_ex {lo c u : Nat} {L : Lq} {nu op : Int32} {b2 : AH} (h : ExT T lo c u (Tk s T n t L nu op kd).b b2) : ExT T lo c u s.b b2 := by
  obtain ⟨h1, h2, h3, h4, h5⟩ := h
  exact ⟨h1, h2, h3, h4, fun k hk hT => (h5 k hk hT).trans (Tk_g hT)⟩
theorem Tk_fn {x : MethodName} {lo hi : Nat} {L : Lq} {nu op : Int32} {d a : Nat} {G : (Nat → Int32) → Value} (h6 : 640 ≤ T) (hl : T < lo) (h : FnO x lo hi s.b d a G) : FnO x lo hi (Tk s T n t L nu op kd).b d a G := FnO.ext h (Nat.le_refl _) (fun k hk => Tk_g (by omega))
theorem Tk_nf {x : MethodName} {lo hi : Nat} {L : Lq} {nu op : Int32} {d a : Nat} {G : (Nat → Int32) → Value} (h6 : 640 ≤ T) (hl : T < lo) (h : FnO x lo hi (Tk s T n t L nu op kd).b d a G) : FnO x lo hi s.b d a G := FnO.ext h (Nat.le_refl _) (fun k hk => (Tk_g (by omega)).symm)
theorem tk_0 {i : Nat} (h : (tkL t n L0 i).2.2.1 = 0) : (tkL t n L0 i).1 = nI n := by
  have key : ∀ {p : Nat} {L : Lq}, (lexT (byteF t n) n p L).2.2.1 = 0 → (lexT (byteF t n) n p L).1 = nI n := fun {p L} h => by
    unfold lexT at h ⊢
    by_cases h0 : p = n
    · rw [if_pos h0]
      exact congrArg nI h0
    rw [if_neg h0] at h ⊢
    by_cases h1 : isFig (byteF t n p) = true
    · rw [if_pos h1] at h
      exact absurd (show (1 : Int32) = 0 from h) (by decide)
    rw [if_neg h1] at h ⊢
    by_cases h2 : isLet (byteF t n p) = true
    · rw [if_pos h2] at h
      exact absurd (show (2 : Int32) = 0 from h) (by decide)
    rw [if_neg h2] at h ⊢
    by_cases h3 : (byteF t n p = 60 ∨ byteF t n p = 62) ∧ byteF t n (p + 1) = 61
    · rw [if_pos h3] at h
      have h' : (if byteF t n p = 60 then (4 : Int32) else 5) = 0 := h
      split at h' <;> exact absurd h' (by decide)
    rw [if_neg h3] at h
    have h' : (if isSig (byteF t n p) = true then byteF t n p else 3) = 0 := h
    by_cases h4 : isSig (byteF t n p) = true
    · rw [if_pos h4] at h'
      rw [h'] at h4
      exact absurd h4 (by decide)
    · rw [if_neg h4] at h'
      exact absurd h' (by decide)
  cases i with
  | zero => exact key h
  | succ i => exact key h
theorem tk_lt (hn : n ≤ 300) : ∀ i, ¬ (tkL t n L0 i).2.2.1 = 0 → i + 1 ≤ cI (tkL t n L0 i).1
  | 0, h => by
    have hp := spn_le (p := isWs) (B := byteF t n) (n := n) (k := 0) (by omega)
    obtain ⟨⟨k, h1, h2, h3⟩, h4⟩ := lexT_at (t := t) (L := L0) hp
    have e : tkL t n L0 0 = lexT (byteF t n) n (spn isWs (byteF t n) n 0) L0 := rfl
    rw [e] at h ⊢
    rw [h2, cI_nI (by omega)]
    by_cases q : spn isWs (byteF t n) n 0 < n
    · have := h3 q
      omega
    · exfalso
      apply h
      unfold lexT
      rw [if_pos (by omega)]
  | i + 1, h => by
    have hg := tk_go (L0 := L0) hn i h
    have h0 : ¬ (tkL t n L0 i).2.2.1 = 0 := fun z => by
      have e := tk_0 z
      have l := (tk_L (t := t) (L0 := L0) hn (i + 1)).2
      rw [e, cI_nI (by omega)] at hg
      omega
    have := tk_lt hn i h0
    omega
theorem tk_300 (hn : n ≤ 300) {i : Nat} (h : ¬ (tkL t n L0 i).2.2.1 = 0) : i < 300 := by
  have h1 := tk_lt hn i h
  have h2 := (tk_L (t := t) (L0 := L0) hn i).2
  omega
end PQS
theorem ChC.c_ {b : AH} {lo top D c m i1 i2 : Nat} {F : SumF} (h : ChC b lo top D c m i1 i2 F) : 640 ≤ lo ∧ lo ≤ c ∧ c < 512 + b.n ∧ (∃ fs, b.g c = some (.inr (6, fs))) ∧ 4 * capN i1 + 4 * capN i2 ≤ 80 * m ∧ c < top ∧ top ≤ 512 + b.n := by
  obtain ⟨x1, lo1, hi1, Mo, E, So, E2, F1, av, los, his, iv, Fs, sg, ⟨h1, h2, h3, h4⟩, ht, h5, h6, h7, h8, ⟨h9, h10, h11⟩, h12, h13, h14⟩ := h
  have d5 := h5.D_.2.2.2
  have d6 := h6.D_.2.2.2
  exact ⟨h1, h2, h3, ⟨_, h4⟩, by omega, ht.1, ht.2.2.2.2.2⟩
section CLS
variable (T n : Nat) (t : Nat → Int32) (L0 : Lq) (kd : Int32)
abbrev RF (f md : Nat) (C : Cd) (i o : Nat) : RD := rd (byteF t n) (tkL t n L0) (decide (kd = 202)) f md C i (nI o)
/-- a method of the descent, by fuel -/
def CM (Y : Mt) (G : Nat → Cd → Nat → AH → Nat → Prop) (md D sc su fr f : Nat) : Prop := ∀ (s : Sg) (i o : Nat) (nu : Int32), TC s T n t → o ≤ 8 → NuOk (tkL t n L0 i) nu → nz (RF n t L0 kd f md [] i o) → RXO (PQ T n t L0 kd (G (6 + 3 * (8 - o) + D)) 1 (512 + s.b.n) sc su s i (nI o) (RF n t L0 kd f md [] i o)) (12 + 4 * (8 - o) + fr) Y [.ref T] (hp (Tk s T n t (tkL t n L0 i) nu (nI o) kd))
/-- a loop over a chain, by fuel -/
def CLo (Y : Mt) (md D fr f : Nat) : Prop := ∀ (s : Sg) (i o : Nat) (nu : Int32) (lo top c m i1 i2 : Nat) (F : SumF) (C : Cd) (l2 : Option Value), TC s T n t → o ≤ 8 → NuOk (tkL t n L0 i) nu → T < lo → ChC s.b lo top (6 + 3 * (8 - o) + D) c m i1 i2 F → CS C F → 2 * m ≤ i → m ≤ 160 → nz (RF n t L0 kd f md C i o) → AXO (PQ T n t L0 kd (GS (6 + 3 * (8 - o) + D + 1)) 0 lo 0 (80 * m - (4 * capN i1 + 4 * capN i2)) s i (nI o) (RF n t L0 kd f md C i o)) (12 + 4 * (8 - o) + fr) Y (hp (Tk s T n t (tkL t n L0 i) nu (nI o) kd)) 12 [some (.ref T), some (.ref c), l2] []
end CLS
theorem nz_bd {x : RD} {k : Cd → Nat → RD} (h : nz (bd x k)) : nz x := fun j e => by
  subst e
  exact h j rfl
theorem lo_product {T n : Nat} {t : Nat → Int32} {L0 : Lq} {kd : Int32} {f : Nat} (h1 : CM T n t L0 kd mX3_one GS 0 0 0 0 0 f) (hl : CLo T n t L0 kd mX3_product 2 0 1 f) : CLo T n t L0 kd mX3_product 2 0 1 (f + 1) := by
  intro s i o nu lo top c m i1 i2 F C l2 hC ho hN hTl hh hCS hm hm2 hz
  have hT := hC.1
  have hTb := hC.2.1
  have h300 := hC.2.2.2.1
  obtain ⟨k1, k2, k3, ⟨fs, k4⟩, k5, k7, k6⟩ := hh.c_
  have gc : (hp (Tk s T n t (tkL t n L0 i) nu (nI o) kd)).g c = some (.inr (6, fs)) := (hp_gb (nfx (by omega))).trans ((Tk_g (by omega)).trans k4)
  have e0 : RF n t L0 kd (f + 1) 2 C i o = (if (tkL t n L0 i).2.2.1 = 42 then bd (RF n t L0 kd f 0 [] (i + 1) o) fun c2 j => RF n t L0 kd f 2 (C ++ c2 ++ [(5, 0)]) j o else if (tkL t n L0 i).2.2.1 = 47 then bd (RF n t L0 kd f 0 [] (i + 1) o) fun c2 j => RF n t L0 kd f 2 (C ++ c2 ++ [(6, 0)]) j o else .inr (C, i)) := rfl
  by_cases h0 : (tkL t n L0 i).2.2.1 = 42
  · have i3 := tk_300 (L0 := L0) h300 (i := i) (by rw [h0]; decide)
    have hs : sortS (byteF t n) (tkL t n L0 i) = 42 := (so_c i (c := 42) (v := 42) (by decide) (by decide +kernel) (by decide +kernel)).mpr h0
    rw [if_pos h0] at e0
    rw [e0] at hz ⊢
    obtain ⟨nu2, hN2, w1⟩ := tk_next hC L0 i (nu := nu) (op := nI o) (kd := kd)
    have gc2 : (hp (Tk s T n t (tkL t n L0 (i + 1)) nu2 (nI o) kd)).g c = some (.inr (6, fs)) := (hp_gb (nfx (by omega))).trans ((Tk_g (by omega)).trans k4)
    obtain ⟨⟨o9, h9⟩, q9, w9⟩ := h1 s (i + 1) o nu2 hC ho hN2 (nz_bd hz)
    cases hx : RF n t L0 kd f 0 [] (i + 1) o with
    | inl e =>
      rw [hx] at q9
      have q8 : EQ T n t L0 kd lo 0 (80 * m - (4 * capN i1 + 4 * capN i2)) s i e.1 e.2 (o9, h9) := EQ.up (b1 := s.b) (show EQ T n t L0 kd (512 + s.b.n) 0 0 (s.setb s.b) (i + 1) e.1 e.2 (o9, h9) from q9) (ExT.refl T lo s.b) (by omega) (by omega) (by omega) (by omega)
      obtain ⟨-, q, b2, nu3, op3, -, -, qe⟩ := id q8
      obtain ⟨rfl, rfl⟩ := Prod.mk.inj qe
      refine ⟨_, PQ.l rfl q8, ?_⟩
      refine AW.aload_n dX3_product_12 rfl rfl ?_
      refine AW.get ci3 4 (by decide) q308 dX3_product_13 (gTk hT) rfl rfl ?_
      refine AW.bipush (v := 42) dX3_product_16 (by decide) rfl ?_
      refine AW.icmp_eq (tgt := 30) dX3_product_18 (by decide) rfl (fun _ => ?_) (fun c_ => by first | exact absurd c_ hs | exact absurd hs c_ | exact absurd c_ (not_not_intro hs) | exact Bool.noConfusion (c_.symm.trans hs))
      refine AW.aload_n dX3_product_30 rfl rfl ?_
      refine AW.get ci3 4 (by decide) q308 dX3_product_31 (gTk hT) rfl rfl ?_
      refine AW.istore_n (i := 2) dX3_product_34 rfl rfl (Nat.le_of_ble_eq_true rfl) rfl rfl ?_
      refine AW.aload_n dX3_product_35 rfl rfl ?_
      refine AW.callV (Y := mX3_next) (n := 0) (w1) (by omega) (by decide) rfl (gTk hT) q386 q388 qs1 q142 q389 dX3_product_36 (by decide +kernel) rfl rfl (Nat.le_of_ble_eq_true rfl) rfl ?_
      refine AW.aload_n dX3_product_39 rfl rfl ?_
      refine AW.iload_n dX3_product_40 rfl rfl ?_
      refine AW.aload_n dX3_product_41 rfl rfl ?_
      exact AW.callVX (Y := mX3_one) (n := 0) (w9) (by omega) (by decide) rfl (gTk hT) q533 q535 qs7 q142 q536 dX3_product_42 (by decide +kernel) rfl rfl (Nat.le_of_ble_eq_true rfl) q532 rfl
    | inr e =>
      obtain ⟨c2, j⟩ := e
      rw [hx] at q9 hz
      obtain ⟨j1, y, b2, nu3, x2, ⟨G, hG1, hG2⟩, hN3, qe⟩ := q9
      obtain ⟨rfl, rfl⟩ := Prod.mk.inj qe
      have j1' : i + 1 + 1 ≤ j := j1
      have x2n := x2.1
      have x2c := x2.2.1
      have x2u := x2.2.2.1
      have x2v := x2.2.2.2.1
      have hC2 : TC (s.setb b2) T n t := hC.ext x2 (by omega)
      have hk2 : ChC b2 lo top (6 + 3 * (8 - o) + 0) c m i1 i2 F := hh.by_ x2n (fun k hk hl => x2.2.2.2.2 k (by omega) (by omega))
      have hk3 : ChC (Tk (s.setb b2) T n t (tkL t n L0 j) nu3 (nI o) kd).b lo top (6 + 3 * (8 - o) + 0) c m i1 i2 F := hk2.by_ (Nat.le_refl _) (fun k hk hl => Tk_g (by omega))
      obtain ⟨_, ⟨b3, ⟨j3, j4, a1, a2, a3, a4, a5, a6⟩, rfl⟩, w3⟩ := ch_add (s := Tk (s.setb b2) T n t (tkL t n L0 j) nu3 (nI o) kd) (w := 42) (y := y) hk3 hC2.bh (FnO.widen (Tk_fn hT (by omega) hG2) (by omega) k6 (Nat.le_refl _) (Nat.le_refl _) (Nat.le_refl _)) (by omega) (by omega)
      have hb3 : hp ((Tk (s.setb b2) T n t (tkL t n L0 j) nu3 (nI o) kd).setb b3) = hp (Tk (s.setb b3) T n t (tkL t n L0 j) nu3 (nI o) kd) := Tk_in (s := s.setb b2) (a2 T (by show T < 512 + b2.n; omega) hTl)
      have a3' : b2.n ≤ b3.n := a3
      have a4' : b3.n ≤ b2.n + 2 := a4
      have a5' : b2.u ≤ b3.u := a5
      have a6' : b3.u + 4 * capN i1 + 4 * capN i2 ≤ b2.u + 4 * capN j3 + 4 * capN j4 := a6
      have x3 : ExT T lo (b3.n - s.b.n) (b3.u - s.b.u) s.b b3 := ⟨by omega, by omega, by omega, by omega, fun k hk hkT => (a2 k (by show k < 512 + b2.n; omega) hk).trans ((Tk_g hkT).trans (x2.2.2.2.2 k (by omega) hkT))⟩
      have c3 := a1.c_
      have hC3 : TC (s.setb b3) T n t := hC.ext x3 (by omega)
      have hCS3 : CS (C ++ c2 ++ [(5, 0)]) (fun N => chOp (nI 42) (F N) (G N)) := by
        have := CS.bin hCS hG1 5 (by decide) (by decide) (by decide) (by decide)
        rw [show (fun N => twoL 5 (F N) (G N)) = (fun N => chOp (nI 42) (F N) (G N)) from funext fun N => two_5 _ _] at this
        exact this
      have ih := hl (s.setb b3) j o nu3 lo _ c (m + 1) j3 j4 _ (C ++ c2 ++ [(5, 0)]) (some (.int (sortS (byteF t n) (tkL t n L0 i)))) hC3 ho hN3 hTl a1 hCS3 (by omega) (by omega) hz
      have x2' : b2.u ≤ s.b.u + (120 * (j - (i + 1)) + 0) := x2v
      have x2'' : b2.n ≤ s.b.n + (16 * (j - (i + 1)) + 0) := x2c
      have ih2 := ih.mono (fun oh h => PQ.up (z := 0) (sc := 0) (su := 80 * m - (4 * capN i1 + 4 * capN i2)) (i := i) h x3 (Nat.le_refl _) (by omega) (by omega) (by omega) (by omega) (fun C b a h => h))
      have gc3 : (hp (Tk (s.setb b2) T n t (tkL t n L0 j) nu3 (nI o) kd)).g c = some (.inr (6, fs)) := (hp_gb (nfx (by omega))).trans ((Tk_g (by omega)).trans ((x2.2.2.2.2 c (by omega) (by omega)).trans k4))
      rw [show nI 42 = sortS (byteF t n) (tkL t n L0 i) from hs.symm] at w3
      refine AXO.map (fun _ kk => ?_) ih2
      refine AW.aload_n dX3_product_12 rfl rfl ?_
      refine AW.get ci3 4 (by decide) q308 dX3_product_13 (gTk hT) rfl rfl ?_
      refine AW.bipush (v := 42) dX3_product_16 (by decide) rfl ?_
      refine AW.icmp_eq (tgt := 30) dX3_product_18 (by decide) rfl (fun _ => ?_) (fun c_ => by first | exact absurd c_ hs | exact absurd hs c_ | exact absurd c_ (not_not_intro hs) | exact Bool.noConfusion (c_.symm.trans hs))
      refine AW.aload_n dX3_product_30 rfl rfl ?_
      refine AW.get ci3 4 (by decide) q308 dX3_product_31 (gTk hT) rfl rfl ?_
      refine AW.istore_n (i := 2) dX3_product_34 rfl rfl (Nat.le_of_ble_eq_true rfl) rfl rfl ?_
      refine AW.aload_n dX3_product_35 rfl rfl ?_
      refine AW.callV (Y := mX3_next) (n := 0) (w1) (by omega) (by decide) rfl (gTk hT) q386 q388 qs1 q142 q389 dX3_product_36 (by decide +kernel) rfl rfl (Nat.le_of_ble_eq_true rfl) rfl ?_
      refine AW.aload_n dX3_product_39 rfl rfl ?_
      refine AW.iload_n dX3_product_40 rfl rfl ?_
      refine AW.aload_n dX3_product_41 rfl rfl ?_
      refine AW.callV (Y := mX3_one) (n := 0) (w9) (by omega) (by decide) rfl (gTk hT) q533 q535 qs7 q142 q536 dX3_product_42 (by decide +kernel) rfl rfl (Nat.le_of_ble_eq_true rfl) rfl ?_
      refine AW.callV (Y := mX6_add) (n := 2) (w3) (by omega) (by decide) rfl gc3 q623 q624 q625 q155 q626 dX3_product_45 (by decide +kernel) rfl rfl (Nat.le_of_ble_eq_true rfl) rfl ?_
      refine AW.goto (tgt := 12) dX3_product_48 (by decide) ?_
      exact AW.hp hb3 kk
  by_cases h1_ : (tkL t n L0 i).2.2.1 = 47
  · have i3 := tk_300 (L0 := L0) h300 (i := i) (by rw [h1_]; decide)
    have hs : sortS (byteF t n) (tkL t n L0 i) = 47 := (so_c i (c := 47) (v := 47) (by decide) (by decide +kernel) (by decide +kernel)).mpr h1_
    rw [if_neg h0, if_pos h1_] at e0
    rw [e0] at hz ⊢
    obtain ⟨nu2, hN2, w1⟩ := tk_next hC L0 i (nu := nu) (op := nI o) (kd := kd)
    have gc2 : (hp (Tk s T n t (tkL t n L0 (i + 1)) nu2 (nI o) kd)).g c = some (.inr (6, fs)) := (hp_gb (nfx (by omega))).trans ((Tk_g (by omega)).trans k4)
    obtain ⟨⟨o9, h9⟩, q9, w9⟩ := h1 s (i + 1) o nu2 hC ho hN2 (nz_bd hz)
    cases hx : RF n t L0 kd f 0 [] (i + 1) o with
    | inl e =>
      rw [hx] at q9
      have q8 : EQ T n t L0 kd lo 0 (80 * m - (4 * capN i1 + 4 * capN i2)) s i e.1 e.2 (o9, h9) := EQ.up (b1 := s.b) (show EQ T n t L0 kd (512 + s.b.n) 0 0 (s.setb s.b) (i + 1) e.1 e.2 (o9, h9) from q9) (ExT.refl T lo s.b) (by omega) (by omega) (by omega) (by omega)
      obtain ⟨-, q, b2, nu3, op3, -, -, qe⟩ := id q8
      obtain ⟨rfl, rfl⟩ := Prod.mk.inj qe
      refine ⟨_, PQ.l rfl q8, ?_⟩
      refine AW.aload_n dX3_product_12 rfl rfl ?_
      refine AW.get ci3 4 (by decide) q308 dX3_product_13 (gTk hT) rfl rfl ?_
      refine AW.bipush (v := 42) dX3_product_16 (by decide) rfl ?_
      refine AW.icmp_eq (tgt := 30) dX3_product_18 (by decide) rfl (fun c_ => by first | exact absurd c_ (show ¬ sortS (byteF t n) (tkL t n L0 i) = 42 by rw [hs]; decide) | exact absurd (show ¬ sortS (byteF t n) (tkL t n L0 i) = 42 by rw [hs]; decide) c_ | exact Bool.noConfusion (c_.symm.trans (show ¬ sortS (byteF t n) (tkL t n L0 i) = 42 by rw [hs]; decide))) (fun _ => ?_)
      refine AW.aload_n dX3_product_21 rfl rfl ?_
      refine AW.get ci3 4 (by decide) q308 dX3_product_22 (gTk hT) rfl rfl ?_
      refine AW.bipush (v := 47) dX3_product_25 (by decide) rfl ?_
      refine AW.icmp_ne (tgt := 51) dX3_product_27 (by decide) rfl (fun c_ => by first | exact absurd c_ (not_not_intro hs) | exact absurd (not_not_intro hs) c_ | exact Bool.noConfusion (c_.symm.trans (not_not_intro hs))) (fun _ => ?_)
      refine AW.aload_n dX3_product_30 rfl rfl ?_
      refine AW.get ci3 4 (by decide) q308 dX3_product_31 (gTk hT) rfl rfl ?_
      refine AW.istore_n (i := 2) dX3_product_34 rfl rfl (Nat.le_of_ble_eq_true rfl) rfl rfl ?_
      refine AW.aload_n dX3_product_35 rfl rfl ?_
      refine AW.callV (Y := mX3_next) (n := 0) (w1) (by omega) (by decide) rfl (gTk hT) q386 q388 qs1 q142 q389 dX3_product_36 (by decide +kernel) rfl rfl (Nat.le_of_ble_eq_true rfl) rfl ?_
      refine AW.aload_n dX3_product_39 rfl rfl ?_
      refine AW.iload_n dX3_product_40 rfl rfl ?_
      refine AW.aload_n dX3_product_41 rfl rfl ?_
      exact AW.callVX (Y := mX3_one) (n := 0) (w9) (by omega) (by decide) rfl (gTk hT) q533 q535 qs7 q142 q536 dX3_product_42 (by decide +kernel) rfl rfl (Nat.le_of_ble_eq_true rfl) q532 rfl
    | inr e =>
      obtain ⟨c2, j⟩ := e
      rw [hx] at q9 hz
      obtain ⟨j1, y, b2, nu3, x2, ⟨G, hG1, hG2⟩, hN3, qe⟩ := q9
      obtain ⟨rfl, rfl⟩ := Prod.mk.inj qe
      have j1' : i + 1 + 1 ≤ j := j1
      have x2n := x2.1
      have x2c := x2.2.1
      have x2u := x2.2.2.1
      have x2v := x2.2.2.2.1
      have hC2 : TC (s.setb b2) T n t := hC.ext x2 (by omega)
      have hk2 : ChC b2 lo top (6 + 3 * (8 - o) + 0) c m i1 i2 F := hh.by_ x2n (fun k hk hl => x2.2.2.2.2 k (by omega) (by omega))
      have hk3 : ChC (Tk (s.setb b2) T n t (tkL t n L0 j) nu3 (nI o) kd).b lo top (6 + 3 * (8 - o) + 0) c m i1 i2 F := hk2.by_ (Nat.le_refl _) (fun k hk hl => Tk_g (by omega))
      obtain ⟨_, ⟨b3, ⟨j3, j4, a1, a2, a3, a4, a5, a6⟩, rfl⟩, w3⟩ := ch_add (s := Tk (s.setb b2) T n t (tkL t n L0 j) nu3 (nI o) kd) (w := 47) (y := y) hk3 hC2.bh (FnO.widen (Tk_fn hT (by omega) hG2) (by omega) k6 (Nat.le_refl _) (Nat.le_refl _) (Nat.le_refl _)) (by omega) (by omega)
      have hb3 : hp ((Tk (s.setb b2) T n t (tkL t n L0 j) nu3 (nI o) kd).setb b3) = hp (Tk (s.setb b3) T n t (tkL t n L0 j) nu3 (nI o) kd) := Tk_in (s := s.setb b2) (a2 T (by show T < 512 + b2.n; omega) hTl)
      have a3' : b2.n ≤ b3.n := a3
      have a4' : b3.n ≤ b2.n + 2 := a4
      have a5' : b2.u ≤ b3.u := a5
      have a6' : b3.u + 4 * capN i1 + 4 * capN i2 ≤ b2.u + 4 * capN j3 + 4 * capN j4 := a6
      have x3 : ExT T lo (b3.n - s.b.n) (b3.u - s.b.u) s.b b3 := ⟨by omega, by omega, by omega, by omega, fun k hk hkT => (a2 k (by show k < 512 + b2.n; omega) hk).trans ((Tk_g hkT).trans (x2.2.2.2.2 k (by omega) hkT))⟩
      have c3 := a1.c_
      have hC3 : TC (s.setb b3) T n t := hC.ext x3 (by omega)
      have hCS3 : CS (C ++ c2 ++ [(6, 0)]) (fun N => chOp (nI 47) (F N) (G N)) := by
        have := CS.bin hCS hG1 6 (by decide) (by decide) (by decide) (by decide)
        rw [show (fun N => twoL 6 (F N) (G N)) = (fun N => chOp (nI 47) (F N) (G N)) from funext fun N => two_6 _ _] at this
        exact this
      have ih := hl (s.setb b3) j o nu3 lo _ c (m + 1) j3 j4 _ (C ++ c2 ++ [(6, 0)]) (some (.int (sortS (byteF t n) (tkL t n L0 i)))) hC3 ho hN3 hTl a1 hCS3 (by omega) (by omega) hz
      have x2' : b2.u ≤ s.b.u + (120 * (j - (i + 1)) + 0) := x2v
      have x2'' : b2.n ≤ s.b.n + (16 * (j - (i + 1)) + 0) := x2c
      have ih2 := ih.mono (fun oh h => PQ.up (z := 0) (sc := 0) (su := 80 * m - (4 * capN i1 + 4 * capN i2)) (i := i) h x3 (Nat.le_refl _) (by omega) (by omega) (by omega) (by omega) (fun C b a h => h))
      have gc3 : (hp (Tk (s.setb b2) T n t (tkL t n L0 j) nu3 (nI o) kd)).g c = some (.inr (6, fs)) := (hp_gb (nfx (by omega))).trans ((Tk_g (by omega)).trans ((x2.2.2.2.2 c (by omega) (by omega)).trans k4))
      rw [show nI 47 = sortS (byteF t n) (tkL t n L0 i) from hs.symm] at w3
      refine AXO.map (fun _ kk => ?_) ih2
      refine AW.aload_n dX3_product_12 rfl rfl ?_
      refine AW.get ci3 4 (by decide) q308 dX3_product_13 (gTk hT) rfl rfl ?_
      refine AW.bipush (v := 42) dX3_product_16 (by decide) rfl ?_
      refine AW.icmp_eq (tgt := 30) dX3_product_18 (by decide) rfl (fun c_ => by first | exact absurd c_ (show ¬ sortS (byteF t n) (tkL t n L0 i) = 42 by rw [hs]; decide) | exact absurd (show ¬ sortS (byteF t n) (tkL t n L0 i) = 42 by rw [hs]; decide) c_ | exact Bool.noConfusion (c_.symm.trans (show ¬ sortS (byteF t n) (tkL t n L0 i) = 42 by rw [hs]; decide))) (fun _ => ?_)
      refine AW.aload_n dX3_product_21 rfl rfl ?_
      refine AW.get ci3 4 (by decide) q308 dX3_product_22 (gTk hT) rfl rfl ?_
      refine AW.bipush (v := 47) dX3_product_25 (by decide) rfl ?_
      refine AW.icmp_ne (tgt := 51) dX3_product_27 (by decide) rfl (fun c_ => by first | exact absurd c_ (not_not_intro hs) | exact absurd (not_not_intro hs) c_ | exact Bool.noConfusion (c_.symm.trans (not_not_intro hs))) (fun _ => ?_)
      refine AW.aload_n dX3_product_30 rfl rfl ?_
      refine AW.get ci3 4 (by decide) q308 dX3_product_31 (gTk hT) rfl rfl ?_
      refine AW.istore_n (i := 2) dX3_product_34 rfl rfl (Nat.le_of_ble_eq_true rfl) rfl rfl ?_
      refine AW.aload_n dX3_product_35 rfl rfl ?_
      refine AW.callV (Y := mX3_next) (n := 0) (w1) (by omega) (by decide) rfl (gTk hT) q386 q388 qs1 q142 q389 dX3_product_36 (by decide +kernel) rfl rfl (Nat.le_of_ble_eq_true rfl) rfl ?_
      refine AW.aload_n dX3_product_39 rfl rfl ?_
      refine AW.iload_n dX3_product_40 rfl rfl ?_
      refine AW.aload_n dX3_product_41 rfl rfl ?_
      refine AW.callV (Y := mX3_one) (n := 0) (w9) (by omega) (by decide) rfl (gTk hT) q533 q535 qs7 q142 q536 dX3_product_42 (by decide +kernel) rfl rfl (Nat.le_of_ble_eq_true rfl) rfl ?_
      refine AW.callV (Y := mX6_add) (n := 2) (w3) (by omega) (by decide) rfl gc3 q623 q624 q625 q155 q626 dX3_product_45 (by decide +kernel) rfl rfl (Nat.le_of_ble_eq_true rfl) rfl ?_
      refine AW.goto (tgt := 12) dX3_product_48 (by decide) ?_
      exact AW.hp hb3 kk
  rw [if_neg h0, if_neg h1_] at e0
  rw [e0]
  have hs0 : ¬ sortS (byteF t n) (tkL t n L0 i) = 42 := fun q => h0 ((so_c i (c := 42) (v := 42) (by decide) (by decide +kernel) (by decide +kernel)).mp q)
  have hs1 : ¬ sortS (byteF t n) (tkL t n L0 i) = 47 := fun q => h1_ ((so_c i (c := 47) (v := 47) (by decide) (by decide +kernel) (by decide +kernel)).mp q)
  have hk3 : ChC (Tk s T n t (tkL t n L0 i) nu (nI o) kd).b lo top (6 + 3 * (8 - o) + 0) c m i1 i2 F := hh.by_ (Nat.le_refl _) (fun k hk hl => Tk_g (by omega))
  obtain ⟨a, w1, w2⟩ := ch_done (s := Tk s T n t (tkL t n L0 i) nu (nI o) kd) hk3 (by omega) (by omega)
  refine ⟨(.inl (some (.ref a)), (hp (Tk s T n t (tkL t n L0 i) nu (nI o) kd))), PQ.r rfl ⟨Nat.le_refl _, a, s.b, nu, (ExT.refl T lo s.b).mono (Nat.le_refl _) (Nat.zero_le _) (Nat.zero_le _), ⟨F, hCS, Tk_nf hT hTl w2⟩, hN, rfl⟩, ?_⟩
  refine AW.aload_n dX3_product_12 rfl rfl ?_
  refine AW.get ci3 4 (by decide) q308 dX3_product_13 (gTk hT) rfl rfl ?_
  refine AW.bipush (v := 42) dX3_product_16 (by decide) rfl ?_
  refine AW.icmp_eq (tgt := 30) dX3_product_18 (by decide) rfl (fun c_ => by first | exact absurd c_ hs0 | exact absurd hs0 c_ | exact Bool.noConfusion (c_.symm.trans hs0)) (fun _ => ?_)
  refine AW.aload_n dX3_product_21 rfl rfl ?_
  refine AW.get ci3 4 (by decide) q308 dX3_product_22 (gTk hT) rfl rfl ?_
  refine AW.bipush (v := 47) dX3_product_25 (by decide) rfl ?_
  refine AW.icmp_ne (tgt := 51) dX3_product_27 (by decide) rfl (fun _ => ?_) (fun c_ => by first | exact absurd c_ hs1 | exact absurd hs1 c_ | exact absurd c_ (not_not_intro hs1) | exact Bool.noConfusion (c_.symm.trans hs1))
  refine AW.aload_n dX3_product_51 rfl rfl ?_
  refine AW.callV (Y := mX6_itself) (n := 0) (w1) (by omega) (by decide) rfl gc q708 q709 q710 q155 q711 dX3_product_52 (by decide +kernel) rfl rfl (Nat.le_of_ble_eq_true rfl) rfl ?_
  exact AW.aretE dX3_product_55 rfl (Or.inl ⟨_, rfl⟩) (Or.inr ⟨_, rfl⟩) rfl rfl rfl
theorem cm_product {T n : Nat} {t : Nat → Int32} {L0 : Lq} {kd : Int32} {f : Nat} (h1 : CM T n t L0 kd mX3_one GS 0 0 0 0 0 f) (hl : CLo T n t L0 kd mX3_product 2 0 1 f) : CM T n t L0 kd mX3_product GS 1 1 3 9 1 (f + 1) := by
  intro s i o nu hC ho hN hz
  have hT := hC.1
  have hTb := hC.2.1
  have h300 := hC.2.2.2.1
  have hB := hC.2.2.2.2
  have hb := hB.1
  have e0 : RF n t L0 kd (f + 1) 1 [] i o = bd (RF n t L0 kd f 0 [] i o) fun c2 j => RF n t L0 kd f 2 c2 j o := rfl
  rw [e0] at hz ⊢
  have x1 : ExT T (512 + s.b.n) 1 3 s.b (s.b.push (.inr (6, [.null, .null, .null])) 3) := ExT.push (Nat.le_refl _)
  have hC1 : TC (s.setb (s.b.push (.inr (6, [.null, .null, .null])) 3)) T n t := hC.ext x1 (by omega)
  obtain ⟨⟨o9, h9⟩, q9, w9⟩ := h1 (s.setb (s.b.push (.inr (6, [.null, .null, .null])) 3)) i o nu hC1 ho hN (nz_bd hz)
  cases hx : RF n t L0 kd f 0 [] i o with
  | inl e =>
    rw [hx] at q9
    have q8 : EQ T n t L0 kd (512 + s.b.n) 3 9 s i e.1 e.2 (o9, h9) := EQ.up (PQ.le q9) x1 (by show _ ≤ 512 + (s.b.n + 1); omega) (Nat.le_refl _) (by omega) (by omega)
    obtain ⟨-, q, b2, nu3, op3, -, -, qe⟩ := id q8
    obtain ⟨rfl, rfl⟩ := Prod.mk.inj qe
    refine ⟨_, PQ.l rfl q8, ?_⟩
    refine Run.ofX rfl (Nat.le_of_ble_eq_true rfl) rfl ?_
    refine AW.new ci6 dX3_product_0 q527 q528 q155 dfX6 (tk_push hTb hb) rfl ?_
    refine AW.dup dX3_product_3 rfl rfl ?_
    refine AW.aload_n dX3_product_4 rfl rfl ?_
    exact AW.callVX (Y := mX3_one) (n := 0) (w9) (by omega) (by decide) rfl (gTk hT) q533 q535 qs7 q142 q536 dX3_product_5 (by decide +kernel) rfl rfl (Nat.le_of_ble_eq_true rfl) q532 rfl
  | inr e =>
    obtain ⟨c2, j⟩ := e
    rw [hx] at q9 hz
    obtain ⟨j1, y, b2, nu3, x2, ⟨F, hF1, hF2⟩, hN3, qe⟩ := q9
    obtain ⟨rfl, rfl⟩ := Prod.mk.inj qe
    have x2n : s.b.n + 1 ≤ b2.n := x2.1
    have x2c : b2.n ≤ s.b.n + 1 + (16 * (j - i) + 0) := x2.2.1
    have x2u : s.b.u + 3 ≤ b2.u := x2.2.2.1
    have x2v : b2.u ≤ s.b.u + 3 + (120 * (j - i) + 0) := x2.2.2.2.1
    have x2g := x2.2.2.2.2
    have gz : b2.g (512 + s.b.n) = some (.inr (6, [.null, .null, .null])) := (x2g _ (by show _ < 512 + (s.b.n + 1); omega) (by omega)).trans push_g
    have gz2 : (Tk (s.setb b2) T n t (tkL t n L0 j) nu3 (nI o) kd).b.g (512 + s.b.n) = some (.inr (6, [.null, .null, .null])) := (Tk_g (by omega)).trans gz
    have w3 := ch_new (s := Tk (s.setb b2) T n t (tkL t n L0 j) nu3 (nI o) kd) (f := y) (by show 128 ≤ b2.n; omega) (by omega) (by show _ < 512 + b2.n; omega) gz2
    have f3 := ch_first (s := Tk (s.setb b2) T n t (tkL t n L0 j) nu3 (nI o) kd) (c := (512 + s.b.n)) (lo := (512 + s.b.n)) (by omega) (Nat.le_refl _) (by show _ < 512 + b2.n; omega) (Tk_fn hT (by show T < 512 + (s.b.n + 1); omega) hF2) (by show _ < 512 + (s.b.n + 1); omega)
    have bg : ∀ k, k < 512 + b2.n → ¬ k = (512 + s.b.n) → ((((Tk (s.setb b2) T n t (tkL t n L0 j) nu3 (nI o) kd).b.push (.inr (16, [.int 0, .ref 2, .int 0])) 3).push (.inr (16, [.int 0, .ref 2, .int 0])) 3).set (512 + s.b.n) (.inr (6, [.ref y, .ref (512 + (Tk (s.setb b2) T n t (tkL t n L0 j) nu3 (nI o) kd).b.n), .ref (512 + ((Tk (s.setb b2) T n t (tkL t n L0 j) nu3 (nI o) kd).b.n + 1))]))).g k = (Tk (s.setb b2) T n t (tkL t n L0 j) nu3 (nI o) kd).b.g k := fun k hk hc => (set_go hc).trans ((push_go (by show k ≠ 512 + (b2.n + 1); omega)).trans (push_go (by show k ≠ 512 + b2.n; omega)))
    have bn : ((((Tk (s.setb b2) T n t (tkL t n L0 j) nu3 (nI o) kd).b.push (.inr (16, [.int 0, .ref 2, .int 0])) 3).push (.inr (16, [.int 0, .ref 2, .int 0])) 3).set (512 + s.b.n) (.inr (6, [.ref y, .ref (512 + (Tk (s.setb b2) T n t (tkL t n L0 j) nu3 (nI o) kd).b.n), .ref (512 + ((Tk (s.setb b2) T n t (tkL t n L0 j) nu3 (nI o) kd).b.n + 1))]))).n = b2.n + 2 := rfl
    have bu : ((((Tk (s.setb b2) T n t (tkL t n L0 j) nu3 (nI o) kd).b.push (.inr (16, [.int 0, .ref 2, .int 0])) 3).push (.inr (16, [.int 0, .ref 2, .int 0])) 3).set (512 + s.b.n) (.inr (6, [.ref y, .ref (512 + (Tk (s.setb b2) T n t (tkL t n L0 j) nu3 (nI o) kd).b.n), .ref (512 + ((Tk (s.setb b2) T n t (tkL t n L0 j) nu3 (nI o) kd).b.n + 1))]))).u = b2.u + 6 := rfl
    generalize (((Tk (s.setb b2) T n t (tkL t n L0 j) nu3 (nI o) kd).b.push (.inr (16, [.int 0, .ref 2, .int 0])) 3).push (.inr (16, [.int 0, .ref 2, .int 0])) 3).set (512 + s.b.n) (.inr (6, [.ref y, .ref (512 + (Tk (s.setb b2) T n t (tkL t n L0 j) nu3 (nI o) kd).b.n), .ref (512 + ((Tk (s.setb b2) T n t (tkL t n L0 j) nu3 (nI o) kd).b.n + 1))])) = b3 at w3 f3 bg bn bu
    have hb3 : hp ((Tk (s.setb b2) T n t (tkL t n L0 j) nu3 (nI o) kd).setb b3) = hp (Tk (s.setb b3) T n t (tkL t n L0 j) nu3 (nI o) kd) := Tk_in (s := s.setb b2) (bg T (by omega) (by omega))
    have x3 : ExT T (512 + s.b.n) (b3.n - s.b.n) (b3.u - s.b.u) s.b b3 := ⟨by omega, by omega, by omega, by omega, fun k hk hkT => (bg k (by omega) (by omega)).trans ((Tk_g hkT).trans ((x2g k (by show k < 512 + (s.b.n + 1); omega) hkT).trans (push_go (by omega))))⟩
    have hC3 : TC (s.setb b3) T n t := hC.ext x3 (by omega)
    have ih := hl (s.setb b3) j o nu3 (512 + s.b.n) _ (512 + s.b.n) 0 0 0 F c2 none hC3 ho hN3 (by omega) f3 hF1 (Nat.zero_le _) (Nat.zero_le _) hz
    have ih2 := ih.mono (fun oh h => PQ.up (z := 1) (sc := 3) (su := 9) (i := i) h x3 (Nat.le_refl _) (by omega) (by omega) (by omega) (by omega) (fun C b a h => h))
    obtain ⟨oh, qf, wf⟩ := ih2
    have kk : AW (12 + 4 * (8 - o) + 1) mX3_product (hp (Tk s T n t (tkL t n L0 i) nu (nI o) kd)) 0 [some (.ref T), none, none] [] oh.1 oh.2 := by
      refine AW.new ci6 dX3_product_0 q527 q528 q155 dfX6 (tk_push hTb hb) rfl ?_
      refine AW.dup dX3_product_3 rfl rfl ?_
      refine AW.aload_n dX3_product_4 rfl rfl ?_
      refine AW.callV (Y := mX3_one) (n := 0) (w9) (by omega) (by decide) rfl (gTk hT) q533 q535 qs7 q142 q536 dX3_product_5 (by decide +kernel) rfl rfl (Nat.le_of_ble_eq_true rfl) rfl ?_
      refine AW.callI (Y := mX6_init) (n := 1) (w3) (by omega) (by decide) rfl q607 q608 q155 q609 dX3_product_8 rfl (by decide +kernel) rfl rfl (Nat.le_of_ble_eq_true rfl) rfl ?_
      refine AW.astore_n (i := 1) dX3_product_11 rfl rfl (Nat.le_of_ble_eq_true rfl) rfl rfl ?_
      exact AW.hp hb3 wf
    exact RXO.of rfl (Nat.le_of_ble_eq_true rfl) rfl ⟨oh, qf, kk⟩
theorem lo_sum {T n : Nat} {t : Nat → Int32} {L0 : Lq} {kd : Int32} {f : Nat} (h1 : CM T n t L0 kd mX3_product GS 1 1 3 9 1 f) (hl : CLo T n t L0 kd mX3_sum 4 1 2 f) : CLo T n t L0 kd mX3_sum 4 1 2 (f + 1) := by
  intro s i o nu lo top c m i1 i2 F C l2 hC ho hN hTl hh hCS hm hm2 hz
  have hT := hC.1
  have hTb := hC.2.1
  have h300 := hC.2.2.2.1
  obtain ⟨k1, k2, k3, ⟨fs, k4⟩, k5, k7, k6⟩ := hh.c_
  have gc : (hp (Tk s T n t (tkL t n L0 i) nu (nI o) kd)).g c = some (.inr (6, fs)) := (hp_gb (nfx (by omega))).trans ((Tk_g (by omega)).trans k4)
  have e0 : RF n t L0 kd (f + 1) 4 C i o = (if (tkL t n L0 i).2.2.1 = 43 then bd (RF n t L0 kd f 1 [] (i + 1) o) fun c2 j => RF n t L0 kd f 4 (C ++ c2 ++ [(3, 0)]) j o else if (tkL t n L0 i).2.2.1 = 45 then bd (RF n t L0 kd f 1 [] (i + 1) o) fun c2 j => RF n t L0 kd f 4 (C ++ c2 ++ [(4, 0)]) j o else .inr (C, i)) := rfl
  by_cases h0 : (tkL t n L0 i).2.2.1 = 43
  · have i3 := tk_300 (L0 := L0) h300 (i := i) (by rw [h0]; decide)
    have hs : sortS (byteF t n) (tkL t n L0 i) = 43 := (so_c i (c := 43) (v := 43) (by decide) (by decide +kernel) (by decide +kernel)).mpr h0
    rw [if_pos h0] at e0
    rw [e0] at hz ⊢
    obtain ⟨nu2, hN2, w1⟩ := tk_next hC L0 i (nu := nu) (op := nI o) (kd := kd)
    have gc2 : (hp (Tk s T n t (tkL t n L0 (i + 1)) nu2 (nI o) kd)).g c = some (.inr (6, fs)) := (hp_gb (nfx (by omega))).trans ((Tk_g (by omega)).trans k4)
    obtain ⟨⟨o9, h9⟩, q9, w9⟩ := h1 s (i + 1) o nu2 hC ho hN2 (nz_bd hz)
    cases hx : RF n t L0 kd f 1 [] (i + 1) o with
    | inl e =>
      rw [hx] at q9
      have q8 : EQ T n t L0 kd lo 0 (80 * m - (4 * capN i1 + 4 * capN i2)) s i e.1 e.2 (o9, h9) := EQ.up (b1 := s.b) (show EQ T n t L0 kd (512 + s.b.n) 3 9 (s.setb s.b) (i + 1) e.1 e.2 (o9, h9) from q9) (ExT.refl T lo s.b) (by omega) (by omega) (by omega) (by omega)
      obtain ⟨-, q, b2, nu3, op3, -, -, qe⟩ := id q8
      obtain ⟨rfl, rfl⟩ := Prod.mk.inj qe
      refine ⟨_, PQ.l rfl q8, ?_⟩
      refine AW.aload_n dX3_sum_12 rfl rfl ?_
      refine AW.get ci3 4 (by decide) q308 dX3_sum_13 (gTk hT) rfl rfl ?_
      refine AW.bipush (v := 43) dX3_sum_16 (by decide) rfl ?_
      refine AW.icmp_eq (tgt := 30) dX3_sum_18 (by decide) rfl (fun _ => ?_) (fun c_ => by first | exact absurd c_ hs | exact absurd hs c_ | exact absurd c_ (not_not_intro hs) | exact Bool.noConfusion (c_.symm.trans hs))
      refine AW.aload_n dX3_sum_30 rfl rfl ?_
      refine AW.get ci3 4 (by decide) q308 dX3_sum_31 (gTk hT) rfl rfl ?_
      refine AW.istore_n (i := 2) dX3_sum_34 rfl rfl (Nat.le_of_ble_eq_true rfl) rfl rfl ?_
      refine AW.aload_n dX3_sum_35 rfl rfl ?_
      refine AW.callV (Y := mX3_next) (n := 0) (w1) (by omega) (by decide) rfl (gTk hT) q386 q388 qs1 q142 q389 dX3_sum_36 (by decide +kernel) rfl rfl (Nat.le_of_ble_eq_true rfl) rfl ?_
      refine AW.aload_n dX3_sum_39 rfl rfl ?_
      refine AW.iload_n dX3_sum_40 rfl rfl ?_
      refine AW.aload_n dX3_sum_41 rfl rfl ?_
      exact AW.callVX (Y := mX3_product) (n := 0) (w9) (by omega) (by decide) rfl (gTk hT) q529 q531 qs6 q142 q532 dX3_sum_42 (by decide +kernel) rfl rfl (Nat.le_of_ble_eq_true rfl) q526 rfl
    | inr e =>
      obtain ⟨c2, j⟩ := e
      rw [hx] at q9 hz
      obtain ⟨j1, y, b2, nu3, x2, ⟨G, hG1, hG2⟩, hN3, qe⟩ := q9
      obtain ⟨rfl, rfl⟩ := Prod.mk.inj qe
      have j1' : i + 1 + 1 ≤ j := j1
      have x2n := x2.1
      have x2c := x2.2.1
      have x2u := x2.2.2.1
      have x2v := x2.2.2.2.1
      have hC2 : TC (s.setb b2) T n t := hC.ext x2 (by omega)
      have hk2 : ChC b2 lo top (6 + 3 * (8 - o) + 1) c m i1 i2 F := hh.by_ x2n (fun k hk hl => x2.2.2.2.2 k (by omega) (by omega))
      have hk3 : ChC (Tk (s.setb b2) T n t (tkL t n L0 j) nu3 (nI o) kd).b lo top (6 + 3 * (8 - o) + 1) c m i1 i2 F := hk2.by_ (Nat.le_refl _) (fun k hk hl => Tk_g (by omega))
      obtain ⟨_, ⟨b3, ⟨j3, j4, a1, a2, a3, a4, a5, a6⟩, rfl⟩, w3⟩ := ch_add (s := Tk (s.setb b2) T n t (tkL t n L0 j) nu3 (nI o) kd) (w := 43) (y := y) hk3 hC2.bh (FnO.widen (Tk_fn hT (by omega) hG2) (by omega) k6 (Nat.le_refl _) (Nat.le_refl _) (Nat.le_refl _)) (by omega) (by omega)
      have hb3 : hp ((Tk (s.setb b2) T n t (tkL t n L0 j) nu3 (nI o) kd).setb b3) = hp (Tk (s.setb b3) T n t (tkL t n L0 j) nu3 (nI o) kd) := Tk_in (s := s.setb b2) (a2 T (by show T < 512 + b2.n; omega) hTl)
      have a3' : b2.n ≤ b3.n := a3
      have a4' : b3.n ≤ b2.n + 2 := a4
      have a5' : b2.u ≤ b3.u := a5
      have a6' : b3.u + 4 * capN i1 + 4 * capN i2 ≤ b2.u + 4 * capN j3 + 4 * capN j4 := a6
      have x3 : ExT T lo (b3.n - s.b.n) (b3.u - s.b.u) s.b b3 := ⟨by omega, by omega, by omega, by omega, fun k hk hkT => (a2 k (by show k < 512 + b2.n; omega) hk).trans ((Tk_g hkT).trans (x2.2.2.2.2 k (by omega) hkT))⟩
      have c3 := a1.c_
      have hC3 : TC (s.setb b3) T n t := hC.ext x3 (by omega)
      have hCS3 : CS (C ++ c2 ++ [(3, 0)]) (fun N => chOp (nI 43) (F N) (G N)) := by
        have := CS.bin hCS hG1 3 (by decide) (by decide) (by decide) (by decide)
        rw [show (fun N => twoL 3 (F N) (G N)) = (fun N => chOp (nI 43) (F N) (G N)) from funext fun N => two_3 _ _] at this
        exact this
      have ih := hl (s.setb b3) j o nu3 lo _ c (m + 1) j3 j4 _ (C ++ c2 ++ [(3, 0)]) (some (.int (sortS (byteF t n) (tkL t n L0 i)))) hC3 ho hN3 hTl a1 hCS3 (by omega) (by omega) hz
      have x2' : b2.u ≤ s.b.u + (120 * (j - (i + 1)) + 9) := x2v
      have x2'' : b2.n ≤ s.b.n + (16 * (j - (i + 1)) + 3) := x2c
      have ih2 := ih.mono (fun oh h => PQ.up (z := 0) (sc := 0) (su := 80 * m - (4 * capN i1 + 4 * capN i2)) (i := i) h x3 (Nat.le_refl _) (by omega) (by omega) (by omega) (by omega) (fun C b a h => h))
      have gc3 : (hp (Tk (s.setb b2) T n t (tkL t n L0 j) nu3 (nI o) kd)).g c = some (.inr (6, fs)) := (hp_gb (nfx (by omega))).trans ((Tk_g (by omega)).trans ((x2.2.2.2.2 c (by omega) (by omega)).trans k4))
      rw [show nI 43 = sortS (byteF t n) (tkL t n L0 i) from hs.symm] at w3
      refine AXO.map (fun _ kk => ?_) ih2
      refine AW.aload_n dX3_sum_12 rfl rfl ?_
      refine AW.get ci3 4 (by decide) q308 dX3_sum_13 (gTk hT) rfl rfl ?_
      refine AW.bipush (v := 43) dX3_sum_16 (by decide) rfl ?_
      refine AW.icmp_eq (tgt := 30) dX3_sum_18 (by decide) rfl (fun _ => ?_) (fun c_ => by first | exact absurd c_ hs | exact absurd hs c_ | exact absurd c_ (not_not_intro hs) | exact Bool.noConfusion (c_.symm.trans hs))
      refine AW.aload_n dX3_sum_30 rfl rfl ?_
      refine AW.get ci3 4 (by decide) q308 dX3_sum_31 (gTk hT) rfl rfl ?_
      refine AW.istore_n (i := 2) dX3_sum_34 rfl rfl (Nat.le_of_ble_eq_true rfl) rfl rfl ?_
      refine AW.aload_n dX3_sum_35 rfl rfl ?_
      refine AW.callV (Y := mX3_next) (n := 0) (w1) (by omega) (by decide) rfl (gTk hT) q386 q388 qs1 q142 q389 dX3_sum_36 (by decide +kernel) rfl rfl (Nat.le_of_ble_eq_true rfl) rfl ?_
      refine AW.aload_n dX3_sum_39 rfl rfl ?_
      refine AW.iload_n dX3_sum_40 rfl rfl ?_
      refine AW.aload_n dX3_sum_41 rfl rfl ?_
      refine AW.callV (Y := mX3_product) (n := 0) (w9) (by omega) (by decide) rfl (gTk hT) q529 q531 qs6 q142 q532 dX3_sum_42 (by decide +kernel) rfl rfl (Nat.le_of_ble_eq_true rfl) rfl ?_
      refine AW.callV (Y := mX6_add) (n := 2) (w3) (by omega) (by decide) rfl gc3 q623 q624 q625 q155 q626 dX3_sum_45 (by decide +kernel) rfl rfl (Nat.le_of_ble_eq_true rfl) rfl ?_
      refine AW.goto (tgt := 12) dX3_sum_48 (by decide) ?_
      exact AW.hp hb3 kk
  by_cases h1_ : (tkL t n L0 i).2.2.1 = 45
  · have i3 := tk_300 (L0 := L0) h300 (i := i) (by rw [h1_]; decide)
    have hs : sortS (byteF t n) (tkL t n L0 i) = 45 := (so_c i (c := 45) (v := 45) (by decide) (by decide +kernel) (by decide +kernel)).mpr h1_
    rw [if_neg h0, if_pos h1_] at e0
    rw [e0] at hz ⊢
    obtain ⟨nu2, hN2, w1⟩ := tk_next hC L0 i (nu := nu) (op := nI o) (kd := kd)
    have gc2 : (hp (Tk s T n t (tkL t n L0 (i + 1)) nu2 (nI o) kd)).g c = some (.inr (6, fs)) := (hp_gb (nfx (by omega))).trans ((Tk_g (by omega)).trans k4)
    obtain ⟨⟨o9, h9⟩, q9, w9⟩ := h1 s (i + 1) o nu2 hC ho hN2 (nz_bd hz)
    cases hx : RF n t L0 kd f 1 [] (i + 1) o with
    | inl e =>
      rw [hx] at q9
      have q8 : EQ T n t L0 kd lo 0 (80 * m - (4 * capN i1 + 4 * capN i2)) s i e.1 e.2 (o9, h9) := EQ.up (b1 := s.b) (show EQ T n t L0 kd (512 + s.b.n) 3 9 (s.setb s.b) (i + 1) e.1 e.2 (o9, h9) from q9) (ExT.refl T lo s.b) (by omega) (by omega) (by omega) (by omega)
      obtain ⟨-, q, b2, nu3, op3, -, -, qe⟩ := id q8
      obtain ⟨rfl, rfl⟩ := Prod.mk.inj qe
      refine ⟨_, PQ.l rfl q8, ?_⟩
      refine AW.aload_n dX3_sum_12 rfl rfl ?_
      refine AW.get ci3 4 (by decide) q308 dX3_sum_13 (gTk hT) rfl rfl ?_
      refine AW.bipush (v := 43) dX3_sum_16 (by decide) rfl ?_
      refine AW.icmp_eq (tgt := 30) dX3_sum_18 (by decide) rfl (fun c_ => by first | exact absurd c_ (show ¬ sortS (byteF t n) (tkL t n L0 i) = 43 by rw [hs]; decide) | exact absurd (show ¬ sortS (byteF t n) (tkL t n L0 i) = 43 by rw [hs]; decide) c_ | exact Bool.noConfusion (c_.symm.trans (show ¬ sortS (byteF t n) (tkL t n L0 i) = 43 by rw [hs]; decide))) (fun _ => ?_)
      refine AW.aload_n dX3_sum_21 rfl rfl ?_
      refine AW.get ci3 4 (by decide) q308 dX3_sum_22 (gTk hT) rfl rfl ?_
      refine AW.bipush (v := 45) dX3_sum_25 (by decide) rfl ?_
      refine AW.icmp_ne (tgt := 51) dX3_sum_27 (by decide) rfl (fun c_ => by first | exact absurd c_ (not_not_intro hs) | exact absurd (not_not_intro hs) c_ | exact Bool.noConfusion (c_.symm.trans (not_not_intro hs))) (fun _ => ?_)
      refine AW.aload_n dX3_sum_30 rfl rfl ?_
      refine AW.get ci3 4 (by decide) q308 dX3_sum_31 (gTk hT) rfl rfl ?_
      refine AW.istore_n (i := 2) dX3_sum_34 rfl rfl (Nat.le_of_ble_eq_true rfl) rfl rfl ?_
      refine AW.aload_n dX3_sum_35 rfl rfl ?_
      refine AW.callV (Y := mX3_next) (n := 0) (w1) (by omega) (by decide) rfl (gTk hT) q386 q388 qs1 q142 q389 dX3_sum_36 (by decide +kernel) rfl rfl (Nat.le_of_ble_eq_true rfl) rfl ?_
      refine AW.aload_n dX3_sum_39 rfl rfl ?_
      refine AW.iload_n dX3_sum_40 rfl rfl ?_
      refine AW.aload_n dX3_sum_41 rfl rfl ?_
      exact AW.callVX (Y := mX3_product) (n := 0) (w9) (by omega) (by decide) rfl (gTk hT) q529 q531 qs6 q142 q532 dX3_sum_42 (by decide +kernel) rfl rfl (Nat.le_of_ble_eq_true rfl) q526 rfl
    | inr e =>
      obtain ⟨c2, j⟩ := e
      rw [hx] at q9 hz
      obtain ⟨j1, y, b2, nu3, x2, ⟨G, hG1, hG2⟩, hN3, qe⟩ := q9
      obtain ⟨rfl, rfl⟩ := Prod.mk.inj qe
      have j1' : i + 1 + 1 ≤ j := j1
      have x2n := x2.1
      have x2c := x2.2.1
      have x2u := x2.2.2.1
      have x2v := x2.2.2.2.1
      have hC2 : TC (s.setb b2) T n t := hC.ext x2 (by omega)
      have hk2 : ChC b2 lo top (6 + 3 * (8 - o) + 1) c m i1 i2 F := hh.by_ x2n (fun k hk hl => x2.2.2.2.2 k (by omega) (by omega))
      have hk3 : ChC (Tk (s.setb b2) T n t (tkL t n L0 j) nu3 (nI o) kd).b lo top (6 + 3 * (8 - o) + 1) c m i1 i2 F := hk2.by_ (Nat.le_refl _) (fun k hk hl => Tk_g (by omega))
      obtain ⟨_, ⟨b3, ⟨j3, j4, a1, a2, a3, a4, a5, a6⟩, rfl⟩, w3⟩ := ch_add (s := Tk (s.setb b2) T n t (tkL t n L0 j) nu3 (nI o) kd) (w := 45) (y := y) hk3 hC2.bh (FnO.widen (Tk_fn hT (by omega) hG2) (by omega) k6 (Nat.le_refl _) (Nat.le_refl _) (Nat.le_refl _)) (by omega) (by omega)
      have hb3 : hp ((Tk (s.setb b2) T n t (tkL t n L0 j) nu3 (nI o) kd).setb b3) = hp (Tk (s.setb b3) T n t (tkL t n L0 j) nu3 (nI o) kd) := Tk_in (s := s.setb b2) (a2 T (by show T < 512 + b2.n; omega) hTl)
      have a3' : b2.n ≤ b3.n := a3
      have a4' : b3.n ≤ b2.n + 2 := a4
      have a5' : b2.u ≤ b3.u := a5
      have a6' : b3.u + 4 * capN i1 + 4 * capN i2 ≤ b2.u + 4 * capN j3 + 4 * capN j4 := a6
      have x3 : ExT T lo (b3.n - s.b.n) (b3.u - s.b.u) s.b b3 := ⟨by omega, by omega, by omega, by omega, fun k hk hkT => (a2 k (by show k < 512 + b2.n; omega) hk).trans ((Tk_g hkT).trans (x2.2.2.2.2 k (by omega) hkT))⟩
      have c3 := a1.c_
      have hC3 : TC (s.setb b3) T n t := hC.ext x3 (by omega)
      have hCS3 : CS (C ++ c2 ++ [(4, 0)]) (fun N => chOp (nI 45) (F N) (G N)) := by
        have := CS.bin hCS hG1 4 (by decide) (by decide) (by decide) (by decide)
        rw [show (fun N => twoL 4 (F N) (G N)) = (fun N => chOp (nI 45) (F N) (G N)) from funext fun N => two_4 _ _] at this
        exact this
      have ih := hl (s.setb b3) j o nu3 lo _ c (m + 1) j3 j4 _ (C ++ c2 ++ [(4, 0)]) (some (.int (sortS (byteF t n) (tkL t n L0 i)))) hC3 ho hN3 hTl a1 hCS3 (by omega) (by omega) hz
      have x2' : b2.u ≤ s.b.u + (120 * (j - (i + 1)) + 9) := x2v
      have x2'' : b2.n ≤ s.b.n + (16 * (j - (i + 1)) + 3) := x2c
      have ih2 := ih.mono (fun oh h => PQ.up (z := 0) (sc := 0) (su := 80 * m - (4 * capN i1 + 4 * capN i2)) (i := i) h x3 (Nat.le_refl _) (by omega) (by omega) (by omega) (by omega) (fun C b a h => h))
      have gc3 : (hp (Tk (s.setb b2) T n t (tkL t n L0 j) nu3 (nI o) kd)).g c = some (.inr (6, fs)) := (hp_gb (nfx (by omega))).trans ((Tk_g (by omega)).trans ((x2.2.2.2.2 c (by omega) (by omega)).trans k4))
      rw [show nI 45 = sortS (byteF t n) (tkL t n L0 i) from hs.symm] at w3
      refine AXO.map (fun _ kk => ?_) ih2
      refine AW.aload_n dX3_sum_12 rfl rfl ?_
      refine AW.get ci3 4 (by decide) q308 dX3_sum_13 (gTk hT) rfl rfl ?_
      refine AW.bipush (v := 43) dX3_sum_16 (by decide) rfl ?_
      refine AW.icmp_eq (tgt := 30) dX3_sum_18 (by decide) rfl (fun c_ => by first | exact absurd c_ (show ¬ sortS (byteF t n) (tkL t n L0 i) = 43 by rw [hs]; decide) | exact absurd (show ¬ sortS (byteF t n) (tkL t n L0 i) = 43 by rw [hs]; decide) c_ | exact Bool.noConfusion (c_.symm.trans (show ¬ sortS (byteF t n) (tkL t n L0 i) = 43 by rw [hs]; decide))) (fun _ => ?_)
      refine AW.aload_n dX3_sum_21 rfl rfl ?_
      refine AW.get ci3 4 (by decide) q308 dX3_sum_22 (gTk hT) rfl rfl ?_
      refine AW.bipush (v := 45) dX3_sum_25 (by decide) rfl ?_
      refine AW.icmp_ne (tgt := 51) dX3_sum_27 (by decide) rfl (fun c_ => by first | exact absurd c_ (not_not_intro hs) | exact absurd (not_not_intro hs) c_ | exact Bool.noConfusion (c_.symm.trans (not_not_intro hs))) (fun _ => ?_)
      refine AW.aload_n dX3_sum_30 rfl rfl ?_
      refine AW.get ci3 4 (by decide) q308 dX3_sum_31 (gTk hT) rfl rfl ?_
      refine AW.istore_n (i := 2) dX3_sum_34 rfl rfl (Nat.le_of_ble_eq_true rfl) rfl rfl ?_
      refine AW.aload_n dX3_sum_35 rfl rfl ?_
      refine AW.callV (Y := mX3_next) (n := 0) (w1) (by omega) (by decide) rfl (gTk hT) q386 q388 qs1 q142 q389 dX3_sum_36 (by decide +kernel) rfl rfl (Nat.le_of_ble_eq_true rfl) rfl ?_
      refine AW.aload_n dX3_sum_39 rfl rfl ?_
      refine AW.iload_n dX3_sum_40 rfl rfl ?_
      refine AW.aload_n dX3_sum_41 rfl rfl ?_
      refine AW.callV (Y := mX3_product) (n := 0) (w9) (by omega) (by decide) rfl (gTk hT) q529 q531 qs6 q142 q532 dX3_sum_42 (by decide +kernel) rfl rfl (Nat.le_of_ble_eq_true rfl) rfl ?_
      refine AW.callV (Y := mX6_add) (n := 2) (w3) (by omega) (by decide) rfl gc3 q623 q624 q625 q155 q626 dX3_sum_45 (by decide +kernel) rfl rfl (Nat.le_of_ble_eq_true rfl) rfl ?_
      refine AW.goto (tgt := 12) dX3_sum_48 (by decide) ?_
      exact AW.hp hb3 kk
  rw [if_neg h0, if_neg h1_] at e0
  rw [e0]
  have hs0 : ¬ sortS (byteF t n) (tkL t n L0 i) = 43 := fun q => h0 ((so_c i (c := 43) (v := 43) (by decide) (by decide +kernel) (by decide +kernel)).mp q)
  have hs1 : ¬ sortS (byteF t n) (tkL t n L0 i) = 45 := fun q => h1_ ((so_c i (c := 45) (v := 45) (by decide) (by decide +kernel) (by decide +kernel)).mp q)
  have hk3 : ChC (Tk s T n t (tkL t n L0 i) nu (nI o) kd).b lo top (6 + 3 * (8 - o) + 1) c m i1 i2 F := hh.by_ (Nat.le_refl _) (fun k hk hl => Tk_g (by omega))
  obtain ⟨a, w1, w2⟩ := ch_done (s := Tk s T n t (tkL t n L0 i) nu (nI o) kd) hk3 (by omega) (by omega)
  refine ⟨(.inl (some (.ref a)), (hp (Tk s T n t (tkL t n L0 i) nu (nI o) kd))), PQ.r rfl ⟨Nat.le_refl _, a, s.b, nu, (ExT.refl T lo s.b).mono (Nat.le_refl _) (Nat.zero_le _) (Nat.zero_le _), ⟨F, hCS, Tk_nf hT hTl w2⟩, hN, rfl⟩, ?_⟩
  refine AW.aload_n dX3_sum_12 rfl rfl ?_
  refine AW.get ci3 4 (by decide) q308 dX3_sum_13 (gTk hT) rfl rfl ?_
  refine AW.bipush (v := 43) dX3_sum_16 (by decide) rfl ?_
  refine AW.icmp_eq (tgt := 30) dX3_sum_18 (by decide) rfl (fun c_ => by first | exact absurd c_ hs0 | exact absurd hs0 c_ | exact Bool.noConfusion (c_.symm.trans hs0)) (fun _ => ?_)
  refine AW.aload_n dX3_sum_21 rfl rfl ?_
  refine AW.get ci3 4 (by decide) q308 dX3_sum_22 (gTk hT) rfl rfl ?_
  refine AW.bipush (v := 45) dX3_sum_25 (by decide) rfl ?_
  refine AW.icmp_ne (tgt := 51) dX3_sum_27 (by decide) rfl (fun _ => ?_) (fun c_ => by first | exact absurd c_ hs1 | exact absurd hs1 c_ | exact absurd c_ (not_not_intro hs1) | exact Bool.noConfusion (c_.symm.trans hs1))
  refine AW.aload_n dX3_sum_51 rfl rfl ?_
  refine AW.callV (Y := mX6_itself) (n := 0) (w1) (by omega) (by decide) rfl gc q708 q709 q710 q155 q711 dX3_sum_52 (by decide +kernel) rfl rfl (Nat.le_of_ble_eq_true rfl) rfl ?_
  exact AW.aretE dX3_sum_55 rfl (Or.inl ⟨_, rfl⟩) (Or.inr ⟨_, rfl⟩) rfl rfl rfl
theorem cm_sum {T n : Nat} {t : Nat → Int32} {L0 : Lq} {kd : Int32} {f : Nat} (h1 : CM T n t L0 kd mX3_product GS 1 1 3 9 1 f) (hl : CLo T n t L0 kd mX3_sum 4 1 2 f) : CM T n t L0 kd mX3_sum GS 3 2 6 18 2 (f + 1) := by
  intro s i o nu hC ho hN hz
  have hT := hC.1
  have hTb := hC.2.1
  have h300 := hC.2.2.2.1
  have hB := hC.2.2.2.2
  have hb := hB.1
  have e0 : RF n t L0 kd (f + 1) 3 [] i o = bd (RF n t L0 kd f 1 [] i o) fun c2 j => RF n t L0 kd f 4 c2 j o := rfl
  rw [e0] at hz ⊢
  have x1 : ExT T (512 + s.b.n) 1 3 s.b (s.b.push (.inr (6, [.null, .null, .null])) 3) := ExT.push (Nat.le_refl _)
  have hC1 : TC (s.setb (s.b.push (.inr (6, [.null, .null, .null])) 3)) T n t := hC.ext x1 (by omega)
  obtain ⟨⟨o9, h9⟩, q9, w9⟩ := h1 (s.setb (s.b.push (.inr (6, [.null, .null, .null])) 3)) i o nu hC1 ho hN (nz_bd hz)
  cases hx : RF n t L0 kd f 1 [] i o with
  | inl e =>
    rw [hx] at q9
    have q8 : EQ T n t L0 kd (512 + s.b.n) 6 18 s i e.1 e.2 (o9, h9) := EQ.up (PQ.le q9) x1 (by show _ ≤ 512 + (s.b.n + 1); omega) (Nat.le_refl _) (by omega) (by omega)
    obtain ⟨-, q, b2, nu3, op3, -, -, qe⟩ := id q8
    obtain ⟨rfl, rfl⟩ := Prod.mk.inj qe
    refine ⟨_, PQ.l rfl q8, ?_⟩
    refine Run.ofX rfl (Nat.le_of_ble_eq_true rfl) rfl ?_
    refine AW.new ci6 dX3_sum_0 q527 q528 q155 dfX6 (tk_push hTb hb) rfl ?_
    refine AW.dup dX3_sum_3 rfl rfl ?_
    refine AW.aload_n dX3_sum_4 rfl rfl ?_
    exact AW.callVX (Y := mX3_product) (n := 0) (w9) (by omega) (by decide) rfl (gTk hT) q529 q531 qs6 q142 q532 dX3_sum_5 (by decide +kernel) rfl rfl (Nat.le_of_ble_eq_true rfl) q526 rfl
  | inr e =>
    obtain ⟨c2, j⟩ := e
    rw [hx] at q9 hz
    obtain ⟨j1, y, b2, nu3, x2, ⟨F, hF1, hF2⟩, hN3, qe⟩ := q9
    obtain ⟨rfl, rfl⟩ := Prod.mk.inj qe
    have x2n : s.b.n + 1 ≤ b2.n := x2.1
    have x2c : b2.n ≤ s.b.n + 1 + (16 * (j - i) + 3) := x2.2.1
    have x2u : s.b.u + 3 ≤ b2.u := x2.2.2.1
    have x2v : b2.u ≤ s.b.u + 3 + (120 * (j - i) + 9) := x2.2.2.2.1
    have x2g := x2.2.2.2.2
    have gz : b2.g (512 + s.b.n) = some (.inr (6, [.null, .null, .null])) := (x2g _ (by show _ < 512 + (s.b.n + 1); omega) (by omega)).trans push_g
    have gz2 : (Tk (s.setb b2) T n t (tkL t n L0 j) nu3 (nI o) kd).b.g (512 + s.b.n) = some (.inr (6, [.null, .null, .null])) := (Tk_g (by omega)).trans gz
    have w3 := ch_new (s := Tk (s.setb b2) T n t (tkL t n L0 j) nu3 (nI o) kd) (f := y) (by show 128 ≤ b2.n; omega) (by omega) (by show _ < 512 + b2.n; omega) gz2
    have f3 := ch_first (s := Tk (s.setb b2) T n t (tkL t n L0 j) nu3 (nI o) kd) (c := (512 + s.b.n)) (lo := (512 + s.b.n)) (by omega) (Nat.le_refl _) (by show _ < 512 + b2.n; omega) (Tk_fn hT (by show T < 512 + (s.b.n + 1); omega) hF2) (by show _ < 512 + (s.b.n + 1); omega)
    have bg : ∀ k, k < 512 + b2.n → ¬ k = (512 + s.b.n) → ((((Tk (s.setb b2) T n t (tkL t n L0 j) nu3 (nI o) kd).b.push (.inr (16, [.int 0, .ref 2, .int 0])) 3).push (.inr (16, [.int 0, .ref 2, .int 0])) 3).set (512 + s.b.n) (.inr (6, [.ref y, .ref (512 + (Tk (s.setb b2) T n t (tkL t n L0 j) nu3 (nI o) kd).b.n), .ref (512 + ((Tk (s.setb b2) T n t (tkL t n L0 j) nu3 (nI o) kd).b.n + 1))]))).g k = (Tk (s.setb b2) T n t (tkL t n L0 j) nu3 (nI o) kd).b.g k := fun k hk hc => (set_go hc).trans ((push_go (by show k ≠ 512 + (b2.n + 1); omega)).trans (push_go (by show k ≠ 512 + b2.n; omega)))
    have bn : ((((Tk (s.setb b2) T n t (tkL t n L0 j) nu3 (nI o) kd).b.push (.inr (16, [.int 0, .ref 2, .int 0])) 3).push (.inr (16, [.int 0, .ref 2, .int 0])) 3).set (512 + s.b.n) (.inr (6, [.ref y, .ref (512 + (Tk (s.setb b2) T n t (tkL t n L0 j) nu3 (nI o) kd).b.n), .ref (512 + ((Tk (s.setb b2) T n t (tkL t n L0 j) nu3 (nI o) kd).b.n + 1))]))).n = b2.n + 2 := rfl
    have bu : ((((Tk (s.setb b2) T n t (tkL t n L0 j) nu3 (nI o) kd).b.push (.inr (16, [.int 0, .ref 2, .int 0])) 3).push (.inr (16, [.int 0, .ref 2, .int 0])) 3).set (512 + s.b.n) (.inr (6, [.ref y, .ref (512 + (Tk (s.setb b2) T n t (tkL t n L0 j) nu3 (nI o) kd).b.n), .ref (512 + ((Tk (s.setb b2) T n t (tkL t n L0 j) nu3 (nI o) kd).b.n + 1))]))).u = b2.u + 6 := rfl
    generalize (((Tk (s.setb b2) T n t (tkL t n L0 j) nu3 (nI o) kd).b.push (.inr (16, [.int 0, .ref 2, .int 0])) 3).push (.inr (16, [.int 0, .ref 2, .int 0])) 3).set (512 + s.b.n) (.inr (6, [.ref y, .ref (512 + (Tk (s.setb b2) T n t (tkL t n L0 j) nu3 (nI o) kd).b.n), .ref (512 + ((Tk (s.setb b2) T n t (tkL t n L0 j) nu3 (nI o) kd).b.n + 1))])) = b3 at w3 f3 bg bn bu
    have hb3 : hp ((Tk (s.setb b2) T n t (tkL t n L0 j) nu3 (nI o) kd).setb b3) = hp (Tk (s.setb b3) T n t (tkL t n L0 j) nu3 (nI o) kd) := Tk_in (s := s.setb b2) (bg T (by omega) (by omega))
    have x3 : ExT T (512 + s.b.n) (b3.n - s.b.n) (b3.u - s.b.u) s.b b3 := ⟨by omega, by omega, by omega, by omega, fun k hk hkT => (bg k (by omega) (by omega)).trans ((Tk_g hkT).trans ((x2g k (by show k < 512 + (s.b.n + 1); omega) hkT).trans (push_go (by omega))))⟩
    have hC3 : TC (s.setb b3) T n t := hC.ext x3 (by omega)
    have ih := hl (s.setb b3) j o nu3 (512 + s.b.n) _ (512 + s.b.n) 0 0 0 F c2 none hC3 ho hN3 (by omega) f3 hF1 (Nat.zero_le _) (Nat.zero_le _) hz
    have ih2 := ih.mono (fun oh h => PQ.up (z := 1) (sc := 6) (su := 18) (i := i) h x3 (Nat.le_refl _) (by omega) (by omega) (by omega) (by omega) (fun C b a h => h))
    obtain ⟨oh, qf, wf⟩ := ih2
    have kk : AW (12 + 4 * (8 - o) + 2) mX3_sum (hp (Tk s T n t (tkL t n L0 i) nu (nI o) kd)) 0 [some (.ref T), none, none] [] oh.1 oh.2 := by
      refine AW.new ci6 dX3_sum_0 q527 q528 q155 dfX6 (tk_push hTb hb) rfl ?_
      refine AW.dup dX3_sum_3 rfl rfl ?_
      refine AW.aload_n dX3_sum_4 rfl rfl ?_
      refine AW.callV (Y := mX3_product) (n := 0) (w9) (by omega) (by decide) rfl (gTk hT) q529 q531 qs6 q142 q532 dX3_sum_5 (by decide +kernel) rfl rfl (Nat.le_of_ble_eq_true rfl) rfl ?_
      refine AW.callI (Y := mX6_init) (n := 1) (w3) (by omega) (by decide) rfl q607 q608 q155 q609 dX3_sum_8 rfl (by decide +kernel) rfl rfl (Nat.le_of_ble_eq_true rfl) rfl ?_
      refine AW.astore_n (i := 1) dX3_sum_11 rfl rfl (Nat.le_of_ble_eq_true rfl) rfl rfl ?_
      exact AW.hp hb3 wf
    exact RXO.of rfl (Nat.le_of_ble_eq_true rfl) rfl ⟨oh, qf, kk⟩
