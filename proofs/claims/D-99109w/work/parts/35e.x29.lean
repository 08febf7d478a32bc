/-! SYSTEM 29: tokens: clauses of a text (printed by tools/x29.py) -/
set_option maxRecDepth 100000
/-- what is done, clause by clause -/
def dosL : List Cl → Nat → List (Int32 × Int32 × Int32 × Int32 × Int32)
  | [], _ => []
  | c :: r, k => if c.1 ≤ 2 then dosL r (k + 1) else (200 + c.1, c.2.1, c.2.2.1, c.2.2.2, nI k) :: dosL r (k + 1)
theorem dosL_app : ∀ (l : List Cl) (c : Cl) (k : Nat), dosL (l ++ [c]) k = dosL l k ++ (if c.1 ≤ 2 then [] else [(200 + c.1, c.2.1, c.2.2.1, c.2.2.2, nI (k + l.length))])
  | [], c, k => by
    show (if c.1 ≤ 2 then dosL [] (k + 1) else _ :: dosL [] (k + 1)) = [] ++ _
    split <;> rfl
  | a :: l, c, k => by
    have ih := dosL_app l c (k + 1)
    rw [show k + 1 + l.length = k + (a :: l).length by rw [List.length_cons]; omega] at ih
    show (if a.1 ≤ 2 then dosL (l ++ [c]) (k + 1) else _ :: dosL (l ++ [c]) (k + 1)) = (if a.1 ≤ 2 then dosL l (k + 1) else _ :: dosL l (k + 1)) ++ _
    rw [ih]
    split <;> rfl
theorem dosL_len : ∀ (l : List Cl) (k : Nat), (dosL l k).length ≤ l.length
  | [], _ => Nat.le_refl _
  | a :: l, k => by
    have ih := dosL_len l (k + 1)
    show (if a.1 ≤ 2 then dosL l (k + 1) else _ :: dosL l (k + 1)).length ≤ (a :: l).length
    rw [List.length_cons]
    split
    · omega
    · rw [List.length_cons]
      omega
/-- the law of a sort among the clauses -/
def lwOne {β : Type} (P : Cd → β → Prop) (so : Int32) (cls : List Cl) (C : Cd) (o : Option β) : Prop := match o with
  | none => hasS cls so = false
  | some F => ∃ p q r, C = p ++ q ++ r ∧ cls.find? (fun c => decide (c.1 = so)) = some (so, nI p.length, nI (p ++ q).length, 0) ∧ P q F
theorem hasS_app (cls : List Cl) (c : Cl) (so : Int32) : hasS (cls ++ [c]) so = (hasS cls so || decide (c.1 = so)) := by
  unfold hasS
  rw [List.any_append]
  simp
theorem lwOne.app {β : Type} {P : Cd → β → Prop} {so : Int32} {cls : List Cl} {C : Cd} {o : Option β} (h : lwOne P so cls C o) (c : Cl) (x : Cd) (hc : ¬ c.1 = so) : lwOne P so (cls ++ [c]) (C ++ x) o := by
  cases o with
  | none =>
    show hasS (cls ++ [c]) so = false
    rw [hasS_app, decide_eq_false hc, show hasS cls so = false from h]
    rfl
  | some F =>
    obtain ⟨p, q, r, h1, h2, h3⟩ := h
    refine ⟨p, q, r ++ x, ?_, ?_, h3⟩
    · rw [h1, List.append_assoc]
    · rw [List.find?_append, h2]
      rfl
theorem lwOne.new {β : Type} {P : Cd → β → Prop} {so : Int32} {cls : List Cl} {C q : Cd} {F : β} (h : hasS cls so = false) (hP : P q F) : lwOne P so (cls ++ [(so, nI C.length, nI (C ++ q).length, 0)]) (C ++ q) (some F) := by
  refine ⟨C, q, [], (List.append_nil _).symm, ?_, hP⟩
  have hn : cls.find? (fun c => decide (c.1 = so)) = none := by
    rw [List.find?_eq_none]
    intro c hc hd
    have : hasS cls so = true := List.any_eq_true.mpr ⟨c, hc, hd⟩
    rw [h] at this
    exact Bool.noConfusion this
  rw [List.find?_append, hn]
  show Option.or none (List.find? _ [_]) = _
  rw [List.find?_cons_of_pos (by exact decide_eq_true rfl)]
  rfl
theorem lwOne.no {β : Type} {P : Cd → β → Prop} {so : Int32} {cls : List Cl} {C : Cd} {o : Option β} (h : lwOne P so cls C o) : (hasS cls so = false → o = none) ∧ (hasS cls so = true → ∃ F, o = some F) := by
  cases o with
  | none => exact ⟨fun _ => rfl, fun z => absurd ((show hasS cls so = false from h).symm.trans z) (by decide)⟩
  | some F =>
    obtain ⟨p, q, r, h1, h2, h3⟩ := h
    refine ⟨fun z => ?_, fun _ => ⟨F, rfl⟩⟩
    have a := List.mem_of_find?_eq_some h2
    have b := List.find?_some h2
    have : hasS cls so = true := List.any_eq_true.mpr ⟨_, a, b⟩
    rw [z] at this
    exact Bool.noConfusion this
def SlotG {β : Type} (Y : MethodName) (g : β → (Nat → Int32) → Value) (b : AH) (lo X Dl E : Nat) (v : Value) (f : Option β) : Prop := match f with
  | none => v = .null
  | some F => ∃ a lo1 hi1, v = .ref a ∧ FnO Y lo1 hi1 b 60 a (g F) ∧ lo ≤ lo1 ∧ ∀ z, (z = X ∨ z = Dl ∨ z = E) → z < lo1 ∨ hi1 ≤ z
theorem SlotG.by_ {β : Type} {Y : MethodName} {g : β → (Nat → Int32) → Value} {b b2 : AH} {lo X Dl E E2 : Nat} {v : Value} {f : Option β} (h : SlotG Y g b lo X Dl E v f) (hn : b.n ≤ b2.n) (e : ∀ k, k < 512 + b.n → (k < 512 ∨ lo ≤ k) → k ≠ X → k ≠ Dl → k ≠ E → b2.g k = b.g k) (hE : E2 = E ∨ 512 + b.n ≤ E2) (hX : 512 ≤ X ∧ 512 ≤ Dl ∧ (E = 2 ∨ 512 ≤ E)) (h2 : b2.g 2 = b.g 2) : SlotG Y g b2 lo X Dl E2 v f := by
  cases f with
  | none => exact h
  | some F =>
    obtain ⟨a, lo1, hi1, h1, h2', h3, h4⟩ := h
    have z := FnO.at_ h2'
    have zX := h4 X (Or.inl rfl)
    have zD := h4 Dl (Or.inr (Or.inl rfl))
    have zE := h4 E (Or.inr (Or.inr rfl))
    refine ⟨a, lo1, hi1, h1, FnO.ext h2' hn (fun k hk => ?_), h3, fun w hw => ?_⟩
    · by_cases k2 : k = 2
      · rw [k2]; exact h2
      · exact e k (by omega) (by omega) (by omega) (by omega) (by omega)
    · rcases hw with rfl | rfl | rfl
      · exact zX
      · exact zD
      · rcases hE with q | q
        · rw [q]; exact zE
        · omega
/-- a text under way -/
def RdS (b : AH) (lo X Dl ix : Nat) (cls : List Cl) (C : Cd) (L : Lw) : Prop := ∃ (E : Nat) (ve vl vq : Value) (dv : Nat → Nat), (640 ≤ lo ∧ lo ≤ X ∧ X < 512 + b.n ∧ lo ≤ Dl ∧ X ≠ Dl ∧ X ≠ E ∧ (E = 2 ∨ lo ≤ E)) ∧ b.g X = some (.inr (4, [ve, vl, vq, .int (nI cls.length), .ref Dl])) ∧ AL b Dl E (dosL cls 0).length ix (fun k => .ref (dv k)) ∧ (∀ k d, (dosL cls 0)[k]? = some d → lo ≤ dv k ∧ dv k < 512 + b.n ∧ b.g (dv k) = some (.inr (15, [.int d.1, .int d.2.1, .int d.2.2.1, .int d.2.2.2.1, .int d.2.2.2.2]))) ∧ (SlotG yzSum (fun F N => .long (F N)) b lo X Dl E ve L.1 ∧ SlotG yzSum (fun F N => .long (F N)) b lo X Dl E vl L.2.1 ∧ SlotG yzAsk (fun F N => .int (b2i (F N))) b lo X Dl E vq L.2.2) ∧ lwOne CS 0 cls C L.1 ∧ lwOne CS 1 cls C L.2.1 ∧ lwOne CA 2 cls C L.2.2
theorem RdS.by_ {b b2 : AH} {lo X Dl ix : Nat} {cls : List Cl} {C : Cd} {L : Lw} (h : RdS b lo X Dl ix cls C L) (hn : b.n ≤ b2.n) (e : ∀ k, k < 512 + b.n → (k < 512 ∨ lo ≤ k) → b2.g k = b.g k) : RdS b2 lo X Dl ix cls C L := by
  obtain ⟨E, ve, vl, vq, dv, ⟨h1, h2, h3, h4, h5, h6, h7⟩, h8, h9, h10, ⟨s1, s2, s3⟩, h11⟩ := h
  have d := h9.D_
  have sl : ∀ {β : Type} {Y : MethodName} {g : β → (Nat → Int32) → Value} {v : Value} {f : Option β}, SlotG Y g b lo X Dl E v f → SlotG Y g b2 lo X Dl E v f := fun h => h.by_ hn (fun k a b _ _ _ => e k a b) (Or.inl rfl) (by omega) (e 2 (by omega) (by omega))
  refine ⟨E, ve, vl, vq, dv, ⟨h1, h2, by omega, h4, h5, h6, h7⟩, (e X h3 (Or.inr h2)).trans h8, h9.by_ hn (e Dl d.2.1 (Or.inr h4)) ?_ (fun j hj => ?_), fun k dd hk => ?_, ⟨sl s1, sl s2, sl s3⟩, h11⟩
  · rcases d.2.2.1 with q | q
    · exact Or.inl q
    · exact Or.inr (e E q.2 (by omega))
  · obtain ⟨dd, hd⟩ : ∃ dd, (dosL cls 0)[j]? = some dd := ⟨_, List.getElem?_eq_getElem hj⟩
    obtain ⟨a1, a2, a3⟩ := h10 j dd hd
    exact ⟨dv j, 15, _, _, rfl, nfx (by omega), by omega, (e _ a2 (Or.inr a1)).trans a3, rfl, q2045⟩
  · obtain ⟨a1, a2, a3⟩ := h10 k dd hk
    exact ⟨a1, by omega, (e _ a2 (Or.inr a1)).trans a3⟩
/-- what a clause's reading ends in -/
def StQ (T n : Nat) (t : Nat → Int32) (L0 : Lq) (lo X Dl ix : Nat) (s : Sg) (i : Nat) (kd kd2 nu : Int32) (cls : List Cl) (x : CR) : Prop := match x with
  | .inl e => ∃ oh, EQ T n t L0 kd2 lo 0 1000 s i e.1 e.2 oh ∧ AW 52 mX3_read (hp (Tk s T n t (tkL t n L0 i) nu (nI 0) kd)) 12 [some (.ref T), some (.ref X)] [] oh.1 oh.2
  | .inr q => i + 2 ≤ q.2.2 ∧ ∃ b2 nu2 L2 ix2, (s.b.n ≤ b2.n ∧ b2.n ≤ s.b.n + 16 * (q.2.2 - i) ∧ s.b.u ≤ b2.u ∧ b2.u + 4 * capN ix ≤ s.b.u + 120 * (q.2.2 - i) + 4 * capN ix2 ∧ ∀ k, k < lo → k ≠ T → b2.g k = s.b.g k) ∧ RdS b2 lo X Dl ix2 (cls ++ [q.1]) q.2.1 L2 ∧ NuOk (tkL t n L0 q.2.2) nu2 ∧ ∀ o h', AW 52 mX3_read (hp (Tk (s.setb b2) T n t (tkL t n L0 q.2.2) nu2 (nI 0) kd2)) 12 [some (.ref T), some (.ref X)] [] o h' → AW 52 mX3_read (hp (Tk s T n t (tkL t n L0 i) nu (nI 0) kd)) 12 [some (.ref T), some (.ref X)] [] o h'
section STQ
variable {T n : Nat} {t : Nat → Int32} {L0 : Lq} {lo X Dl ix : Nat} {s : Sg} {i : Nat} {kd kd2 nu : Int32} {cls : List Cl} {x : CR}
theorem StQ.l {r : Int32} {j : Nat} (hx : x = .inl (r, j)) {oh : OR × AH} (h : EQ T n t L0 kd2 lo 0 1000 s i r j oh) (w : AW 52 mX3_read (hp (Tk s T n t (tkL t n L0 i) nu (nI 0) kd)) 12 [some (.ref T), some (.ref X)] [] oh.1 oh.2) : StQ T n t L0 lo X Dl ix s i kd kd2 nu cls x := by
  subst hx
  exact ⟨oh, h, w⟩
theorem StQ.r {cl : Cl} {C2 : Cd} {j : Nat} (hx : x = .inr (cl, C2, j)) (h0 : i + 2 ≤ j) {b2 : AH} {nu2 : Int32} {L2 : Lw} {ix2 : Nat} (h1 : s.b.n ≤ b2.n ∧ b2.n ≤ s.b.n + 16 * (j - i) ∧ s.b.u ≤ b2.u ∧ b2.u + 4 * capN ix ≤ s.b.u + 120 * (j - i) + 4 * capN ix2 ∧ ∀ k, k < lo → k ≠ T → b2.g k = s.b.g k) (h2 : RdS b2 lo X Dl ix2 (cls ++ [cl]) C2 L2) (h3 : NuOk (tkL t n L0 j) nu2) (h4 : ∀ o h', AW 52 mX3_read (hp (Tk (s.setb b2) T n t (tkL t n L0 j) nu2 (nI 0) kd2)) 12 [some (.ref T), some (.ref X)] [] o h' → AW 52 mX3_read (hp (Tk s T n t (tkL t n L0 i) nu (nI 0) kd)) 12 [some (.ref T), some (.ref X)] [] o h') : StQ T n t L0 lo X Dl ix s i kd kd2 nu cls x := by
  subst hx
  exact ⟨h0, b2, nu2, L2, ix2, h1, h2, h3, h4⟩
end STQ
theorem nI_24 {m : Nat} (h : m < 24) : ¬ nI m = 24 := fun q => by
  have e := congrArg Int32.toInt q
  rw [nI_t (by omega)] at e
  have e1 : (24 : Int32).toInt = 24 := rfl
  omega
theorem rc_0 {T n : Nat} {t : Nat → Int32} {L0 : Lq} {lo X Dl ix : Nat} {s : Sg} {i : Nat} {kd nu : Int32} {cls : List Cl} {C : Cd} {L : Lw} {x : CR} (hC : TC s T n t) (hTlo : T < lo) (hR : RdS s.b lo X Dl ix cls C L) (hs : sortS (byteF t n) (tkL t n L0 i) = 200) (hno : hasS cls 0 = false) (h24_ : cls.length < 24) (e0 : x = semi (tkL t n L0) (clB (byteF t n) (tkL t n L0) 0 C (i + 1))) (hz : ∀ j, ¬ x = .inl (0, j)) : StQ T n t L0 lo X Dl ix s i kd 200 nu cls x := by
  have hT := hC.1
  have hTb := hC.2.1
  have h300 := hC.2.2.2.1
  have hB := hC.2.2.2.2
  have hb := hB.1
  have h24 := nI_24 h24_
  have hR0 := hR
  obtain ⟨E, ve, vl, vq, dv, ⟨r1, r2, r3, r4, r5, r6, r7⟩, gX, hA, hD, ⟨s1, s2, s3⟩, hl0, hl1, hl2⟩ := hR
  have hX6 : 640 ≤ X := by omega
  have hXT : X ≠ T := by omega
  have hnone := hl0.no.1 hno
  have hv : ve = .null := by
    have := s1
    rw [hnone] at this
    exact this
  subst hv
  obtain ⟨nu2, hN2, w1⟩ := tk_next hC L0 i (nu := nu) (op := nI 0) (kd := 200)
  have el : lawR (byteF t n) (tkL t n L0) 0 (i + 1) = RF n t L0 200 FU 3 [] (i + 1) 0 := by
    unfold lawR
    rw [show decide ((0 : Int32) = 2) = decide ((200 : Int32) = 202) from by decide]
    rfl
  have e1 : x = semi (tkL t n L0) (match RF n t L0 200 FU 3 [] (i + 1) 0 with
      | .inl e => .inl e
      | .inr q => .inr ((0, nI C.length, nI (C ++ q.1).length, 0), C ++ q.1, q.2)) := by
    rw [e0, ← el]
    unfold clB
    rw [if_pos (by decide)]
    rfl
  have hz1 : nz (RF n t L0 200 FU 3 [] (i + 1) 0) := fun j hj => by
    rw [hj] at e1
    exact hz j e1
  obtain ⟨⟨o9, h9⟩, q9, w9⟩ := (descend (T := T) (n := n) (t := t) (L0 := L0) (kd := 200) FU).1.2.2.2.1 s (i + 1) 0 nu2 hC (by omega) hN2 hz1
  cases hx : RF n t L0 200 FU 3 [] (i + 1) 0 with
  | inl e =>
    rw [hx] at q9 e1
    obtain ⟨r, j⟩ := e
    have q8 : EQ T n t L0 200 lo 0 1000 s i r j (o9, h9) := EQ.up (b1 := s.b) (show EQ T n t L0 200 (512 + s.b.n) 6 18 (s.setb s.b) (i + 1) r j (o9, h9) from q9) (ExT.refl T lo s.b) (by omega) (by omega) (by omega) (by omega)
    obtain ⟨-, q, b2, nu3, op3, -, -, qe⟩ := id q8
    obtain ⟨rfl, rfl⟩ := Prod.mk.inj qe
    refine StQ.l e1 q8 ?_
    refine AW.aload_n dX3_read_12 rfl rfl ?_
    refine AW.get ci3 4 (by decide) q308 dX3_read_13 (gTk hT) rfl rfl ?_
    refine AW.sipush (v := 301) dX3_read_16 (by decide) rfl ?_
    refine AW.icmp_eq (tgt := 231) dX3_read_19 (by decide) rfl (fun c_ => by first | exact absurd c_ (show ¬ sortS (byteF t n) (tkL t n L0 i) = 301 by rw [hs]; decide) | exact absurd (show ¬ sortS (byteF t n) (tkL t n L0 i) = 301 by rw [hs]; decide) c_ | exact Bool.noConfusion (c_.symm.trans (show ¬ sortS (byteF t n) (tkL t n L0 i) = 301 by rw [hs]; decide))) (fun _ => ?_)
    refine AW.aload_n dX3_read_22 rfl rfl ?_
    refine AW.get ci3 4 (by decide) q308 dX3_read_23 (gTk hT) rfl rfl ?_
    refine AW.sipush (v := 200) dX3_read_26 (by decide) rfl ?_
    refine AW.icmp_lt (tgt := 42) dX3_read_29 (by decide) rfl (fun c_ => by first | exact absurd c_ (show ¬ sortS (byteF t n) (tkL t n L0 i) < 200 by rw [hs]; decide) | exact absurd (show ¬ sortS (byteF t n) (tkL t n L0 i) < 200 by rw [hs]; decide) c_ | exact Bool.noConfusion (c_.symm.trans (show ¬ sortS (byteF t n) (tkL t n L0 i) < 200 by rw [hs]; decide))) (fun _ => ?_)
    refine AW.aload_n dX3_read_32 rfl rfl ?_
    refine AW.get ci3 4 (by decide) q308 dX3_read_33 (gTk hT) rfl rfl ?_
    refine AW.sipush (v := 208) dX3_read_36 (by decide) rfl ?_
    refine AW.icmp_le (tgt := 48) dX3_read_39 (by decide) rfl (fun _ => ?_) (fun c_ => by first | exact absurd c_ (show sortS (byteF t n) (tkL t n L0 i) ≤ 208 by rw [hs]; decide) | exact absurd (show sortS (byteF t n) (tkL t n L0 i) ≤ 208 by rw [hs]; decide) c_ | exact absurd c_ (not_not_intro (show sortS (byteF t n) (tkL t n L0 i) ≤ 208 by rw [hs]; decide)) | exact Bool.noConfusion (c_.symm.trans (show sortS (byteF t n) (tkL t n L0 i) ≤ 208 by rw [hs]; decide)))
    refine AW.aload_n dX3_read_48 rfl rfl ?_
    refine AW.aload_n dX3_read_49 rfl rfl ?_
    refine AW.get ci3 4 (by decide) q308 dX3_read_50 (gTk hT) rfl rfl ?_
    refine AW.put ci3 7 (by decide) q311 dX3_read_53 (by omega) (gTk hT) rfl (fun _ => rfl) (fun _ => rfl) (Nat.le_of_ble_eq_true rfl) ((sTk7 hT).trans (congrArg (fun z => hp (Tk s T n t (tkL t n L0 i) nu (nI 0) z)) hs)) rfl ?_
    refine AW.aload_n dX3_read_56 rfl rfl ?_
    refine AW.get ci3 7 (by decide) q311 dX3_read_57 (gTk hT) rfl rfl ?_
    refine AW.sipush (v := 200) dX3_read_60 (by decide) rfl ?_
    refine AW.icmp_ne (tgt := 73) dX3_read_63 (by decide) rfl (fun c_ => by first | exact absurd c_ (show (200 : Int32) = 200 from rfl) | exact absurd (show (200 : Int32) = 200 from rfl) c_ | exact Bool.noConfusion (c_.symm.trans (show (200 : Int32) = 200 from rfl))) (fun _ => ?_)
    refine AW.aload_n dX3_read_66 rfl rfl ?_
    refine AW.getN ci4 0 (by decide) q365 dX3_read_67 (by first | exact ((hp_gb (nfx hX6)).trans ((Tk_g hXT).trans gX)) | exact ((hp_gb (nfx hX6)).trans ((Tk_g hXT).trans gX2)) | exact ((hp_gb (nfx hX6)).trans ((Tk_g hXT).trans gX3))) rfl rfl ?_
    refine AW.ifnonnullN dX3_read_70 rfl ?_
    refine AW.aload_n dX3_read_73 rfl rfl ?_
    refine AW.get ci3 7 (by decide) q311 dX3_read_74 (gTk hT) rfl rfl ?_
    refine AW.sipush (v := 201) dX3_read_77 (by decide) rfl ?_
    refine AW.icmp_ne (tgt := 90) dX3_read_80 (by decide) rfl (fun _ => ?_) (fun c_ => by first | exact absurd c_ (show ¬ (200 : Int32) = 201 by decide) | exact absurd (show ¬ (200 : Int32) = 201 by decide) c_ | exact absurd c_ (not_not_intro (show ¬ (200 : Int32) = 201 by decide)) | exact Bool.noConfusion (c_.symm.trans (show ¬ (200 : Int32) = 201 by decide)))
    refine AW.aload_n dX3_read_90 rfl rfl ?_
    refine AW.get ci3 7 (by decide) q311 dX3_read_91 (gTk hT) rfl rfl ?_
    refine AW.sipush (v := 202) dX3_read_94 (by decide) rfl ?_
    refine AW.icmp_ne (tgt := 113) dX3_read_97 (by decide) rfl (fun _ => ?_) (fun c_ => by first | exact absurd c_ (show ¬ (200 : Int32) = 202 by decide) | exact absurd (show ¬ (200 : Int32) = 202 by decide) c_ | exact absurd c_ (not_not_intro (show ¬ (200 : Int32) = 202 by decide)) | exact Bool.noConfusion (c_.symm.trans (show ¬ (200 : Int32) = 202 by decide)))
    refine AW.aload_n dX3_read_113 rfl rfl ?_
    refine AW.getN ci4 3 (by decide) q371 dX3_read_114 (by first | exact ((hp_gb (nfx hX6)).trans ((Tk_g hXT).trans gX)) | exact ((hp_gb (nfx hX6)).trans ((Tk_g hXT).trans gX2)) | exact ((hp_gb (nfx hX6)).trans ((Tk_g hXT).trans gX3))) rfl rfl ?_
    refine AW.bipush (v := 24) dX3_read_117 (by decide) rfl ?_
    refine AW.icmp_ne (tgt := 129) dX3_read_119 (by decide) rfl (fun _ => ?_) (fun c_ => by first | exact absurd c_ h24 | exact absurd h24 c_ | exact absurd c_ (not_not_intro h24) | exact Bool.noConfusion (c_.symm.trans h24))
    refine AW.aload_n dX3_read_129 rfl rfl ?_
    refine AW.callV (Y := mX3_next) (n := 0) (w1) (by omega) (by decide) rfl (gTk hT) q386 q388 qs1 q142 q389 dX3_read_130 (by decide +kernel) rfl rfl (Nat.le_of_ble_eq_true rfl) rfl ?_
    refine AW.aload_n dX3_read_133 rfl rfl ?_
    refine AW.get ci3 7 (by decide) q311 dX3_read_134 (gTk hT) rfl rfl ?_
    refine AW.sipush (v := 200) dX3_read_137 (by decide) rfl ?_
    refine AW.icmp_ne (tgt := 154) dX3_read_140 (by decide) rfl (fun c_ => by first | exact absurd c_ (show (200 : Int32) = 200 from rfl) | exact absurd (show (200 : Int32) = 200 from rfl) c_ | exact Bool.noConfusion (c_.symm.trans (show (200 : Int32) = 200 from rfl))) (fun _ => ?_)
    refine AW.aload_n dX3_read_143 rfl rfl ?_
    refine AW.aload_n dX3_read_144 rfl rfl ?_
    exact AW.callVX (Y := mX3_sum) (n := 0) (w9) (by decide) (by decide) rfl (gTk hT) q523 q525 qs5 q142 q526 dX3_read_145 (by decide +kernel) rfl rfl (Nat.le_of_ble_eq_true rfl) q332 rfl
  | inr e =>
    obtain ⟨q1, j⟩ := e
    rw [hx] at q9 e1
    obtain ⟨j1, y, b2, nu3, x2, ⟨F, hF1, hF2⟩, hN3, qe⟩ := q9
    obtain ⟨rfl, rfl⟩ := Prod.mk.inj qe
    have j1' : i + 1 + 1 ≤ j := j1
    have x2n := x2.1
    have x2c : b2.n ≤ s.b.n + (16 * (j - (i + 1)) + 6) := x2.2.1
    have x2u := x2.2.2.1
    have x2v : b2.u ≤ s.b.u + (120 * (j - (i + 1)) + 18) := x2.2.2.2.1
    have x2g := x2.2.2.2.2
    have gX2 : b2.g X = _ := (x2g X r3 (by omega)).trans gX
    have x4 : ExT T lo (b2.n - s.b.n) (b2.u - s.b.u) s.b (b2.set X (.inr (4, [.ref y, vl, vq, .int (nI cls.length), .ref Dl]))) := ⟨by show s.b.n ≤ b2.n; omega, by show b2.n ≤ _; omega, by show s.b.u ≤ b2.u; omega, by show b2.u ≤ _; omega, fun k hk hkT => (set_go (by omega)).trans (x2g k (by omega) hkT)⟩
    have hC4 : TC (s.setb (b2.set X (.inr (4, [.ref y, vl, vq, .int (nI cls.length), .ref Dl])))) T n t := hC.ext x4 (by omega)
    have gX3 : (b2.set X (.inr (4, [.ref y, vl, vq, .int (nI cls.length), .ref Dl]))).g X = some (.inr (4, [.ref y, vl, vq, .int (nI cls.length), .ref Dl])) := set_g
    have e1 : x = (if (tkL t n L0 j).2.2.1 = 59 then .inr ((0, nI C.length, nI (C ++ q1).length, 0), C ++ q1, j + 1) else .inl (1, j)) := e1
    by_cases cf : (tkL t n L0 j).2.2.1 = 59
    · have hs59 : sortS (byteF t n) (tkL t n L0 j) = 59 := (so_c j (c := 59) (v := 59) (by decide) (by decide +kernel) (by decide +kernel)).mpr cf
      rw [if_pos cf] at e1
      obtain ⟨nu4, hN4, w2⟩ := r_X3_want_t hC4 j (L0 := L0) (nu := nu3) (op := nI 0) (kd := 200) 59 hs59
      have hlen : nI cls.length + 1 = nI (cls ++ [((0, nI C.length, nI (C ++ q1).length, 0) : Cl)]).length := by
        rw [nI_succ', List.length_append]
        rfl
      have hdl : dosL (cls ++ [((0, nI C.length, nI (C ++ q1).length, 0) : Cl)]) 0 = dosL cls 0 := by
        rw [dosL_app, if_pos (show (0 : Int32) ≤ 2 by decide), List.append_nil]
      have zf := FnO.at_ hF2
      have d := hA.D_
      have hn3 : s.b.n ≤ (b2.set X (.inr (4, [.ref y, vl, vq, .int (nI cls.length + 1), .ref Dl]))).n := x2n
      have e3 : ∀ k, k < 512 + s.b.n → (k < 512 ∨ lo ≤ k) → k ≠ X → (b2.set X (.inr (4, [.ref y, vl, vq, .int (nI cls.length + 1), .ref Dl]))).g k = s.b.g k := fun k hk hl hX => (set_go hX).trans (x2g k hk (by omega))
      have e32 := e3 2 (by omega) (by omega) (by omega)
      have sl : ∀ {β : Type} {Y : MethodName} {g : β → (Nat → Int32) → Value} {v : Value} {f : Option β}, SlotG Y g s.b lo X Dl E v f → SlotG Y g (b2.set X (.inr (4, [.ref y, vl, vq, .int (nI cls.length + 1), .ref Dl]))) lo X Dl E v f := fun h => h.by_ hn3 (fun k a b c1 _ _ => e3 k a b c1) (Or.inl rfl) (by omega) e32
      have sn : SlotG yzSum (fun F N => .long (F N)) (b2.set X (.inr (4, [.ref y, vl, vq, .int (nI cls.length + 1), .ref Dl]))) lo X Dl E (.ref y) (some F) := ⟨y, (512 + s.b.n), 512 + b2.n, rfl, FnO.ext (FnO.widen hF2 (by omega) (Nat.le_refl _) (Nat.le_refl _) (Nat.le_refl _) (by omega)) (Nat.le_refl _) (fun k hk => set_go (by omega)), by omega, fun z hz => by
        rcases hz with rfl | rfl | rfl
        · exact Or.inl r3
        · exact Or.inl d.2.1
        · exact Or.inl (by omega)⟩
      have hD3 : ∀ k dd, (dosL cls 0)[k]? = some dd → lo ≤ dv k ∧ dv k < 512 + b2.n ∧ (b2.set X (.inr (4, [.ref y, vl, vq, .int (nI cls.length + 1), .ref Dl]))).g (dv k) = some (.inr (15, [.int dd.1, .int dd.2.1, .int dd.2.2.1, .int dd.2.2.2.1, .int dd.2.2.2.2])) := fun k dd hk => by
        obtain ⟨a1, a2, a3⟩ := hD k dd hk
        exact ⟨a1, by omega, (e3 _ a2 (Or.inr a1) (fun q => by
          rw [q, gX] at a3
          have z1 := congrArg Prod.fst (Sum.inr.inj (Option.some.inj a3))
          exact absurd (show (4 : Nat) = 15 from z1) (by decide))).trans a3⟩
      have hA3 : AL (b2.set X (.inr (4, [.ref y, vl, vq, .int (nI cls.length + 1), .ref Dl]))) Dl E (dosL cls 0).length ix (fun k => .ref (dv k)) := hA.by_ hn3 (e3 Dl d.2.1 (Or.inr r4) (Ne.symm r5)) (by
        rcases d.2.2.1 with q | q
        · exact Or.inl q
        · exact Or.inr (e3 E q.2 (by omega) (Ne.symm r6))) (fun j hj => by
        obtain ⟨a1, a2, a3⟩ := hD3 j _ (List.getElem?_eq_getElem hj)
        exact ⟨dv j, 15, _, _, rfl, nfx (by omega), a2, a3, rfl, q2045⟩)
      have hR3 : RdS (b2.set X (.inr (4, [.ref y, vl, vq, .int (nI cls.length + 1), .ref Dl]))) lo X Dl ix (cls ++ [((0, nI C.length, nI (C ++ q1).length, 0) : Cl)]) (C ++ q1) (some F, L.2.1, L.2.2) := ⟨E, .ref y, vl, vq, dv, ⟨r1, r2, by show X < 512 + b2.n; omega, r4, r5, r6, r7⟩, by rw [← hlen]; exact set_g, by rw [hdl]; exact hA3, by rw [hdl]; exact hD3, ⟨sn, sl s2, sl s3⟩, lwOne.new hno hF1, hl1.app _ q1 (show ¬ (0 : Int32) = 1 by decide), hl2.app _ q1 (show ¬ (0 : Int32) = 2 by decide)⟩
      refine StQ.r e1 (by omega) (b2 := b2.set X (.inr (4, [.ref y, vl, vq, .int (nI cls.length + 1), .ref Dl]))) ⟨x2n, by show b2.n ≤ _; omega, x2u, by show b2.u + _ ≤ _; omega, fun k hk hkT => (set_go (by omega)).trans (x2g k (by omega) hkT)⟩ hR3 hN4 (fun o h' kk => ?_)
      refine AW.aload_n dX3_read_12 rfl rfl ?_
      refine AW.get ci3 4 (by decide) q308 dX3_read_13 (gTk hT) rfl rfl ?_
      refine AW.sipush (v := 301) dX3_read_16 (by decide) rfl ?_
      refine AW.icmp_eq (tgt := 231) dX3_read_19 (by decide) rfl (fun c_ => by first | exact absurd c_ (show ¬ sortS (byteF t n) (tkL t n L0 i) = 301 by rw [hs]; decide) | exact absurd (show ¬ sortS (byteF t n) (tkL t n L0 i) = 301 by rw [hs]; decide) c_ | exact Bool.noConfusion (c_.symm.trans (show ¬ sortS (byteF t n) (tkL t n L0 i) = 301 by rw [hs]; decide))) (fun _ => ?_)
      refine AW.aload_n dX3_read_22 rfl rfl ?_
      refine AW.get ci3 4 (by decide) q308 dX3_read_23 (gTk hT) rfl rfl ?_
      refine AW.sipush (v := 200) dX3_read_26 (by decide) rfl ?_
      refine AW.icmp_lt (tgt := 42) dX3_read_29 (by decide) rfl (fun c_ => by first | exact absurd c_ (show ¬ sortS (byteF t n) (tkL t n L0 i) < 200 by rw [hs]; decide) | exact absurd (show ¬ sortS (byteF t n) (tkL t n L0 i) < 200 by rw [hs]; decide) c_ | exact Bool.noConfusion (c_.symm.trans (show ¬ sortS (byteF t n) (tkL t n L0 i) < 200 by rw [hs]; decide))) (fun _ => ?_)
      refine AW.aload_n dX3_read_32 rfl rfl ?_
      refine AW.get ci3 4 (by decide) q308 dX3_read_33 (gTk hT) rfl rfl ?_
      refine AW.sipush (v := 208) dX3_read_36 (by decide) rfl ?_
      refine AW.icmp_le (tgt := 48) dX3_read_39 (by decide) rfl (fun _ => ?_) (fun c_ => by first | exact absurd c_ (show sortS (byteF t n) (tkL t n L0 i) ≤ 208 by rw [hs]; decide) | exact absurd (show sortS (byteF t n) (tkL t n L0 i) ≤ 208 by rw [hs]; decide) c_ | exact absurd c_ (not_not_intro (show sortS (byteF t n) (tkL t n L0 i) ≤ 208 by rw [hs]; decide)) | exact Bool.noConfusion (c_.symm.trans (show sortS (byteF t n) (tkL t n L0 i) ≤ 208 by rw [hs]; decide)))
      refine AW.aload_n dX3_read_48 rfl rfl ?_
      refine AW.aload_n dX3_read_49 rfl rfl ?_
      refine AW.get ci3 4 (by decide) q308 dX3_read_50 (gTk hT) rfl rfl ?_
      refine AW.put ci3 7 (by decide) q311 dX3_read_53 (by omega) (gTk hT) rfl (fun _ => rfl) (fun _ => rfl) (Nat.le_of_ble_eq_true rfl) ((sTk7 hT).trans (congrArg (fun z => hp (Tk s T n t (tkL t n L0 i) nu (nI 0) z)) hs)) rfl ?_
      refine AW.aload_n dX3_read_56 rfl rfl ?_
      refine AW.get ci3 7 (by decide) q311 dX3_read_57 (gTk hT) rfl rfl ?_
      refine AW.sipush (v := 200) dX3_read_60 (by decide) rfl ?_
      refine AW.icmp_ne (tgt := 73) dX3_read_63 (by decide) rfl (fun c_ => by first | exact absurd c_ (show (200 : Int32) = 200 from rfl) | exact absurd (show (200 : Int32) = 200 from rfl) c_ | exact Bool.noConfusion (c_.symm.trans (show (200 : Int32) = 200 from rfl))) (fun _ => ?_)
      refine AW.aload_n dX3_read_66 rfl rfl ?_
      refine AW.getN ci4 0 (by decide) q365 dX3_read_67 (by first | exact ((hp_gb (nfx hX6)).trans ((Tk_g hXT).trans gX)) | exact ((hp_gb (nfx hX6)).trans ((Tk_g hXT).trans gX2)) | exact ((hp_gb (nfx hX6)).trans ((Tk_g hXT).trans gX3))) rfl rfl ?_
      refine AW.ifnonnullN dX3_read_70 rfl ?_
      refine AW.aload_n dX3_read_73 rfl rfl ?_
      refine AW.get ci3 7 (by decide) q311 dX3_read_74 (gTk hT) rfl rfl ?_
      refine AW.sipush (v := 201) dX3_read_77 (by decide) rfl ?_
      refine AW.icmp_ne (tgt := 90) dX3_read_80 (by decide) rfl (fun _ => ?_) (fun c_ => by first | exact absurd c_ (show ¬ (200 : Int32) = 201 by decide) | exact absurd (show ¬ (200 : Int32) = 201 by decide) c_ | exact absurd c_ (not_not_intro (show ¬ (200 : Int32) = 201 by decide)) | exact Bool.noConfusion (c_.symm.trans (show ¬ (200 : Int32) = 201 by decide)))
      refine AW.aload_n dX3_read_90 rfl rfl ?_
      refine AW.get ci3 7 (by decide) q311 dX3_read_91 (gTk hT) rfl rfl ?_
      refine AW.sipush (v := 202) dX3_read_94 (by decide) rfl ?_
      refine AW.icmp_ne (tgt := 113) dX3_read_97 (by decide) rfl (fun _ => ?_) (fun c_ => by first | exact absurd c_ (show ¬ (200 : Int32) = 202 by decide) | exact absurd (show ¬ (200 : Int32) = 202 by decide) c_ | exact absurd c_ (not_not_intro (show ¬ (200 : Int32) = 202 by decide)) | exact Bool.noConfusion (c_.symm.trans (show ¬ (200 : Int32) = 202 by decide)))
      refine AW.aload_n dX3_read_113 rfl rfl ?_
      refine AW.getN ci4 3 (by decide) q371 dX3_read_114 (by first | exact ((hp_gb (nfx hX6)).trans ((Tk_g hXT).trans gX)) | exact ((hp_gb (nfx hX6)).trans ((Tk_g hXT).trans gX2)) | exact ((hp_gb (nfx hX6)).trans ((Tk_g hXT).trans gX3))) rfl rfl ?_
      refine AW.bipush (v := 24) dX3_read_117 (by decide) rfl ?_
      refine AW.icmp_ne (tgt := 129) dX3_read_119 (by decide) rfl (fun _ => ?_) (fun c_ => by first | exact absurd c_ h24 | exact absurd h24 c_ | exact absurd c_ (not_not_intro h24) | exact Bool.noConfusion (c_.symm.trans h24))
      refine AW.aload_n dX3_read_129 rfl rfl ?_
      refine AW.callV (Y := mX3_next) (n := 0) (w1) (by omega) (by decide) rfl (gTk hT) q386 q388 qs1 q142 q389 dX3_read_130 (by decide +kernel) rfl rfl (Nat.le_of_ble_eq_true rfl) rfl ?_
      refine AW.aload_n dX3_read_133 rfl rfl ?_
      refine AW.get ci3 7 (by decide) q311 dX3_read_134 (gTk hT) rfl rfl ?_
      refine AW.sipush (v := 200) dX3_read_137 (by decide) rfl ?_
      refine AW.icmp_ne (tgt := 154) dX3_read_140 (by decide) rfl (fun c_ => by first | exact absurd c_ (show (200 : Int32) = 200 from rfl) | exact absurd (show (200 : Int32) = 200 from rfl) c_ | exact Bool.noConfusion (c_.symm.trans (show (200 : Int32) = 200 from rfl))) (fun _ => ?_)
      refine AW.aload_n dX3_read_143 rfl rfl ?_
      refine AW.aload_n dX3_read_144 rfl rfl ?_
      refine AW.callV (Y := mX3_sum) (n := 0) (w9) (by omega) (by decide) rfl (gTk hT) q523 q525 qs5 q142 q526 dX3_read_145 (by decide +kernel) rfl rfl (Nat.le_of_ble_eq_true rfl) rfl ?_
      refine AW.putN ci4 0 (by decide) q365 dX3_read_148 (by omega) (by first | exact ((hp_gb (nfx hX6)).trans ((Tk_g hXT).trans gX)) | exact ((hp_gb (nfx hX6)).trans ((Tk_g hXT).trans gX2)) | exact ((hp_gb (nfx hX6)).trans ((Tk_g hXT).trans gX3))) rfl (fun _ => rfl) (fun _ => rfl) (Nat.le_of_ble_eq_true rfl) ((hp_set6 hX6).trans (tk_cm (s := s.setb b2) (Ne.symm hXT))) rfl ?_
      refine AW.goto (tgt := 212) dX3_read_151 (by decide) ?_
      refine AW.aload_n dX3_read_212 rfl rfl ?_
      refine AW.bipush (v := 59) dX3_read_213 (by decide) rfl ?_
      refine AW.callV (Y := mX3_want) (n := 1) (w2) (by omega) (by decide) rfl (gTk hT) q562 q564 qs11 q142 q565 dX3_read_215 (by decide +kernel) rfl rfl (Nat.le_of_ble_eq_true rfl) rfl ?_
      refine AW.aload_n dX3_read_218 rfl rfl ?_
      refine AW.dup dX3_read_219 rfl rfl ?_
      refine AW.getN ci4 3 (by decide) q371 dX3_read_220 (by first | exact ((hp_gb (nfx hX6)).trans ((Tk_g hXT).trans gX)) | exact ((hp_gb (nfx hX6)).trans ((Tk_g hXT).trans gX2)) | exact ((hp_gb (nfx hX6)).trans ((Tk_g hXT).trans gX3))) rfl rfl ?_
      refine AW.iconst (v := 1) dX3_read_223 (by decide) rfl ?_
      refine AW.iadd dX3_read_224 rfl ?_
      refine AW.putN ci4 3 (by decide) q371 dX3_read_225 (by omega) (by first | exact ((hp_gb (nfx hX6)).trans ((Tk_g hXT).trans gX)) | exact ((hp_gb (nfx hX6)).trans ((Tk_g hXT).trans gX2)) | exact ((hp_gb (nfx hX6)).trans ((Tk_g hXT).trans gX3))) rfl (fun _ => rfl) (fun _ => rfl) (Nat.le_of_ble_eq_true rfl) (((hp_set6 hX6).trans (tk_cm (s := s.setb (b2.set X (.inr (4, [.ref y, vl, vq, .int (nI cls.length), .ref Dl])))) (Ne.symm hXT))).trans (congrArg (fun z => (hp (Tk (s.setb z) T n t (tkL t n L0 (j + 1)) nu4 (nI 0) 200))) set_set)) rfl ?_
      refine AW.goto (tgt := 12) dX3_read_228 (by decide) ?_
      exact kk
    · have hs59 : ¬ sortS (byteF t n) (tkL t n L0 j) = 59 := fun q => cf ((so_c j (c := 59) (v := 59) (by decide) (by decide +kernel) (by decide +kernel)).mp q)
      rw [if_neg cf] at e1
      have w2 := r_X3_want_f (s := s.setb (b2.set X (.inr (4, [.ref y, vl, vq, .int (nI cls.length), .ref Dl])))) (n := n) (at_ := (tkL t n L0 j).1) (tk := (tkL t n L0 j).2.1) (nu := nu3) (op := nI 0) (kd := 200) hT (by show T < 512 + b2.n; omega) (by show 128 ≤ b2.n; omega) 59 hs59
      have q7 : EQ T n t L0 200 (512 + b2.n) 0 0 (s.setb (b2.set X (.inr (4, [.ref y, vl, vq, .int (nI cls.length), .ref Dl])))) j 1 j _ := EQ.wr (s := s.setb (b2.set X (.inr (4, [.ref y, vl, vq, .int (nI cls.length), .ref Dl])))) (L0 := L0) (nu := nu3) (op := nI 0) (Nat.le_refl _) 1
      have q8 : EQ T n t L0 200 lo 0 1000 s i 1 j _ := EQ.up q7 x4 (by omega) (by omega) (by omega) (by omega)
      refine StQ.l e1 q8 ?_
      refine AW.aload_n dX3_read_12 rfl rfl ?_
      refine AW.get ci3 4 (by decide) q308 dX3_read_13 (gTk hT) rfl rfl ?_
      refine AW.sipush (v := 301) dX3_read_16 (by decide) rfl ?_
      refine AW.icmp_eq (tgt := 231) dX3_read_19 (by decide) rfl (fun c_ => by first | exact absurd c_ (show ¬ sortS (byteF t n) (tkL t n L0 i) = 301 by rw [hs]; decide) | exact absurd (show ¬ sortS (byteF t n) (tkL t n L0 i) = 301 by rw [hs]; decide) c_ | exact Bool.noConfusion (c_.symm.trans (show ¬ sortS (byteF t n) (tkL t n L0 i) = 301 by rw [hs]; decide))) (fun _ => ?_)
      refine AW.aload_n dX3_read_22 rfl rfl ?_
      refine AW.get ci3 4 (by decide) q308 dX3_read_23 (gTk hT) rfl rfl ?_
      refine AW.sipush (v := 200) dX3_read_26 (by decide) rfl ?_
      refine AW.icmp_lt (tgt := 42) dX3_read_29 (by decide) rfl (fun c_ => by first | exact absurd c_ (show ¬ sortS (byteF t n) (tkL t n L0 i) < 200 by rw [hs]; decide) | exact absurd (show ¬ sortS (byteF t n) (tkL t n L0 i) < 200 by rw [hs]; decide) c_ | exact Bool.noConfusion (c_.symm.trans (show ¬ sortS (byteF t n) (tkL t n L0 i) < 200 by rw [hs]; decide))) (fun _ => ?_)
      refine AW.aload_n dX3_read_32 rfl rfl ?_
      refine AW.get ci3 4 (by decide) q308 dX3_read_33 (gTk hT) rfl rfl ?_
      refine AW.sipush (v := 208) dX3_read_36 (by decide) rfl ?_
      refine AW.icmp_le (tgt := 48) dX3_read_39 (by decide) rfl (fun _ => ?_) (fun c_ => by first | exact absurd c_ (show sortS (byteF t n) (tkL t n L0 i) ≤ 208 by rw [hs]; decide) | exact absurd (show sortS (byteF t n) (tkL t n L0 i) ≤ 208 by rw [hs]; decide) c_ | exact absurd c_ (not_not_intro (show sortS (byteF t n) (tkL t n L0 i) ≤ 208 by rw [hs]; decide)) | exact Bool.noConfusion (c_.symm.trans (show sortS (byteF t n) (tkL t n L0 i) ≤ 208 by rw [hs]; decide)))
      refine AW.aload_n dX3_read_48 rfl rfl ?_
      refine AW.aload_n dX3_read_49 rfl rfl ?_
      refine AW.get ci3 4 (by decide) q308 dX3_read_50 (gTk hT) rfl rfl ?_
      refine AW.put ci3 7 (by decide) q311 dX3_read_53 (by omega) (gTk hT) rfl (fun _ => rfl) (fun _ => rfl) (Nat.le_of_ble_eq_true rfl) ((sTk7 hT).trans (congrArg (fun z => hp (Tk s T n t (tkL t n L0 i) nu (nI 0) z)) hs)) rfl ?_
      refine AW.aload_n dX3_read_56 rfl rfl ?_
      refine AW.get ci3 7 (by decide) q311 dX3_read_57 (gTk hT) rfl rfl ?_
      refine AW.sipush (v := 200) dX3_read_60 (by decide) rfl ?_
      refine AW.icmp_ne (tgt := 73) dX3_read_63 (by decide) rfl (fun c_ => by first | exact absurd c_ (show (200 : Int32) = 200 from rfl) | exact absurd (show (200 : Int32) = 200 from rfl) c_ | exact Bool.noConfusion (c_.symm.trans (show (200 : Int32) = 200 from rfl))) (fun _ => ?_)
      refine AW.aload_n dX3_read_66 rfl rfl ?_
      refine AW.getN ci4 0 (by decide) q365 dX3_read_67 (by first | exact ((hp_gb (nfx hX6)).trans ((Tk_g hXT).trans gX)) | exact ((hp_gb (nfx hX6)).trans ((Tk_g hXT).trans gX2)) | exact ((hp_gb (nfx hX6)).trans ((Tk_g hXT).trans gX3))) rfl rfl ?_
      refine AW.ifnonnullN dX3_read_70 rfl ?_
      refine AW.aload_n dX3_read_73 rfl rfl ?_
      refine AW.get ci3 7 (by decide) q311 dX3_read_74 (gTk hT) rfl rfl ?_
      refine AW.sipush (v := 201) dX3_read_77 (by decide) rfl ?_
      refine AW.icmp_ne (tgt := 90) dX3_read_80 (by decide) rfl (fun _ => ?_) (fun c_ => by first | exact absurd c_ (show ¬ (200 : Int32) = 201 by decide) | exact absurd (show ¬ (200 : Int32) = 201 by decide) c_ | exact absurd c_ (not_not_intro (show ¬ (200 : Int32) = 201 by decide)) | exact Bool.noConfusion (c_.symm.trans (show ¬ (200 : Int32) = 201 by decide)))
      refine AW.aload_n dX3_read_90 rfl rfl ?_
      refine AW.get ci3 7 (by decide) q311 dX3_read_91 (gTk hT) rfl rfl ?_
      refine AW.sipush (v := 202) dX3_read_94 (by decide) rfl ?_
      refine AW.icmp_ne (tgt := 113) dX3_read_97 (by decide) rfl (fun _ => ?_) (fun c_ => by first | exact absurd c_ (show ¬ (200 : Int32) = 202 by decide) | exact absurd (show ¬ (200 : Int32) = 202 by decide) c_ | exact absurd c_ (not_not_intro (show ¬ (200 : Int32) = 202 by decide)) | exact Bool.noConfusion (c_.symm.trans (show ¬ (200 : Int32) = 202 by decide)))
      refine AW.aload_n dX3_read_113 rfl rfl ?_
      refine AW.getN ci4 3 (by decide) q371 dX3_read_114 (by first | exact ((hp_gb (nfx hX6)).trans ((Tk_g hXT).trans gX)) | exact ((hp_gb (nfx hX6)).trans ((Tk_g hXT).trans gX2)) | exact ((hp_gb (nfx hX6)).trans ((Tk_g hXT).trans gX3))) rfl rfl ?_
      refine AW.bipush (v := 24) dX3_read_117 (by decide) rfl ?_
      refine AW.icmp_ne (tgt := 129) dX3_read_119 (by decide) rfl (fun _ => ?_) (fun c_ => by first | exact absurd c_ h24 | exact absurd h24 c_ | exact absurd c_ (not_not_intro h24) | exact Bool.noConfusion (c_.symm.trans h24))
      refine AW.aload_n dX3_read_129 rfl rfl ?_
      refine AW.callV (Y := mX3_next) (n := 0) (w1) (by omega) (by decide) rfl (gTk hT) q386 q388 qs1 q142 q389 dX3_read_130 (by decide +kernel) rfl rfl (Nat.le_of_ble_eq_true rfl) rfl ?_
      refine AW.aload_n dX3_read_133 rfl rfl ?_
      refine AW.get ci3 7 (by decide) q311 dX3_read_134 (gTk hT) rfl rfl ?_
      refine AW.sipush (v := 200) dX3_read_137 (by decide) rfl ?_
      refine AW.icmp_ne (tgt := 154) dX3_read_140 (by decide) rfl (fun c_ => by first | exact absurd c_ (show (200 : Int32) = 200 from rfl) | exact absurd (show (200 : Int32) = 200 from rfl) c_ | exact Bool.noConfusion (c_.symm.trans (show (200 : Int32) = 200 from rfl))) (fun _ => ?_)
      refine AW.aload_n dX3_read_143 rfl rfl ?_
      refine AW.aload_n dX3_read_144 rfl rfl ?_
      refine AW.callV (Y := mX3_sum) (n := 0) (w9) (by omega) (by decide) rfl (gTk hT) q523 q525 qs5 q142 q526 dX3_read_145 (by decide +kernel) rfl rfl (Nat.le_of_ble_eq_true rfl) rfl ?_
      refine AW.putN ci4 0 (by decide) q365 dX3_read_148 (by omega) (by first | exact ((hp_gb (nfx hX6)).trans ((Tk_g hXT).trans gX)) | exact ((hp_gb (nfx hX6)).trans ((Tk_g hXT).trans gX2)) | exact ((hp_gb (nfx hX6)).trans ((Tk_g hXT).trans gX3))) rfl (fun _ => rfl) (fun _ => rfl) (Nat.le_of_ble_eq_true rfl) ((hp_set6 hX6).trans (tk_cm (s := s.setb b2) (Ne.symm hXT))) rfl ?_
      refine AW.goto (tgt := 212) dX3_read_151 (by decide) ?_
      refine AW.aload_n dX3_read_212 rfl rfl ?_
      refine AW.bipush (v := 59) dX3_read_213 (by decide) rfl ?_
      exact AW.callVX (Y := mX3_want) (n := 1) (w2) (by decide) (by decide) rfl (gTk hT) q562 q564 qs11 q142 q565 dX3_read_215 (by decide +kernel) rfl rfl (Nat.le_of_ble_eq_true rfl) q332 rfl
theorem rc_1 {T n : Nat} {t : Nat → Int32} {L0 : Lq} {lo X Dl ix : Nat} {s : Sg} {i : Nat} {kd nu : Int32} {cls : List Cl} {C : Cd} {L : Lw} {x : CR} (hC : TC s T n t) (hTlo : T < lo) (hR : RdS s.b lo X Dl ix cls C L) (hs : sortS (byteF t n) (tkL t n L0 i) = 201) (hno : hasS cls 1 = false) (h24_ : cls.length < 24) (e0 : x = semi (tkL t n L0) (clB (byteF t n) (tkL t n L0) 1 C (i + 1))) (hz : ∀ j, ¬ x = .inl (0, j)) : StQ T n t L0 lo X Dl ix s i kd 201 nu cls x := by
  have hT := hC.1
  have hTb := hC.2.1
  have h300 := hC.2.2.2.1
  have hB := hC.2.2.2.2
  have hb := hB.1
  have h24 := nI_24 h24_
  have hR0 := hR
  obtain ⟨E, ve, vl, vq, dv, ⟨r1, r2, r3, r4, r5, r6, r7⟩, gX, hA, hD, ⟨s1, s2, s3⟩, hl0, hl1, hl2⟩ := hR
  have hX6 : 640 ≤ X := by omega
  have hXT : X ≠ T := by omega
  have hnone := hl1.no.1 hno
  have hv : vl = .null := by
    have := s2
    rw [hnone] at this
    exact this
  subst hv
  obtain ⟨nu2, hN2, w1⟩ := tk_next hC L0 i (nu := nu) (op := nI 0) (kd := 201)
  have el : lawR (byteF t n) (tkL t n L0) 1 (i + 1) = RF n t L0 201 FU 3 [] (i + 1) 0 := by
    unfold lawR
    rw [show decide ((1 : Int32) = 2) = decide ((201 : Int32) = 202) from by decide]
    rfl
  have e1 : x = semi (tkL t n L0) (match RF n t L0 201 FU 3 [] (i + 1) 0 with
      | .inl e => .inl e
      | .inr q => .inr ((1, nI C.length, nI (C ++ q.1).length, 0), C ++ q.1, q.2)) := by
    rw [e0, ← el]
    unfold clB
    rw [if_pos (by decide)]
    rfl
  have hz1 : nz (RF n t L0 201 FU 3 [] (i + 1) 0) := fun j hj => by
    rw [hj] at e1
    exact hz j e1
  obtain ⟨⟨o9, h9⟩, q9, w9⟩ := (descend (T := T) (n := n) (t := t) (L0 := L0) (kd := 201) FU).1.2.2.2.1 s (i + 1) 0 nu2 hC (by omega) hN2 hz1
  cases hx : RF n t L0 201 FU 3 [] (i + 1) 0 with
  | inl e =>
    rw [hx] at q9 e1
    obtain ⟨r, j⟩ := e
    have q8 : EQ T n t L0 201 lo 0 1000 s i r j (o9, h9) := EQ.up (b1 := s.b) (show EQ T n t L0 201 (512 + s.b.n) 6 18 (s.setb s.b) (i + 1) r j (o9, h9) from q9) (ExT.refl T lo s.b) (by omega) (by omega) (by omega) (by omega)
    obtain ⟨-, q, b2, nu3, op3, -, -, qe⟩ := id q8
    obtain ⟨rfl, rfl⟩ := Prod.mk.inj qe
    refine StQ.l e1 q8 ?_
    refine AW.aload_n dX3_read_12 rfl rfl ?_
    refine AW.get ci3 4 (by decide) q308 dX3_read_13 (gTk hT) rfl rfl ?_
    refine AW.sipush (v := 301) dX3_read_16 (by decide) rfl ?_
    refine AW.icmp_eq (tgt := 231) dX3_read_19 (by decide) rfl (fun c_ => by first | exact absurd c_ (show ¬ sortS (byteF t n) (tkL t n L0 i) = 301 by rw [hs]; decide) | exact absurd (show ¬ sortS (byteF t n) (tkL t n L0 i) = 301 by rw [hs]; decide) c_ | exact Bool.noConfusion (c_.symm.trans (show ¬ sortS (byteF t n) (tkL t n L0 i) = 301 by rw [hs]; decide))) (fun _ => ?_)
    refine AW.aload_n dX3_read_22 rfl rfl ?_
    refine AW.get ci3 4 (by decide) q308 dX3_read_23 (gTk hT) rfl rfl ?_
    refine AW.sipush (v := 200) dX3_read_26 (by decide) rfl ?_
    refine AW.icmp_lt (tgt := 42) dX3_read_29 (by decide) rfl (fun c_ => by first | exact absurd c_ (show ¬ sortS (byteF t n) (tkL t n L0 i) < 200 by rw [hs]; decide) | exact absurd (show ¬ sortS (byteF t n) (tkL t n L0 i) < 200 by rw [hs]; decide) c_ | exact Bool.noConfusion (c_.symm.trans (show ¬ sortS (byteF t n) (tkL t n L0 i) < 200 by rw [hs]; decide))) (fun _ => ?_)
    refine AW.aload_n dX3_read_32 rfl rfl ?_
    refine AW.get ci3 4 (by decide) q308 dX3_read_33 (gTk hT) rfl rfl ?_
    refine AW.sipush (v := 208) dX3_read_36 (by decide) rfl ?_
    refine AW.icmp_le (tgt := 48) dX3_read_39 (by decide) rfl (fun _ => ?_) (fun c_ => by first | exact absurd c_ (show sortS (byteF t n) (tkL t n L0 i) ≤ 208 by rw [hs]; decide) | exact absurd (show sortS (byteF t n) (tkL t n L0 i) ≤ 208 by rw [hs]; decide) c_ | exact absurd c_ (not_not_intro (show sortS (byteF t n) (tkL t n L0 i) ≤ 208 by rw [hs]; decide)) | exact Bool.noConfusion (c_.symm.trans (show sortS (byteF t n) (tkL t n L0 i) ≤ 208 by rw [hs]; decide)))
    refine AW.aload_n dX3_read_48 rfl rfl ?_
    refine AW.aload_n dX3_read_49 rfl rfl ?_
    refine AW.get ci3 4 (by decide) q308 dX3_read_50 (gTk hT) rfl rfl ?_
    refine AW.put ci3 7 (by decide) q311 dX3_read_53 (by omega) (gTk hT) rfl (fun _ => rfl) (fun _ => rfl) (Nat.le_of_ble_eq_true rfl) ((sTk7 hT).trans (congrArg (fun z => hp (Tk s T n t (tkL t n L0 i) nu (nI 0) z)) hs)) rfl ?_
    refine AW.aload_n dX3_read_56 rfl rfl ?_
    refine AW.get ci3 7 (by decide) q311 dX3_read_57 (gTk hT) rfl rfl ?_
    refine AW.sipush (v := 200) dX3_read_60 (by decide) rfl ?_
    refine AW.icmp_ne (tgt := 73) dX3_read_63 (by decide) rfl (fun _ => ?_) (fun c_ => by first | exact absurd c_ (show ¬ (201 : Int32) = 200 by decide) | exact absurd (show ¬ (201 : Int32) = 200 by decide) c_ | exact absurd c_ (not_not_intro (show ¬ (201 : Int32) = 200 by decide)) | exact Bool.noConfusion (c_.symm.trans (show ¬ (201 : Int32) = 200 by decide)))
    refine AW.aload_n dX3_read_73 rfl rfl ?_
    refine AW.get ci3 7 (by decide) q311 dX3_read_74 (gTk hT) rfl rfl ?_
    refine AW.sipush (v := 201) dX3_read_77 (by decide) rfl ?_
    refine AW.icmp_ne (tgt := 90) dX3_read_80 (by decide) rfl (fun c_ => by first | exact absurd c_ (show (201 : Int32) = 201 from rfl) | exact absurd (show (201 : Int32) = 201 from rfl) c_ | exact Bool.noConfusion (c_.symm.trans (show (201 : Int32) = 201 from rfl))) (fun _ => ?_)
    refine AW.aload_n dX3_read_83 rfl rfl ?_
    refine AW.getN ci4 1 (by decide) q367 dX3_read_84 (by first | exact ((hp_gb (nfx hX6)).trans ((Tk_g hXT).trans gX)) | exact ((hp_gb (nfx hX6)).trans ((Tk_g hXT).trans gX2)) | exact ((hp_gb (nfx hX6)).trans ((Tk_g hXT).trans gX3))) rfl rfl ?_
    refine AW.ifnonnullN dX3_read_87 rfl ?_
    refine AW.aload_n dX3_read_90 rfl rfl ?_
    refine AW.get ci3 7 (by decide) q311 dX3_read_91 (gTk hT) rfl rfl ?_
    refine AW.sipush (v := 202) dX3_read_94 (by decide) rfl ?_
    refine AW.icmp_ne (tgt := 113) dX3_read_97 (by decide) rfl (fun _ => ?_) (fun c_ => by first | exact absurd c_ (show ¬ (201 : Int32) = 202 by decide) | exact absurd (show ¬ (201 : Int32) = 202 by decide) c_ | exact absurd c_ (not_not_intro (show ¬ (201 : Int32) = 202 by decide)) | exact Bool.noConfusion (c_.symm.trans (show ¬ (201 : Int32) = 202 by decide)))
    refine AW.aload_n dX3_read_113 rfl rfl ?_
    refine AW.getN ci4 3 (by decide) q371 dX3_read_114 (by first | exact ((hp_gb (nfx hX6)).trans ((Tk_g hXT).trans gX)) | exact ((hp_gb (nfx hX6)).trans ((Tk_g hXT).trans gX2)) | exact ((hp_gb (nfx hX6)).trans ((Tk_g hXT).trans gX3))) rfl rfl ?_
    refine AW.bipush (v := 24) dX3_read_117 (by decide) rfl ?_
    refine AW.icmp_ne (tgt := 129) dX3_read_119 (by decide) rfl (fun _ => ?_) (fun c_ => by first | exact absurd c_ h24 | exact absurd h24 c_ | exact absurd c_ (not_not_intro h24) | exact Bool.noConfusion (c_.symm.trans h24))
    refine AW.aload_n dX3_read_129 rfl rfl ?_
    refine AW.callV (Y := mX3_next) (n := 0) (w1) (by omega) (by decide) rfl (gTk hT) q386 q388 qs1 q142 q389 dX3_read_130 (by decide +kernel) rfl rfl (Nat.le_of_ble_eq_true rfl) rfl ?_
    refine AW.aload_n dX3_read_133 rfl rfl ?_
    refine AW.get ci3 7 (by decide) q311 dX3_read_134 (gTk hT) rfl rfl ?_
    refine AW.sipush (v := 200) dX3_read_137 (by decide) rfl ?_
    refine AW.icmp_ne (tgt := 154) dX3_read_140 (by decide) rfl (fun _ => ?_) (fun c_ => by first | exact absurd c_ (show ¬ (201 : Int32) = 200 by decide) | exact absurd (show ¬ (201 : Int32) = 200 by decide) c_ | exact absurd c_ (not_not_intro (show ¬ (201 : Int32) = 200 by decide)) | exact Bool.noConfusion (c_.symm.trans (show ¬ (201 : Int32) = 200 by decide)))
    refine AW.aload_n dX3_read_154 rfl rfl ?_
    refine AW.get ci3 7 (by decide) q311 dX3_read_155 (gTk hT) rfl rfl ?_
    refine AW.sipush (v := 201) dX3_read_158 (by decide) rfl ?_
    refine AW.icmp_ne (tgt := 175) dX3_read_161 (by decide) rfl (fun c_ => by first | exact absurd c_ (show (201 : Int32) = 201 from rfl) | exact absurd (show (201 : Int32) = 201 from rfl) c_ | exact Bool.noConfusion (c_.symm.trans (show (201 : Int32) = 201 from rfl))) (fun _ => ?_)
    refine AW.aload_n dX3_read_164 rfl rfl ?_
    refine AW.aload_n dX3_read_165 rfl rfl ?_
    exact AW.callVX (Y := mX3_sum) (n := 0) (w9) (by decide) (by decide) rfl (gTk hT) q523 q525 qs5 q142 q526 dX3_read_166 (by decide +kernel) rfl rfl (Nat.le_of_ble_eq_true rfl) q332 rfl
  | inr e =>
    obtain ⟨q1, j⟩ := e
    rw [hx] at q9 e1
    obtain ⟨j1, y, b2, nu3, x2, ⟨F, hF1, hF2⟩, hN3, qe⟩ := q9
    obtain ⟨rfl, rfl⟩ := Prod.mk.inj qe
    have j1' : i + 1 + 1 ≤ j := j1
    have x2n := x2.1
    have x2c : b2.n ≤ s.b.n + (16 * (j - (i + 1)) + 6) := x2.2.1
    have x2u := x2.2.2.1
    have x2v : b2.u ≤ s.b.u + (120 * (j - (i + 1)) + 18) := x2.2.2.2.1
    have x2g := x2.2.2.2.2
    have gX2 : b2.g X = _ := (x2g X r3 (by omega)).trans gX
    have x4 : ExT T lo (b2.n - s.b.n) (b2.u - s.b.u) s.b (b2.set X (.inr (4, [ve, .ref y, vq, .int (nI cls.length), .ref Dl]))) := ⟨by show s.b.n ≤ b2.n; omega, by show b2.n ≤ _; omega, by show s.b.u ≤ b2.u; omega, by show b2.u ≤ _; omega, fun k hk hkT => (set_go (by omega)).trans (x2g k (by omega) hkT)⟩
    have hC4 : TC (s.setb (b2.set X (.inr (4, [ve, .ref y, vq, .int (nI cls.length), .ref Dl])))) T n t := hC.ext x4 (by omega)
    have gX3 : (b2.set X (.inr (4, [ve, .ref y, vq, .int (nI cls.length), .ref Dl]))).g X = some (.inr (4, [ve, .ref y, vq, .int (nI cls.length), .ref Dl])) := set_g
    have e1 : x = (if (tkL t n L0 j).2.2.1 = 59 then .inr ((1, nI C.length, nI (C ++ q1).length, 0), C ++ q1, j + 1) else .inl (1, j)) := e1
    by_cases cf : (tkL t n L0 j).2.2.1 = 59
    · have hs59 : sortS (byteF t n) (tkL t n L0 j) = 59 := (so_c j (c := 59) (v := 59) (by decide) (by decide +kernel) (by decide +kernel)).mpr cf
      rw [if_pos cf] at e1
      obtain ⟨nu4, hN4, w2⟩ := r_X3_want_t hC4 j (L0 := L0) (nu := nu3) (op := nI 0) (kd := 201) 59 hs59
      have hlen : nI cls.length + 1 = nI (cls ++ [((1, nI C.length, nI (C ++ q1).length, 0) : Cl)]).length := by
        rw [nI_succ', List.length_append]
        rfl
      have hdl : dosL (cls ++ [((1, nI C.length, nI (C ++ q1).length, 0) : Cl)]) 0 = dosL cls 0 := by
        rw [dosL_app, if_pos (show (1 : Int32) ≤ 2 by decide), List.append_nil]
      have zf := FnO.at_ hF2
      have d := hA.D_
      have hn3 : s.b.n ≤ (b2.set X (.inr (4, [ve, .ref y, vq, .int (nI cls.length + 1), .ref Dl]))).n := x2n
      have e3 : ∀ k, k < 512 + s.b.n → (k < 512 ∨ lo ≤ k) → k ≠ X → (b2.set X (.inr (4, [ve, .ref y, vq, .int (nI cls.length + 1), .ref Dl]))).g k = s.b.g k := fun k hk hl hX => (set_go hX).trans (x2g k hk (by omega))
      have e32 := e3 2 (by omega) (by omega) (by omega)
      have sl : ∀ {β : Type} {Y : MethodName} {g : β → (Nat → Int32) → Value} {v : Value} {f : Option β}, SlotG Y g s.b lo X Dl E v f → SlotG Y g (b2.set X (.inr (4, [ve, .ref y, vq, .int (nI cls.length + 1), .ref Dl]))) lo X Dl E v f := fun h => h.by_ hn3 (fun k a b c1 _ _ => e3 k a b c1) (Or.inl rfl) (by omega) e32
      have sn : SlotG yzSum (fun F N => .long (F N)) (b2.set X (.inr (4, [ve, .ref y, vq, .int (nI cls.length + 1), .ref Dl]))) lo X Dl E (.ref y) (some F) := ⟨y, (512 + s.b.n), 512 + b2.n, rfl, FnO.ext (FnO.widen hF2 (by omega) (Nat.le_refl _) (Nat.le_refl _) (Nat.le_refl _) (by omega)) (Nat.le_refl _) (fun k hk => set_go (by omega)), by omega, fun z hz => by
        rcases hz with rfl | rfl | rfl
        · exact Or.inl r3
        · exact Or.inl d.2.1
        · exact Or.inl (by omega)⟩
      have hD3 : ∀ k dd, (dosL cls 0)[k]? = some dd → lo ≤ dv k ∧ dv k < 512 + b2.n ∧ (b2.set X (.inr (4, [ve, .ref y, vq, .int (nI cls.length + 1), .ref Dl]))).g (dv k) = some (.inr (15, [.int dd.1, .int dd.2.1, .int dd.2.2.1, .int dd.2.2.2.1, .int dd.2.2.2.2])) := fun k dd hk => by
        obtain ⟨a1, a2, a3⟩ := hD k dd hk
        exact ⟨a1, by omega, (e3 _ a2 (Or.inr a1) (fun q => by
          rw [q, gX] at a3
          have z1 := congrArg Prod.fst (Sum.inr.inj (Option.some.inj a3))
          exact absurd (show (4 : Nat) = 15 from z1) (by decide))).trans a3⟩
      have hA3 : AL (b2.set X (.inr (4, [ve, .ref y, vq, .int (nI cls.length + 1), .ref Dl]))) Dl E (dosL cls 0).length ix (fun k => .ref (dv k)) := hA.by_ hn3 (e3 Dl d.2.1 (Or.inr r4) (Ne.symm r5)) (by
        rcases d.2.2.1 with q | q
        · exact Or.inl q
        · exact Or.inr (e3 E q.2 (by omega) (Ne.symm r6))) (fun j hj => by
        obtain ⟨a1, a2, a3⟩ := hD3 j _ (List.getElem?_eq_getElem hj)
        exact ⟨dv j, 15, _, _, rfl, nfx (by omega), a2, a3, rfl, q2045⟩)
      have hR3 : RdS (b2.set X (.inr (4, [ve, .ref y, vq, .int (nI cls.length + 1), .ref Dl]))) lo X Dl ix (cls ++ [((1, nI C.length, nI (C ++ q1).length, 0) : Cl)]) (C ++ q1) (L.1, some F, L.2.2) := ⟨E, ve, .ref y, vq, dv, ⟨r1, r2, by show X < 512 + b2.n; omega, r4, r5, r6, r7⟩, by rw [← hlen]; exact set_g, by rw [hdl]; exact hA3, by rw [hdl]; exact hD3, ⟨sl s1, sn, sl s3⟩, hl0.app _ q1 (show ¬ (1 : Int32) = 0 by decide), lwOne.new hno hF1, hl2.app _ q1 (show ¬ (1 : Int32) = 2 by decide)⟩
      refine StQ.r e1 (by omega) (b2 := b2.set X (.inr (4, [ve, .ref y, vq, .int (nI cls.length + 1), .ref Dl]))) ⟨x2n, by show b2.n ≤ _; omega, x2u, by show b2.u + _ ≤ _; omega, fun k hk hkT => (set_go (by omega)).trans (x2g k (by omega) hkT)⟩ hR3 hN4 (fun o h' kk => ?_)
      refine AW.aload_n dX3_read_12 rfl rfl ?_
      refine AW.get ci3 4 (by decide) q308 dX3_read_13 (gTk hT) rfl rfl ?_
      refine AW.sipush (v := 301) dX3_read_16 (by decide) rfl ?_
      refine AW.icmp_eq (tgt := 231) dX3_read_19 (by decide) rfl (fun c_ => by first | exact absurd c_ (show ¬ sortS (byteF t n) (tkL t n L0 i) = 301 by rw [hs]; decide) | exact absurd (show ¬ sortS (byteF t n) (tkL t n L0 i) = 301 by rw [hs]; decide) c_ | exact Bool.noConfusion (c_.symm.trans (show ¬ sortS (byteF t n) (tkL t n L0 i) = 301 by rw [hs]; decide))) (fun _ => ?_)
      refine AW.aload_n dX3_read_22 rfl rfl ?_
      refine AW.get ci3 4 (by decide) q308 dX3_read_23 (gTk hT) rfl rfl ?_
      refine AW.sipush (v := 200) dX3_read_26 (by decide) rfl ?_
      refine AW.icmp_lt (tgt := 42) dX3_read_29 (by decide) rfl (fun c_ => by first | exact absurd c_ (show ¬ sortS (byteF t n) (tkL t n L0 i) < 200 by rw [hs]; decide) | exact absurd (show ¬ sortS (byteF t n) (tkL t n L0 i) < 200 by rw [hs]; decide) c_ | exact Bool.noConfusion (c_.symm.trans (show ¬ sortS (byteF t n) (tkL t n L0 i) < 200 by rw [hs]; decide))) (fun _ => ?_)
      refine AW.aload_n dX3_read_32 rfl rfl ?_
      refine AW.get ci3 4 (by decide) q308 dX3_read_33 (gTk hT) rfl rfl ?_
      refine AW.sipush (v := 208) dX3_read_36 (by decide) rfl ?_
      refine AW.icmp_le (tgt := 48) dX3_read_39 (by decide) rfl (fun _ => ?_) (fun c_ => by first | exact absurd c_ (show sortS (byteF t n) (tkL t n L0 i) ≤ 208 by rw [hs]; decide) | exact absurd (show sortS (byteF t n) (tkL t n L0 i) ≤ 208 by rw [hs]; decide) c_ | exact absurd c_ (not_not_intro (show sortS (byteF t n) (tkL t n L0 i) ≤ 208 by rw [hs]; decide)) | exact Bool.noConfusion (c_.symm.trans (show sortS (byteF t n) (tkL t n L0 i) ≤ 208 by rw [hs]; decide)))
      refine AW.aload_n dX3_read_48 rfl rfl ?_
      refine AW.aload_n dX3_read_49 rfl rfl ?_
      refine AW.get ci3 4 (by decide) q308 dX3_read_50 (gTk hT) rfl rfl ?_
      refine AW.put ci3 7 (by decide) q311 dX3_read_53 (by omega) (gTk hT) rfl (fun _ => rfl) (fun _ => rfl) (Nat.le_of_ble_eq_true rfl) ((sTk7 hT).trans (congrArg (fun z => hp (Tk s T n t (tkL t n L0 i) nu (nI 0) z)) hs)) rfl ?_
      refine AW.aload_n dX3_read_56 rfl rfl ?_
      refine AW.get ci3 7 (by decide) q311 dX3_read_57 (gTk hT) rfl rfl ?_
      refine AW.sipush (v := 200) dX3_read_60 (by decide) rfl ?_
      refine AW.icmp_ne (tgt := 73) dX3_read_63 (by decide) rfl (fun _ => ?_) (fun c_ => by first | exact absurd c_ (show ¬ (201 : Int32) = 200 by decide) | exact absurd (show ¬ (201 : Int32) = 200 by decide) c_ | exact absurd c_ (not_not_intro (show ¬ (201 : Int32) = 200 by decide)) | exact Bool.noConfusion (c_.symm.trans (show ¬ (201 : Int32) = 200 by decide)))
      refine AW.aload_n dX3_read_73 rfl rfl ?_
      refine AW.get ci3 7 (by decide) q311 dX3_read_74 (gTk hT) rfl rfl ?_
      refine AW.sipush (v := 201) dX3_read_77 (by decide) rfl ?_
      refine AW.icmp_ne (tgt := 90) dX3_read_80 (by decide) rfl (fun c_ => by first | exact absurd c_ (show (201 : Int32) = 201 from rfl) | exact absurd (show (201 : Int32) = 201 from rfl) c_ | exact Bool.noConfusion (c_.symm.trans (show (201 : Int32) = 201 from rfl))) (fun _ => ?_)
      refine AW.aload_n dX3_read_83 rfl rfl ?_
      refine AW.getN ci4 1 (by decide) q367 dX3_read_84 (by first | exact ((hp_gb (nfx hX6)).trans ((Tk_g hXT).trans gX)) | exact ((hp_gb (nfx hX6)).trans ((Tk_g hXT).trans gX2)) | exact ((hp_gb (nfx hX6)).trans ((Tk_g hXT).trans gX3))) rfl rfl ?_
      refine AW.ifnonnullN dX3_read_87 rfl ?_
      refine AW.aload_n dX3_read_90 rfl rfl ?_
      refine AW.get ci3 7 (by decide) q311 dX3_read_91 (gTk hT) rfl rfl ?_
      refine AW.sipush (v := 202) dX3_read_94 (by decide) rfl ?_
      refine AW.icmp_ne (tgt := 113) dX3_read_97 (by decide) rfl (fun _ => ?_) (fun c_ => by first | exact absurd c_ (show ¬ (201 : Int32) = 202 by decide) | exact absurd (show ¬ (201 : Int32) = 202 by decide) c_ | exact absurd c_ (not_not_intro (show ¬ (201 : Int32) = 202 by decide)) | exact Bool.noConfusion (c_.symm.trans (show ¬ (201 : Int32) = 202 by decide)))
      refine AW.aload_n dX3_read_113 rfl rfl ?_
      refine AW.getN ci4 3 (by decide) q371 dX3_read_114 (by first | exact ((hp_gb (nfx hX6)).trans ((Tk_g hXT).trans gX)) | exact ((hp_gb (nfx hX6)).trans ((Tk_g hXT).trans gX2)) | exact ((hp_gb (nfx hX6)).trans ((Tk_g hXT).trans gX3))) rfl rfl ?_
      refine AW.bipush (v := 24) dX3_read_117 (by decide) rfl ?_
      refine AW.icmp_ne (tgt := 129) dX3_read_119 (by decide) rfl (fun _ => ?_) (fun c_ => by first | exact absurd c_ h24 | exact absurd h24 c_ | exact absurd c_ (not_not_intro h24) | exact Bool.noConfusion (c_.symm.trans h24))
      refine AW.aload_n dX3_read_129 rfl rfl ?_
      refine AW.callV (Y := mX3_next) (n := 0) (w1) (by omega) (by decide) rfl (gTk hT) q386 q388 qs1 q142 q389 dX3_read_130 (by decide +kernel) rfl rfl (Nat.le_of_ble_eq_true rfl) rfl ?_
      refine AW.aload_n dX3_read_133 rfl rfl ?_
      refine AW.get ci3 7 (by decide) q311 dX3_read_134 (gTk hT) rfl rfl ?_
      refine AW.sipush (v := 200) dX3_read_137 (by decide) rfl ?_
      refine AW.icmp_ne (tgt := 154) dX3_read_140 (by decide) rfl (fun _ => ?_) (fun c_ => by first | exact absurd c_ (show ¬ (201 : Int32) = 200 by decide) | exact absurd (show ¬ (201 : Int32) = 200 by decide) c_ | exact absurd c_ (not_not_intro (show ¬ (201 : Int32) = 200 by decide)) | exact Bool.noConfusion (c_.symm.trans (show ¬ (201 : Int32) = 200 by decide)))
      refine AW.aload_n dX3_read_154 rfl rfl ?_
      refine AW.get ci3 7 (by decide) q311 dX3_read_155 (gTk hT) rfl rfl ?_
      refine AW.sipush (v := 201) dX3_read_158 (by decide) rfl ?_
      refine AW.icmp_ne (tgt := 175) dX3_read_161 (by decide) rfl (fun c_ => by first | exact absurd c_ (show (201 : Int32) = 201 from rfl) | exact absurd (show (201 : Int32) = 201 from rfl) c_ | exact Bool.noConfusion (c_.symm.trans (show (201 : Int32) = 201 from rfl))) (fun _ => ?_)
      refine AW.aload_n dX3_read_164 rfl rfl ?_
      refine AW.aload_n dX3_read_165 rfl rfl ?_
      refine AW.callV (Y := mX3_sum) (n := 0) (w9) (by omega) (by decide) rfl (gTk hT) q523 q525 qs5 q142 q526 dX3_read_166 (by decide +kernel) rfl rfl (Nat.le_of_ble_eq_true rfl) rfl ?_
      refine AW.putN ci4 1 (by decide) q367 dX3_read_169 (by omega) (by first | exact ((hp_gb (nfx hX6)).trans ((Tk_g hXT).trans gX)) | exact ((hp_gb (nfx hX6)).trans ((Tk_g hXT).trans gX2)) | exact ((hp_gb (nfx hX6)).trans ((Tk_g hXT).trans gX3))) rfl (fun _ => rfl) (fun _ => rfl) (Nat.le_of_ble_eq_true rfl) ((hp_set6 hX6).trans (tk_cm (s := s.setb b2) (Ne.symm hXT))) rfl ?_
      refine AW.goto (tgt := 212) dX3_read_172 (by decide) ?_
      refine AW.aload_n dX3_read_212 rfl rfl ?_
      refine AW.bipush (v := 59) dX3_read_213 (by decide) rfl ?_
      refine AW.callV (Y := mX3_want) (n := 1) (w2) (by omega) (by decide) rfl (gTk hT) q562 q564 qs11 q142 q565 dX3_read_215 (by decide +kernel) rfl rfl (Nat.le_of_ble_eq_true rfl) rfl ?_
      refine AW.aload_n dX3_read_218 rfl rfl ?_
      refine AW.dup dX3_read_219 rfl rfl ?_
      refine AW.getN ci4 3 (by decide) q371 dX3_read_220 (by first | exact ((hp_gb (nfx hX6)).trans ((Tk_g hXT).trans gX)) | exact ((hp_gb (nfx hX6)).trans ((Tk_g hXT).trans gX2)) | exact ((hp_gb (nfx hX6)).trans ((Tk_g hXT).trans gX3))) rfl rfl ?_
      refine AW.iconst (v := 1) dX3_read_223 (by decide) rfl ?_
      refine AW.iadd dX3_read_224 rfl ?_
      refine AW.putN ci4 3 (by decide) q371 dX3_read_225 (by omega) (by first | exact ((hp_gb (nfx hX6)).trans ((Tk_g hXT).trans gX)) | exact ((hp_gb (nfx hX6)).trans ((Tk_g hXT).trans gX2)) | exact ((hp_gb (nfx hX6)).trans ((Tk_g hXT).trans gX3))) rfl (fun _ => rfl) (fun _ => rfl) (Nat.le_of_ble_eq_true rfl) (((hp_set6 hX6).trans (tk_cm (s := s.setb (b2.set X (.inr (4, [ve, .ref y, vq, .int (nI cls.length), .ref Dl])))) (Ne.symm hXT))).trans (congrArg (fun z => (hp (Tk (s.setb z) T n t (tkL t n L0 (j + 1)) nu4 (nI 0) 201))) set_set)) rfl ?_
      refine AW.goto (tgt := 12) dX3_read_228 (by decide) ?_
      exact kk
    · have hs59 : ¬ sortS (byteF t n) (tkL t n L0 j) = 59 := fun q => cf ((so_c j (c := 59) (v := 59) (by decide) (by decide +kernel) (by decide +kernel)).mp q)
      rw [if_neg cf] at e1
      have w2 := r_X3_want_f (s := s.setb (b2.set X (.inr (4, [ve, .ref y, vq, .int (nI cls.length), .ref Dl])))) (n := n) (at_ := (tkL t n L0 j).1) (tk := (tkL t n L0 j).2.1) (nu := nu3) (op := nI 0) (kd := 201) hT (by show T < 512 + b2.n; omega) (by show 128 ≤ b2.n; omega) 59 hs59
      have q7 : EQ T n t L0 201 (512 + b2.n) 0 0 (s.setb (b2.set X (.inr (4, [ve, .ref y, vq, .int (nI cls.length), .ref Dl])))) j 1 j _ := EQ.wr (s := s.setb (b2.set X (.inr (4, [ve, .ref y, vq, .int (nI cls.length), .ref Dl])))) (L0 := L0) (nu := nu3) (op := nI 0) (Nat.le_refl _) 1
      have q8 : EQ T n t L0 201 lo 0 1000 s i 1 j _ := EQ.up q7 x4 (by omega) (by omega) (by omega) (by omega)
      refine StQ.l e1 q8 ?_
      refine AW.aload_n dX3_read_12 rfl rfl ?_
      refine AW.get ci3 4 (by decide) q308 dX3_read_13 (gTk hT) rfl rfl ?_
      refine AW.sipush (v := 301) dX3_read_16 (by decide) rfl ?_
      refine AW.icmp_eq (tgt := 231) dX3_read_19 (by decide) rfl (fun c_ => by first | exact absurd c_ (show ¬ sortS (byteF t n) (tkL t n L0 i) = 301 by rw [hs]; decide) | exact absurd (show ¬ sortS (byteF t n) (tkL t n L0 i) = 301 by rw [hs]; decide) c_ | exact Bool.noConfusion (c_.symm.trans (show ¬ sortS (byteF t n) (tkL t n L0 i) = 301 by rw [hs]; decide))) (fun _ => ?_)
      refine AW.aload_n dX3_read_22 rfl rfl ?_
      refine AW.get ci3 4 (by decide) q308 dX3_read_23 (gTk hT) rfl rfl ?_
      refine AW.sipush (v := 200) dX3_read_26 (by decide) rfl ?_
      refine AW.icmp_lt (tgt := 42) dX3_read_29 (by decide) rfl (fun c_ => by first | exact absurd c_ (show ¬ sortS (byteF t n) (tkL t n L0 i) < 200 by rw [hs]; decide) | exact absurd (show ¬ sortS (byteF t n) (tkL t n L0 i) < 200 by rw [hs]; decide) c_ | exact Bool.noConfusion (c_.symm.trans (show ¬ sortS (byteF t n) (tkL t n L0 i) < 200 by rw [hs]; decide))) (fun _ => ?_)
      refine AW.aload_n dX3_read_32 rfl rfl ?_
      refine AW.get ci3 4 (by decide) q308 dX3_read_33 (gTk hT) rfl rfl ?_
      refine AW.sipush (v := 208) dX3_read_36 (by decide) rfl ?_
      refine AW.icmp_le (tgt := 48) dX3_read_39 (by decide) rfl (fun _ => ?_) (fun c_ => by first | exact absurd c_ (show sortS (byteF t n) (tkL t n L0 i) ≤ 208 by rw [hs]; decide) | exact absurd (show sortS (byteF t n) (tkL t n L0 i) ≤ 208 by rw [hs]; decide) c_ | exact absurd c_ (not_not_intro (show sortS (byteF t n) (tkL t n L0 i) ≤ 208 by rw [hs]; decide)) | exact Bool.noConfusion (c_.symm.trans (show sortS (byteF t n) (tkL t n L0 i) ≤ 208 by rw [hs]; decide)))
      refine AW.aload_n dX3_read_48 rfl rfl ?_
      refine AW.aload_n dX3_read_49 rfl rfl ?_
      refine AW.get ci3 4 (by decide) q308 dX3_read_50 (gTk hT) rfl rfl ?_
      refine AW.put ci3 7 (by decide) q311 dX3_read_53 (by omega) (gTk hT) rfl (fun _ => rfl) (fun _ => rfl) (Nat.le_of_ble_eq_true rfl) ((sTk7 hT).trans (congrArg (fun z => hp (Tk s T n t (tkL t n L0 i) nu (nI 0) z)) hs)) rfl ?_
      refine AW.aload_n dX3_read_56 rfl rfl ?_
      refine AW.get ci3 7 (by decide) q311 dX3_read_57 (gTk hT) rfl rfl ?_
      refine AW.sipush (v := 200) dX3_read_60 (by decide) rfl ?_
      refine AW.icmp_ne (tgt := 73) dX3_read_63 (by decide) rfl (fun _ => ?_) (fun c_ => by first | exact absurd c_ (show ¬ (201 : Int32) = 200 by decide) | exact absurd (show ¬ (201 : Int32) = 200 by decide) c_ | exact absurd c_ (not_not_intro (show ¬ (201 : Int32) = 200 by decide)) | exact Bool.noConfusion (c_.symm.trans (show ¬ (201 : Int32) = 200 by decide)))
      refine AW.aload_n dX3_read_73 rfl rfl ?_
      refine AW.get ci3 7 (by decide) q311 dX3_read_74 (gTk hT) rfl rfl ?_
      refine AW.sipush (v := 201) dX3_read_77 (by decide) rfl ?_
      refine AW.icmp_ne (tgt := 90) dX3_read_80 (by decide) rfl (fun c_ => by first | exact absurd c_ (show (201 : Int32) = 201 from rfl) | exact absurd (show (201 : Int32) = 201 from rfl) c_ | exact Bool.noConfusion (c_.symm.trans (show (201 : Int32) = 201 from rfl))) (fun _ => ?_)
      refine AW.aload_n dX3_read_83 rfl rfl ?_
      refine AW.getN ci4 1 (by decide) q367 dX3_read_84 (by first | exact ((hp_gb (nfx hX6)).trans ((Tk_g hXT).trans gX)) | exact ((hp_gb (nfx hX6)).trans ((Tk_g hXT).trans gX2)) | exact ((hp_gb (nfx hX6)).trans ((Tk_g hXT).trans gX3))) rfl rfl ?_
      refine AW.ifnonnullN dX3_read_87 rfl ?_
      refine AW.aload_n dX3_read_90 rfl rfl ?_
      refine AW.get ci3 7 (by decide) q311 dX3_read_91 (gTk hT) rfl rfl ?_
      refine AW.sipush (v := 202) dX3_read_94 (by decide) rfl ?_
      refine AW.icmp_ne (tgt := 113) dX3_read_97 (by decide) rfl (fun _ => ?_) (fun c_ => by first | exact absurd c_ (show ¬ (201 : Int32) = 202 by decide) | exact absurd (show ¬ (201 : Int32) = 202 by decide) c_ | exact absurd c_ (not_not_intro (show ¬ (201 : Int32) = 202 by decide)) | exact Bool.noConfusion (c_.symm.trans (show ¬ (201 : Int32) = 202 by decide)))
      refine AW.aload_n dX3_read_113 rfl rfl ?_
      refine AW.getN ci4 3 (by decide) q371 dX3_read_114 (by first | exact ((hp_gb (nfx hX6)).trans ((Tk_g hXT).trans gX)) | exact ((hp_gb (nfx hX6)).trans ((Tk_g hXT).trans gX2)) | exact ((hp_gb (nfx hX6)).trans ((Tk_g hXT).trans gX3))) rfl rfl ?_
      refine AW.bipush (v := 24) dX3_read_117 (by decide) rfl ?_
      refine AW.icmp_ne (tgt := 129) dX3_read_119 (by decide) rfl (fun _ => ?_) (fun c_ => by first | exact absurd c_ h24 | exact absurd h24 c_ | exact absurd c_ (not_not_intro h24) | exact Bool.noConfusion (c_.symm.trans h24))
      refine AW.aload_n dX3_read_129 rfl rfl ?_
      refine AW.callV (Y := mX3_next) (n := 0) (w1) (by omega) (by decide) rfl (gTk hT) q386 q388 qs1 q142 q389 dX3_read_130 (by decide +kernel) rfl rfl (Nat.le_of_ble_eq_true rfl) rfl ?_
      refine AW.aload_n dX3_read_133 rfl rfl ?_
      refine AW.get ci3 7 (by decide) q311 dX3_read_134 (gTk hT) rfl rfl ?_
      refine AW.sipush (v := 200) dX3_read_137 (by decide) rfl ?_
      refine AW.icmp_ne (tgt := 154) dX3_read_140 (by decide) rfl (fun _ => ?_) (fun c_ => by first | exact absurd c_ (show ¬ (201 : Int32) = 200 by decide) | exact absurd (show ¬ (201 : Int32) = 200 by decide) c_ | exact absurd c_ (not_not_intro (show ¬ (201 : Int32) = 200 by decide)) | exact Bool.noConfusion (c_.symm.trans (show ¬ (201 : Int32) = 200 by decide)))
      refine AW.aload_n dX3_read_154 rfl rfl ?_
      refine AW.get ci3 7 (by decide) q311 dX3_read_155 (gTk hT) rfl rfl ?_
      refine AW.sipush (v := 201) dX3_read_158 (by decide) rfl ?_
      refine AW.icmp_ne (tgt := 175) dX3_read_161 (by decide) rfl (fun c_ => by first | exact absurd c_ (show (201 : Int32) = 201 from rfl) | exact absurd (show (201 : Int32) = 201 from rfl) c_ | exact Bool.noConfusion (c_.symm.trans (show (201 : Int32) = 201 from rfl))) (fun _ => ?_)
      refine AW.aload_n dX3_read_164 rfl rfl ?_
      refine AW.aload_n dX3_read_165 rfl rfl ?_
      refine AW.callV (Y := mX3_sum) (n := 0) (w9) (by omega) (by decide) rfl (gTk hT) q523 q525 qs5 q142 q526 dX3_read_166 (by decide +kernel) rfl rfl (Nat.le_of_ble_eq_true rfl) rfl ?_
      refine AW.putN ci4 1 (by decide) q367 dX3_read_169 (by omega) (by first | exact ((hp_gb (nfx hX6)).trans ((Tk_g hXT).trans gX)) | exact ((hp_gb (nfx hX6)).trans ((Tk_g hXT).trans gX2)) | exact ((hp_gb (nfx hX6)).trans ((Tk_g hXT).trans gX3))) rfl (fun _ => rfl) (fun _ => rfl) (Nat.le_of_ble_eq_true rfl) ((hp_set6 hX6).trans (tk_cm (s := s.setb b2) (Ne.symm hXT))) rfl ?_
      refine AW.goto (tgt := 212) dX3_read_172 (by decide) ?_
      refine AW.aload_n dX3_read_212 rfl rfl ?_
      refine AW.bipush (v := 59) dX3_read_213 (by decide) rfl ?_
      exact AW.callVX (Y := mX3_want) (n := 1) (w2) (by decide) (by decide) rfl (gTk hT) q562 q564 qs11 q142 q565 dX3_read_215 (by decide +kernel) rfl rfl (Nat.le_of_ble_eq_true rfl) q332 rfl
theorem rc_2 {T n : Nat} {t : Nat → Int32} {L0 : Lq} {lo X Dl ix : Nat} {s : Sg} {i : Nat} {kd nu : Int32} {cls : List Cl} {C : Cd} {L : Lw} {x : CR} (hC : TC s T n t) (hTlo : T < lo) (hR : RdS s.b lo X Dl ix cls C L) (hs : sortS (byteF t n) (tkL t n L0 i) = 202) (hno : hasS cls 2 = false) (h24_ : cls.length < 24) (e0 : x = semi (tkL t n L0) (clB (byteF t n) (tkL t n L0) 2 C (i + 1))) (hz : ∀ j, ¬ x = .inl (0, j)) : StQ T n t L0 lo X Dl ix s i kd 202 nu cls x := by
  have hT := hC.1
  have hTb := hC.2.1
  have h300 := hC.2.2.2.1
  have hB := hC.2.2.2.2
  have hb := hB.1
  have h24 := nI_24 h24_
  have hR0 := hR
  obtain ⟨E, ve, vl, vq, dv, ⟨r1, r2, r3, r4, r5, r6, r7⟩, gX, hA, hD, ⟨s1, s2, s3⟩, hl0, hl1, hl2⟩ := hR
  have hX6 : 640 ≤ X := by omega
  have hXT : X ≠ T := by omega
  have hnone := hl2.no.1 hno
  have hv : vq = .null := by
    have := s3
    rw [hnone] at this
    exact this
  subst hv
  obtain ⟨nu2, hN2, w1⟩ := tk_next hC L0 i (nu := nu) (op := nI 0) (kd := 202)
  have el : lawR (byteF t n) (tkL t n L0) 2 (i + 1) = RF n t L0 202 FU 8 [] (i + 1) 0 := by
    unfold lawR
    rw [show decide ((2 : Int32) = 2) = decide ((202 : Int32) = 202) from by decide]
    rfl
  have e1 : x = semi (tkL t n L0) (match RF n t L0 202 FU 8 [] (i + 1) 0 with
      | .inl e => .inl e
      | .inr q => .inr ((2, nI C.length, nI (C ++ q.1).length, 0), C ++ q.1, q.2)) := by
    rw [e0, ← el]
    unfold clB
    rw [if_pos (by decide)]
    rfl
  have hz1 : nz (RF n t L0 202 FU 8 [] (i + 1) 0) := fun j hj => by
    rw [hj] at e1
    exact hz j e1
  obtain ⟨⟨o9, h9⟩, q9, w9⟩ := (descend (T := T) (n := n) (t := t) (L0 := L0) (kd := 202) FU).2.2.2.1 s (i + 1) 0 nu2 hC (by omega) hN2 hz1
  cases hx : RF n t L0 202 FU 8 [] (i + 1) 0 with
  | inl e =>
    rw [hx] at q9 e1
    obtain ⟨r, j⟩ := e
    have q8 : EQ T n t L0 202 lo 0 1000 s i r j (o9, h9) := EQ.up (b1 := s.b) (show EQ T n t L0 202 (512 + s.b.n) 12 108 (s.setb s.b) (i + 1) r j (o9, h9) from q9) (ExT.refl T lo s.b) (by omega) (by omega) (by omega) (by omega)
    obtain ⟨-, q, b2, nu3, op3, -, -, qe⟩ := id q8
    obtain ⟨rfl, rfl⟩ := Prod.mk.inj qe
    refine StQ.l e1 q8 ?_
    refine AW.aload_n dX3_read_12 rfl rfl ?_
    refine AW.get ci3 4 (by decide) q308 dX3_read_13 (gTk hT) rfl rfl ?_
    refine AW.sipush (v := 301) dX3_read_16 (by decide) rfl ?_
    refine AW.icmp_eq (tgt := 231) dX3_read_19 (by decide) rfl (fun c_ => by first | exact absurd c_ (show ¬ sortS (byteF t n) (tkL t n L0 i) = 301 by rw [hs]; decide) | exact absurd (show ¬ sortS (byteF t n) (tkL t n L0 i) = 301 by rw [hs]; decide) c_ | exact Bool.noConfusion (c_.symm.trans (show ¬ sortS (byteF t n) (tkL t n L0 i) = 301 by rw [hs]; decide))) (fun _ => ?_)
    refine AW.aload_n dX3_read_22 rfl rfl ?_
    refine AW.get ci3 4 (by decide) q308 dX3_read_23 (gTk hT) rfl rfl ?_
    refine AW.sipush (v := 200) dX3_read_26 (by decide) rfl ?_
    refine AW.icmp_lt (tgt := 42) dX3_read_29 (by decide) rfl (fun c_ => by first | exact absurd c_ (show ¬ sortS (byteF t n) (tkL t n L0 i) < 200 by rw [hs]; decide) | exact absurd (show ¬ sortS (byteF t n) (tkL t n L0 i) < 200 by rw [hs]; decide) c_ | exact Bool.noConfusion (c_.symm.trans (show ¬ sortS (byteF t n) (tkL t n L0 i) < 200 by rw [hs]; decide))) (fun _ => ?_)
    refine AW.aload_n dX3_read_32 rfl rfl ?_
    refine AW.get ci3 4 (by decide) q308 dX3_read_33 (gTk hT) rfl rfl ?_
    refine AW.sipush (v := 208) dX3_read_36 (by decide) rfl ?_
    refine AW.icmp_le (tgt := 48) dX3_read_39 (by decide) rfl (fun _ => ?_) (fun c_ => by first | exact absurd c_ (show sortS (byteF t n) (tkL t n L0 i) ≤ 208 by rw [hs]; decide) | exact absurd (show sortS (byteF t n) (tkL t n L0 i) ≤ 208 by rw [hs]; decide) c_ | exact absurd c_ (not_not_intro (show sortS (byteF t n) (tkL t n L0 i) ≤ 208 by rw [hs]; decide)) | exact Bool.noConfusion (c_.symm.trans (show sortS (byteF t n) (tkL t n L0 i) ≤ 208 by rw [hs]; decide)))
    refine AW.aload_n dX3_read_48 rfl rfl ?_
    refine AW.aload_n dX3_read_49 rfl rfl ?_
    refine AW.get ci3 4 (by decide) q308 dX3_read_50 (gTk hT) rfl rfl ?_
    refine AW.put ci3 7 (by decide) q311 dX3_read_53 (by omega) (gTk hT) rfl (fun _ => rfl) (fun _ => rfl) (Nat.le_of_ble_eq_true rfl) ((sTk7 hT).trans (congrArg (fun z => hp (Tk s T n t (tkL t n L0 i) nu (nI 0) z)) hs)) rfl ?_
    refine AW.aload_n dX3_read_56 rfl rfl ?_
    refine AW.get ci3 7 (by decide) q311 dX3_read_57 (gTk hT) rfl rfl ?_
    refine AW.sipush (v := 200) dX3_read_60 (by decide) rfl ?_
    refine AW.icmp_ne (tgt := 73) dX3_read_63 (by decide) rfl (fun _ => ?_) (fun c_ => by first | exact absurd c_ (show ¬ (202 : Int32) = 200 by decide) | exact absurd (show ¬ (202 : Int32) = 200 by decide) c_ | exact absurd c_ (not_not_intro (show ¬ (202 : Int32) = 200 by decide)) | exact Bool.noConfusion (c_.symm.trans (show ¬ (202 : Int32) = 200 by decide)))
    refine AW.aload_n dX3_read_73 rfl rfl ?_
    refine AW.get ci3 7 (by decide) q311 dX3_read_74 (gTk hT) rfl rfl ?_
    refine AW.sipush (v := 201) dX3_read_77 (by decide) rfl ?_
    refine AW.icmp_ne (tgt := 90) dX3_read_80 (by decide) rfl (fun _ => ?_) (fun c_ => by first | exact absurd c_ (show ¬ (202 : Int32) = 201 by decide) | exact absurd (show ¬ (202 : Int32) = 201 by decide) c_ | exact absurd c_ (not_not_intro (show ¬ (202 : Int32) = 201 by decide)) | exact Bool.noConfusion (c_.symm.trans (show ¬ (202 : Int32) = 201 by decide)))
    refine AW.aload_n dX3_read_90 rfl rfl ?_
    refine AW.get ci3 7 (by decide) q311 dX3_read_91 (gTk hT) rfl rfl ?_
    refine AW.sipush (v := 202) dX3_read_94 (by decide) rfl ?_
    refine AW.icmp_ne (tgt := 113) dX3_read_97 (by decide) rfl (fun c_ => by first | exact absurd c_ (show (202 : Int32) = 202 from rfl) | exact absurd (show (202 : Int32) = 202 from rfl) c_ | exact Bool.noConfusion (c_.symm.trans (show (202 : Int32) = 202 from rfl))) (fun _ => ?_)
    refine AW.aload_n dX3_read_100 rfl rfl ?_
    refine AW.getN ci4 2 (by decide) q369 dX3_read_101 (by first | exact ((hp_gb (nfx hX6)).trans ((Tk_g hXT).trans gX)) | exact ((hp_gb (nfx hX6)).trans ((Tk_g hXT).trans gX2)) | exact ((hp_gb (nfx hX6)).trans ((Tk_g hXT).trans gX3))) rfl rfl ?_
    refine AW.ifnullN (tgt := 113) dX3_read_104 (by decide) ?_
    refine AW.aload_n dX3_read_113 rfl rfl ?_
    refine AW.getN ci4 3 (by decide) q371 dX3_read_114 (by first | exact ((hp_gb (nfx hX6)).trans ((Tk_g hXT).trans gX)) | exact ((hp_gb (nfx hX6)).trans ((Tk_g hXT).trans gX2)) | exact ((hp_gb (nfx hX6)).trans ((Tk_g hXT).trans gX3))) rfl rfl ?_
    refine AW.bipush (v := 24) dX3_read_117 (by decide) rfl ?_
    refine AW.icmp_ne (tgt := 129) dX3_read_119 (by decide) rfl (fun _ => ?_) (fun c_ => by first | exact absurd c_ h24 | exact absurd h24 c_ | exact absurd c_ (not_not_intro h24) | exact Bool.noConfusion (c_.symm.trans h24))
    refine AW.aload_n dX3_read_129 rfl rfl ?_
    refine AW.callV (Y := mX3_next) (n := 0) (w1) (by omega) (by decide) rfl (gTk hT) q386 q388 qs1 q142 q389 dX3_read_130 (by decide +kernel) rfl rfl (Nat.le_of_ble_eq_true rfl) rfl ?_
    refine AW.aload_n dX3_read_133 rfl rfl ?_
    refine AW.get ci3 7 (by decide) q311 dX3_read_134 (gTk hT) rfl rfl ?_
    refine AW.sipush (v := 200) dX3_read_137 (by decide) rfl ?_
    refine AW.icmp_ne (tgt := 154) dX3_read_140 (by decide) rfl (fun _ => ?_) (fun c_ => by first | exact absurd c_ (show ¬ (202 : Int32) = 200 by decide) | exact absurd (show ¬ (202 : Int32) = 200 by decide) c_ | exact absurd c_ (not_not_intro (show ¬ (202 : Int32) = 200 by decide)) | exact Bool.noConfusion (c_.symm.trans (show ¬ (202 : Int32) = 200 by decide)))
    refine AW.aload_n dX3_read_154 rfl rfl ?_
    refine AW.get ci3 7 (by decide) q311 dX3_read_155 (gTk hT) rfl rfl ?_
    refine AW.sipush (v := 201) dX3_read_158 (by decide) rfl ?_
    refine AW.icmp_ne (tgt := 175) dX3_read_161 (by decide) rfl (fun _ => ?_) (fun c_ => by first | exact absurd c_ (show ¬ (202 : Int32) = 201 by decide) | exact absurd (show ¬ (202 : Int32) = 201 by decide) c_ | exact absurd c_ (not_not_intro (show ¬ (202 : Int32) = 201 by decide)) | exact Bool.noConfusion (c_.symm.trans (show ¬ (202 : Int32) = 201 by decide)))
    refine AW.aload_n dX3_read_175 rfl rfl ?_
    refine AW.get ci3 7 (by decide) q311 dX3_read_176 (gTk hT) rfl rfl ?_
    refine AW.sipush (v := 202) dX3_read_179 (by decide) rfl ?_
    refine AW.icmp_ne (tgt := 196) dX3_read_182 (by decide) rfl (fun c_ => by first | exact absurd c_ (show (202 : Int32) = 202 from rfl) | exact absurd (show (202 : Int32) = 202 from rfl) c_ | exact Bool.noConfusion (c_.symm.trans (show (202 : Int32) = 202 from rfl))) (fun _ => ?_)
    refine AW.aload_n dX3_read_185 rfl rfl ?_
    refine AW.aload_n dX3_read_186 rfl rfl ?_
    exact AW.callVX (Y := mX3_either) (n := 0) (w9) (by decide) (by decide) rfl (gTk hT) q716 q718 qs17 q142 q719 dX3_read_187 (by decide +kernel) rfl rfl (Nat.le_of_ble_eq_true rfl) q332 rfl
  | inr e =>
    obtain ⟨q1, j⟩ := e
    rw [hx] at q9 e1
    obtain ⟨j1, y, b2, nu3, x2, ⟨F, hF1, hF2⟩, hN3, qe⟩ := q9
    obtain ⟨rfl, rfl⟩ := Prod.mk.inj qe
    have j1' : i + 1 + 1 ≤ j := j1
    have x2n := x2.1
    have x2c : b2.n ≤ s.b.n + (16 * (j - (i + 1)) + 12) := x2.2.1
    have x2u := x2.2.2.1
    have x2v : b2.u ≤ s.b.u + (120 * (j - (i + 1)) + 108) := x2.2.2.2.1
    have x2g := x2.2.2.2.2
    have gX2 : b2.g X = _ := (x2g X r3 (by omega)).trans gX
    have x4 : ExT T lo (b2.n - s.b.n) (b2.u - s.b.u) s.b (b2.set X (.inr (4, [ve, vl, .ref y, .int (nI cls.length), .ref Dl]))) := ⟨by show s.b.n ≤ b2.n; omega, by show b2.n ≤ _; omega, by show s.b.u ≤ b2.u; omega, by show b2.u ≤ _; omega, fun k hk hkT => (set_go (by omega)).trans (x2g k (by omega) hkT)⟩
    have hC4 : TC (s.setb (b2.set X (.inr (4, [ve, vl, .ref y, .int (nI cls.length), .ref Dl])))) T n t := hC.ext x4 (by omega)
    have gX3 : (b2.set X (.inr (4, [ve, vl, .ref y, .int (nI cls.length), .ref Dl]))).g X = some (.inr (4, [ve, vl, .ref y, .int (nI cls.length), .ref Dl])) := set_g
    have e1 : x = (if (tkL t n L0 j).2.2.1 = 59 then .inr ((2, nI C.length, nI (C ++ q1).length, 0), C ++ q1, j + 1) else .inl (1, j)) := e1
    by_cases cf : (tkL t n L0 j).2.2.1 = 59
    · have hs59 : sortS (byteF t n) (tkL t n L0 j) = 59 := (so_c j (c := 59) (v := 59) (by decide) (by decide +kernel) (by decide +kernel)).mpr cf
      rw [if_pos cf] at e1
      obtain ⟨nu4, hN4, w2⟩ := r_X3_want_t hC4 j (L0 := L0) (nu := nu3) (op := nI 0) (kd := 202) 59 hs59
      have hlen : nI cls.length + 1 = nI (cls ++ [((2, nI C.length, nI (C ++ q1).length, 0) : Cl)]).length := by
        rw [nI_succ', List.length_append]
        rfl
      have hdl : dosL (cls ++ [((2, nI C.length, nI (C ++ q1).length, 0) : Cl)]) 0 = dosL cls 0 := by
        rw [dosL_app, if_pos (show (2 : Int32) ≤ 2 by decide), List.append_nil]
      have zf := FnO.at_ hF2
      have d := hA.D_
      have hn3 : s.b.n ≤ (b2.set X (.inr (4, [ve, vl, .ref y, .int (nI cls.length + 1), .ref Dl]))).n := x2n
      have e3 : ∀ k, k < 512 + s.b.n → (k < 512 ∨ lo ≤ k) → k ≠ X → (b2.set X (.inr (4, [ve, vl, .ref y, .int (nI cls.length + 1), .ref Dl]))).g k = s.b.g k := fun k hk hl hX => (set_go hX).trans (x2g k hk (by omega))
      have e32 := e3 2 (by omega) (by omega) (by omega)
      have sl : ∀ {β : Type} {Y : MethodName} {g : β → (Nat → Int32) → Value} {v : Value} {f : Option β}, SlotG Y g s.b lo X Dl E v f → SlotG Y g (b2.set X (.inr (4, [ve, vl, .ref y, .int (nI cls.length + 1), .ref Dl]))) lo X Dl E v f := fun h => h.by_ hn3 (fun k a b c1 _ _ => e3 k a b c1) (Or.inl rfl) (by omega) e32
      have sn : SlotG yzAsk (fun F N => .int (b2i (F N))) (b2.set X (.inr (4, [ve, vl, .ref y, .int (nI cls.length + 1), .ref Dl]))) lo X Dl E (.ref y) (some F) := ⟨y, (512 + s.b.n), 512 + b2.n, rfl, FnO.ext (FnO.widen hF2 (by omega) (Nat.le_refl _) (Nat.le_refl _) (Nat.le_refl _) (by omega)) (Nat.le_refl _) (fun k hk => set_go (by omega)), by omega, fun z hz => by
        rcases hz with rfl | rfl | rfl
        · exact Or.inl r3
        · exact Or.inl d.2.1
        · exact Or.inl (by omega)⟩
      have hD3 : ∀ k dd, (dosL cls 0)[k]? = some dd → lo ≤ dv k ∧ dv k < 512 + b2.n ∧ (b2.set X (.inr (4, [ve, vl, .ref y, .int (nI cls.length + 1), .ref Dl]))).g (dv k) = some (.inr (15, [.int dd.1, .int dd.2.1, .int dd.2.2.1, .int dd.2.2.2.1, .int dd.2.2.2.2])) := fun k dd hk => by
        obtain ⟨a1, a2, a3⟩ := hD k dd hk
        exact ⟨a1, by omega, (e3 _ a2 (Or.inr a1) (fun q => by
          rw [q, gX] at a3
          have z1 := congrArg Prod.fst (Sum.inr.inj (Option.some.inj a3))
          exact absurd (show (4 : Nat) = 15 from z1) (by decide))).trans a3⟩
      have hA3 : AL (b2.set X (.inr (4, [ve, vl, .ref y, .int (nI cls.length + 1), .ref Dl]))) Dl E (dosL cls 0).length ix (fun k => .ref (dv k)) := hA.by_ hn3 (e3 Dl d.2.1 (Or.inr r4) (Ne.symm r5)) (by
        rcases d.2.2.1 with q | q
        · exact Or.inl q
        · exact Or.inr (e3 E q.2 (by omega) (Ne.symm r6))) (fun j hj => by
        obtain ⟨a1, a2, a3⟩ := hD3 j _ (List.getElem?_eq_getElem hj)
        exact ⟨dv j, 15, _, _, rfl, nfx (by omega), a2, a3, rfl, q2045⟩)
      have hR3 : RdS (b2.set X (.inr (4, [ve, vl, .ref y, .int (nI cls.length + 1), .ref Dl]))) lo X Dl ix (cls ++ [((2, nI C.length, nI (C ++ q1).length, 0) : Cl)]) (C ++ q1) (L.1, L.2.1, some F) := ⟨E, ve, vl, .ref y, dv, ⟨r1, r2, by show X < 512 + b2.n; omega, r4, r5, r6, r7⟩, by rw [← hlen]; exact set_g, by rw [hdl]; exact hA3, by rw [hdl]; exact hD3, ⟨sl s1, sl s2, sn⟩, hl0.app _ q1 (show ¬ (2 : Int32) = 0 by decide), hl1.app _ q1 (show ¬ (2 : Int32) = 1 by decide), lwOne.new hno hF1⟩
      refine StQ.r e1 (by omega) (b2 := b2.set X (.inr (4, [ve, vl, .ref y, .int (nI cls.length + 1), .ref Dl]))) ⟨x2n, by show b2.n ≤ _; omega, x2u, by show b2.u + _ ≤ _; omega, fun k hk hkT => (set_go (by omega)).trans (x2g k (by omega) hkT)⟩ hR3 hN4 (fun o h' kk => ?_)
      refine AW.aload_n dX3_read_12 rfl rfl ?_
      refine AW.get ci3 4 (by decide) q308 dX3_read_13 (gTk hT) rfl rfl ?_
      refine AW.sipush (v := 301) dX3_read_16 (by decide) rfl ?_
      refine AW.icmp_eq (tgt := 231) dX3_read_19 (by decide) rfl (fun c_ => by first | exact absurd c_ (show ¬ sortS (byteF t n) (tkL t n L0 i) = 301 by rw [hs]; decide) | exact absurd (show ¬ sortS (byteF t n) (tkL t n L0 i) = 301 by rw [hs]; decide) c_ | exact Bool.noConfusion (c_.symm.trans (show ¬ sortS (byteF t n) (tkL t n L0 i) = 301 by rw [hs]; decide))) (fun _ => ?_)
      refine AW.aload_n dX3_read_22 rfl rfl ?_
      refine AW.get ci3 4 (by decide) q308 dX3_read_23 (gTk hT) rfl rfl ?_
      refine AW.sipush (v := 200) dX3_read_26 (by decide) rfl ?_
      refine AW.icmp_lt (tgt := 42) dX3_read_29 (by decide) rfl (fun c_ => by first | exact absurd c_ (show ¬ sortS (byteF t n) (tkL t n L0 i) < 200 by rw [hs]; decide) | exact absurd (show ¬ sortS (byteF t n) (tkL t n L0 i) < 200 by rw [hs]; decide) c_ | exact Bool.noConfusion (c_.symm.trans (show ¬ sortS (byteF t n) (tkL t n L0 i) < 200 by rw [hs]; decide))) (fun _ => ?_)
      refine AW.aload_n dX3_read_32 rfl rfl ?_
      refine AW.get ci3 4 (by decide) q308 dX3_read_33 (gTk hT) rfl rfl ?_
      refine AW.sipush (v := 208) dX3_read_36 (by decide) rfl ?_
      refine AW.icmp_le (tgt := 48) dX3_read_39 (by decide) rfl (fun _ => ?_) (fun c_ => by first | exact absurd c_ (show sortS (byteF t n) (tkL t n L0 i) ≤ 208 by rw [hs]; decide) | exact absurd (show sortS (byteF t n) (tkL t n L0 i) ≤ 208 by rw [hs]; decide) c_ | exact absurd c_ (not_not_intro (show sortS (byteF t n) (tkL t n L0 i) ≤ 208 by rw [hs]; decide)) | exact Bool.noConfusion (c_.symm.trans (show sortS (byteF t n) (tkL t n L0 i) ≤ 208 by rw [hs]; decide)))
      refine AW.aload_n dX3_read_48 rfl rfl ?_
      refine AW.aload_n dX3_read_49 rfl rfl ?_
      refine AW.get ci3 4 (by decide) q308 dX3_read_50 (gTk hT) rfl rfl ?_
      refine AW.put ci3 7 (by decide) q311 dX3_read_53 (by omega) (gTk hT) rfl (fun _ => rfl) (fun _ => rfl) (Nat.le_of_ble_eq_true rfl) ((sTk7 hT).trans (congrArg (fun z => hp (Tk s T n t (tkL t n L0 i) nu (nI 0) z)) hs)) rfl ?_
      refine AW.aload_n dX3_read_56 rfl rfl ?_
      refine AW.get ci3 7 (by decide) q311 dX3_read_57 (gTk hT) rfl rfl ?_
      refine AW.sipush (v := 200) dX3_read_60 (by decide) rfl ?_
      refine AW.icmp_ne (tgt := 73) dX3_read_63 (by decide) rfl (fun _ => ?_) (fun c_ => by first | exact absurd c_ (show ¬ (202 : Int32) = 200 by decide) | exact absurd (show ¬ (202 : Int32) = 200 by decide) c_ | exact absurd c_ (not_not_intro (show ¬ (202 : Int32) = 200 by decide)) | exact Bool.noConfusion (c_.symm.trans (show ¬ (202 : Int32) = 200 by decide)))
      refine AW.aload_n dX3_read_73 rfl rfl ?_
      refine AW.get ci3 7 (by decide) q311 dX3_read_74 (gTk hT) rfl rfl ?_
      refine AW.sipush (v := 201) dX3_read_77 (by decide) rfl ?_
      refine AW.icmp_ne (tgt := 90) dX3_read_80 (by decide) rfl (fun _ => ?_) (fun c_ => by first | exact absurd c_ (show ¬ (202 : Int32) = 201 by decide) | exact absurd (show ¬ (202 : Int32) = 201 by decide) c_ | exact absurd c_ (not_not_intro (show ¬ (202 : Int32) = 201 by decide)) | exact Bool.noConfusion (c_.symm.trans (show ¬ (202 : Int32) = 201 by decide)))
      refine AW.aload_n dX3_read_90 rfl rfl ?_
      refine AW.get ci3 7 (by decide) q311 dX3_read_91 (gTk hT) rfl rfl ?_
      refine AW.sipush (v := 202) dX3_read_94 (by decide) rfl ?_
      refine AW.icmp_ne (tgt := 113) dX3_read_97 (by decide) rfl (fun c_ => by first | exact absurd c_ (show (202 : Int32) = 202 from rfl) | exact absurd (show (202 : Int32) = 202 from rfl) c_ | exact Bool.noConfusion (c_.symm.trans (show (202 : Int32) = 202 from rfl))) (fun _ => ?_)
      refine AW.aload_n dX3_read_100 rfl rfl ?_
      refine AW.getN ci4 2 (by decide) q369 dX3_read_101 (by first | exact ((hp_gb (nfx hX6)).trans ((Tk_g hXT).trans gX)) | exact ((hp_gb (nfx hX6)).trans ((Tk_g hXT).trans gX2)) | exact ((hp_gb (nfx hX6)).trans ((Tk_g hXT).trans gX3))) rfl rfl ?_
      refine AW.ifnullN (tgt := 113) dX3_read_104 (by decide) ?_
      refine AW.aload_n dX3_read_113 rfl rfl ?_
      refine AW.getN ci4 3 (by decide) q371 dX3_read_114 (by first | exact ((hp_gb (nfx hX6)).trans ((Tk_g hXT).trans gX)) | exact ((hp_gb (nfx hX6)).trans ((Tk_g hXT).trans gX2)) | exact ((hp_gb (nfx hX6)).trans ((Tk_g hXT).trans gX3))) rfl rfl ?_
      refine AW.bipush (v := 24) dX3_read_117 (by decide) rfl ?_
      refine AW.icmp_ne (tgt := 129) dX3_read_119 (by decide) rfl (fun _ => ?_) (fun c_ => by first | exact absurd c_ h24 | exact absurd h24 c_ | exact absurd c_ (not_not_intro h24) | exact Bool.noConfusion (c_.symm.trans h24))
      refine AW.aload_n dX3_read_129 rfl rfl ?_
      refine AW.callV (Y := mX3_next) (n := 0) (w1) (by omega) (by decide) rfl (gTk hT) q386 q388 qs1 q142 q389 dX3_read_130 (by decide +kernel) rfl rfl (Nat.le_of_ble_eq_true rfl) rfl ?_
      refine AW.aload_n dX3_read_133 rfl rfl ?_
      refine AW.get ci3 7 (by decide) q311 dX3_read_134 (gTk hT) rfl rfl ?_
      refine AW.sipush (v := 200) dX3_read_137 (by decide) rfl ?_
      refine AW.icmp_ne (tgt := 154) dX3_read_140 (by decide) rfl (fun _ => ?_) (fun c_ => by first | exact absurd c_ (show ¬ (202 : Int32) = 200 by decide) | exact absurd (show ¬ (202 : Int32) = 200 by decide) c_ | exact absurd c_ (not_not_intro (show ¬ (202 : Int32) = 200 by decide)) | exact Bool.noConfusion (c_.symm.trans (show ¬ (202 : Int32) = 200 by decide)))
      refine AW.aload_n dX3_read_154 rfl rfl ?_
      refine AW.get ci3 7 (by decide) q311 dX3_read_155 (gTk hT) rfl rfl ?_
      refine AW.sipush (v := 201) dX3_read_158 (by decide) rfl ?_
      refine AW.icmp_ne (tgt := 175) dX3_read_161 (by decide) rfl (fun _ => ?_) (fun c_ => by first | exact absurd c_ (show ¬ (202 : Int32) = 201 by decide) | exact absurd (show ¬ (202 : Int32) = 201 by decide) c_ | exact absurd c_ (not_not_intro (show ¬ (202 : Int32) = 201 by decide)) | exact Bool.noConfusion (c_.symm.trans (show ¬ (202 : Int32) = 201 by decide)))
      refine AW.aload_n dX3_read_175 rfl rfl ?_
      refine AW.get ci3 7 (by decide) q311 dX3_read_176 (gTk hT) rfl rfl ?_
      refine AW.sipush (v := 202) dX3_read_179 (by decide) rfl ?_
      refine AW.icmp_ne (tgt := 196) dX3_read_182 (by decide) rfl (fun c_ => by first | exact absurd c_ (show (202 : Int32) = 202 from rfl) | exact absurd (show (202 : Int32) = 202 from rfl) c_ | exact Bool.noConfusion (c_.symm.trans (show (202 : Int32) = 202 from rfl))) (fun _ => ?_)
      refine AW.aload_n dX3_read_185 rfl rfl ?_
      refine AW.aload_n dX3_read_186 rfl rfl ?_
      refine AW.callV (Y := mX3_either) (n := 0) (w9) (by omega) (by decide) rfl (gTk hT) q716 q718 qs17 q142 q719 dX3_read_187 (by decide +kernel) rfl rfl (Nat.le_of_ble_eq_true rfl) rfl ?_
      refine AW.putN ci4 2 (by decide) q369 dX3_read_190 (by omega) (by first | exact ((hp_gb (nfx hX6)).trans ((Tk_g hXT).trans gX)) | exact ((hp_gb (nfx hX6)).trans ((Tk_g hXT).trans gX2)) | exact ((hp_gb (nfx hX6)).trans ((Tk_g hXT).trans gX3))) rfl (fun _ => rfl) (fun _ => rfl) (Nat.le_of_ble_eq_true rfl) ((hp_set6 hX6).trans (tk_cm (s := s.setb b2) (Ne.symm hXT))) rfl ?_
      refine AW.goto (tgt := 212) dX3_read_193 (by decide) ?_
      refine AW.aload_n dX3_read_212 rfl rfl ?_
      refine AW.bipush (v := 59) dX3_read_213 (by decide) rfl ?_
      refine AW.callV (Y := mX3_want) (n := 1) (w2) (by omega) (by decide) rfl (gTk hT) q562 q564 qs11 q142 q565 dX3_read_215 (by decide +kernel) rfl rfl (Nat.le_of_ble_eq_true rfl) rfl ?_
      refine AW.aload_n dX3_read_218 rfl rfl ?_
      refine AW.dup dX3_read_219 rfl rfl ?_
      refine AW.getN ci4 3 (by decide) q371 dX3_read_220 (by first | exact ((hp_gb (nfx hX6)).trans ((Tk_g hXT).trans gX)) | exact ((hp_gb (nfx hX6)).trans ((Tk_g hXT).trans gX2)) | exact ((hp_gb (nfx hX6)).trans ((Tk_g hXT).trans gX3))) rfl rfl ?_
      refine AW.iconst (v := 1) dX3_read_223 (by decide) rfl ?_
      refine AW.iadd dX3_read_224 rfl ?_
      refine AW.putN ci4 3 (by decide) q371 dX3_read_225 (by omega) (by first | exact ((hp_gb (nfx hX6)).trans ((Tk_g hXT).trans gX)) | exact ((hp_gb (nfx hX6)).trans ((Tk_g hXT).trans gX2)) | exact ((hp_gb (nfx hX6)).trans ((Tk_g hXT).trans gX3))) rfl (fun _ => rfl) (fun _ => rfl) (Nat.le_of_ble_eq_true rfl) (((hp_set6 hX6).trans (tk_cm (s := s.setb (b2.set X (.inr (4, [ve, vl, .ref y, .int (nI cls.length), .ref Dl])))) (Ne.symm hXT))).trans (congrArg (fun z => (hp (Tk (s.setb z) T n t (tkL t n L0 (j + 1)) nu4 (nI 0) 202))) set_set)) rfl ?_
      refine AW.goto (tgt := 12) dX3_read_228 (by decide) ?_
      exact kk
    · have hs59 : ¬ sortS (byteF t n) (tkL t n L0 j) = 59 := fun q => cf ((so_c j (c := 59) (v := 59) (by decide) (by decide +kernel) (by decide +kernel)).mp q)
      rw [if_neg cf] at e1
      have w2 := r_X3_want_f (s := s.setb (b2.set X (.inr (4, [ve, vl, .ref y, .int (nI cls.length), .ref Dl])))) (n := n) (at_ := (tkL t n L0 j).1) (tk := (tkL t n L0 j).2.1) (nu := nu3) (op := nI 0) (kd := 202) hT (by show T < 512 + b2.n; omega) (by show 128 ≤ b2.n; omega) 59 hs59
      have q7 : EQ T n t L0 202 (512 + b2.n) 0 0 (s.setb (b2.set X (.inr (4, [ve, vl, .ref y, .int (nI cls.length), .ref Dl])))) j 1 j _ := EQ.wr (s := s.setb (b2.set X (.inr (4, [ve, vl, .ref y, .int (nI cls.length), .ref Dl])))) (L0 := L0) (nu := nu3) (op := nI 0) (Nat.le_refl _) 1
      have q8 : EQ T n t L0 202 lo 0 1000 s i 1 j _ := EQ.up q7 x4 (by omega) (by omega) (by omega) (by omega)
      refine StQ.l e1 q8 ?_
      refine AW.aload_n dX3_read_12 rfl rfl ?_
      refine AW.get ci3 4 (by decide) q308 dX3_read_13 (gTk hT) rfl rfl ?_
      refine AW.sipush (v := 301) dX3_read_16 (by decide) rfl ?_
      refine AW.icmp_eq (tgt := 231) dX3_read_19 (by decide) rfl (fun c_ => by first | exact absurd c_ (show ¬ sortS (byteF t n) (tkL t n L0 i) = 301 by rw [hs]; decide) | exact absurd (show ¬ sortS (byteF t n) (tkL t n L0 i) = 301 by rw [hs]; decide) c_ | exact Bool.noConfusion (c_.symm.trans (show ¬ sortS (byteF t n) (tkL t n L0 i) = 301 by rw [hs]; decide))) (fun _ => ?_)
      refine AW.aload_n dX3_read_22 rfl rfl ?_
      refine AW.get ci3 4 (by decide) q308 dX3_read_23 (gTk hT) rfl rfl ?_
      refine AW.sipush (v := 200) dX3_read_26 (by decide) rfl ?_
      refine AW.icmp_lt (tgt := 42) dX3_read_29 (by decide) rfl (fun c_ => by first | exact absurd c_ (show ¬ sortS (byteF t n) (tkL t n L0 i) < 200 by rw [hs]; decide) | exact absurd (show ¬ sortS (byteF t n) (tkL t n L0 i) < 200 by rw [hs]; decide) c_ | exact Bool.noConfusion (c_.symm.trans (show ¬ sortS (byteF t n) (tkL t n L0 i) < 200 by rw [hs]; decide))) (fun _ => ?_)
      refine AW.aload_n dX3_read_32 rfl rfl ?_
      refine AW.get ci3 4 (by decide) q308 dX3_read_33 (gTk hT) rfl rfl ?_
      refine AW.sipush (v := 208) dX3_read_36 (by decide) rfl ?_
      refine AW.icmp_le (tgt := 48) dX3_read_39 (by decide) rfl (fun _ => ?_) (fun c_ => by first | exact absurd c_ (show sortS (byteF t n) (tkL t n L0 i) ≤ 208 by rw [hs]; decide) | exact absurd (show sortS (byteF t n) (tkL t n L0 i) ≤ 208 by rw [hs]; decide) c_ | exact absurd c_ (not_not_intro (show sortS (byteF t n) (tkL t n L0 i) ≤ 208 by rw [hs]; decide)) | exact Bool.noConfusion (c_.symm.trans (show sortS (byteF t n) (tkL t n L0 i) ≤ 208 by rw [hs]; decide)))
      refine AW.aload_n dX3_read_48 rfl rfl ?_
      refine AW.aload_n dX3_read_49 rfl rfl ?_
      refine AW.get ci3 4 (by decide) q308 dX3_read_50 (gTk hT) rfl rfl ?_
      refine AW.put ci3 7 (by decide) q311 dX3_read_53 (by omega) (gTk hT) rfl (fun _ => rfl) (fun _ => rfl) (Nat.le_of_ble_eq_true rfl) ((sTk7 hT).trans (congrArg (fun z => hp (Tk s T n t (tkL t n L0 i) nu (nI 0) z)) hs)) rfl ?_
      refine AW.aload_n dX3_read_56 rfl rfl ?_
      refine AW.get ci3 7 (by decide) q311 dX3_read_57 (gTk hT) rfl rfl ?_
      refine AW.sipush (v := 200) dX3_read_60 (by decide) rfl ?_
      refine AW.icmp_ne (tgt := 73) dX3_read_63 (by decide) rfl (fun _ => ?_) (fun c_ => by first | exact absurd c_ (show ¬ (202 : Int32) = 200 by decide) | exact absurd (show ¬ (202 : Int32) = 200 by decide) c_ | exact absurd c_ (not_not_intro (show ¬ (202 : Int32) = 200 by decide)) | exact Bool.noConfusion (c_.symm.trans (show ¬ (202 : Int32) = 200 by decide)))
      refine AW.aload_n dX3_read_73 rfl rfl ?_
      refine AW.get ci3 7 (by decide) q311 dX3_read_74 (gTk hT) rfl rfl ?_
      refine AW.sipush (v := 201) dX3_read_77 (by decide) rfl ?_
      refine AW.icmp_ne (tgt := 90) dX3_read_80 (by decide) rfl (fun _ => ?_) (fun c_ => by first | exact absurd c_ (show ¬ (202 : Int32) = 201 by decide) | exact absurd (show ¬ (202 : Int32) = 201 by decide) c_ | exact absurd c_ (not_not_intro (show ¬ (202 : Int32) = 201 by decide)) | exact Bool.noConfusion (c_.symm.trans (show ¬ (202 : Int32) = 201 by decide)))
      refine AW.aload_n dX3_read_90 rfl rfl ?_
      refine AW.get ci3 7 (by decide) q311 dX3_read_91 (gTk hT) rfl rfl ?_
      refine AW.sipush (v := 202) dX3_read_94 (by decide) rfl ?_
      refine AW.icmp_ne (tgt := 113) dX3_read_97 (by decide) rfl (fun c_ => by first | exact absurd c_ (show (202 : Int32) = 202 from rfl) | exact absurd (show (202 : Int32) = 202 from rfl) c_ | exact Bool.noConfusion (c_.symm.trans (show (202 : Int32) = 202 from rfl))) (fun _ => ?_)
      refine AW.aload_n dX3_read_100 rfl rfl ?_
      refine AW.getN ci4 2 (by decide) q369 dX3_read_101 (by first | exact ((hp_gb (nfx hX6)).trans ((Tk_g hXT).trans gX)) | exact ((hp_gb (nfx hX6)).trans ((Tk_g hXT).trans gX2)) | exact ((hp_gb (nfx hX6)).trans ((Tk_g hXT).trans gX3))) rfl rfl ?_
      refine AW.ifnullN (tgt := 113) dX3_read_104 (by decide) ?_
      refine AW.aload_n dX3_read_113 rfl rfl ?_
      refine AW.getN ci4 3 (by decide) q371 dX3_read_114 (by first | exact ((hp_gb (nfx hX6)).trans ((Tk_g hXT).trans gX)) | exact ((hp_gb (nfx hX6)).trans ((Tk_g hXT).trans gX2)) | exact ((hp_gb (nfx hX6)).trans ((Tk_g hXT).trans gX3))) rfl rfl ?_
      refine AW.bipush (v := 24) dX3_read_117 (by decide) rfl ?_
      refine AW.icmp_ne (tgt := 129) dX3_read_119 (by decide) rfl (fun _ => ?_) (fun c_ => by first | exact absurd c_ h24 | exact absurd h24 c_ | exact absurd c_ (not_not_intro h24) | exact Bool.noConfusion (c_.symm.trans h24))
      refine AW.aload_n dX3_read_129 rfl rfl ?_
      refine AW.callV (Y := mX3_next) (n := 0) (w1) (by omega) (by decide) rfl (gTk hT) q386 q388 qs1 q142 q389 dX3_read_130 (by decide +kernel) rfl rfl (Nat.le_of_ble_eq_true rfl) rfl ?_
      refine AW.aload_n dX3_read_133 rfl rfl ?_
      refine AW.get ci3 7 (by decide) q311 dX3_read_134 (gTk hT) rfl rfl ?_
      refine AW.sipush (v := 200) dX3_read_137 (by decide) rfl ?_
      refine AW.icmp_ne (tgt := 154) dX3_read_140 (by decide) rfl (fun _ => ?_) (fun c_ => by first | exact absurd c_ (show ¬ (202 : Int32) = 200 by decide) | exact absurd (show ¬ (202 : Int32) = 200 by decide) c_ | exact absurd c_ (not_not_intro (show ¬ (202 : Int32) = 200 by decide)) | exact Bool.noConfusion (c_.symm.trans (show ¬ (202 : Int32) = 200 by decide)))
      refine AW.aload_n dX3_read_154 rfl rfl ?_
      refine AW.get ci3 7 (by decide) q311 dX3_read_155 (gTk hT) rfl rfl ?_
      refine AW.sipush (v := 201) dX3_read_158 (by decide) rfl ?_
      refine AW.icmp_ne (tgt := 175) dX3_read_161 (by decide) rfl (fun _ => ?_) (fun c_ => by first | exact absurd c_ (show ¬ (202 : Int32) = 201 by decide) | exact absurd (show ¬ (202 : Int32) = 201 by decide) c_ | exact absurd c_ (not_not_intro (show ¬ (202 : Int32) = 201 by decide)) | exact Bool.noConfusion (c_.symm.trans (show ¬ (202 : Int32) = 201 by decide)))
      refine AW.aload_n dX3_read_175 rfl rfl ?_
      refine AW.get ci3 7 (by decide) q311 dX3_read_176 (gTk hT) rfl rfl ?_
      refine AW.sipush (v := 202) dX3_read_179 (by decide) rfl ?_
      refine AW.icmp_ne (tgt := 196) dX3_read_182 (by decide) rfl (fun c_ => by first | exact absurd c_ (show (202 : Int32) = 202 from rfl) | exact absurd (show (202 : Int32) = 202 from rfl) c_ | exact Bool.noConfusion (c_.symm.trans (show (202 : Int32) = 202 from rfl))) (fun _ => ?_)
      refine AW.aload_n dX3_read_185 rfl rfl ?_
      refine AW.aload_n dX3_read_186 rfl rfl ?_
      refine AW.callV (Y := mX3_either) (n := 0) (w9) (by omega) (by decide) rfl (gTk hT) q716 q718 qs17 q142 q719 dX3_read_187 (by decide +kernel) rfl rfl (Nat.le_of_ble_eq_true rfl) rfl ?_
      refine AW.putN ci4 2 (by decide) q369 dX3_read_190 (by omega) (by first | exact ((hp_gb (nfx hX6)).trans ((Tk_g hXT).trans gX)) | exact ((hp_gb (nfx hX6)).trans ((Tk_g hXT).trans gX2)) | exact ((hp_gb (nfx hX6)).trans ((Tk_g hXT).trans gX3))) rfl (fun _ => rfl) (fun _ => rfl) (Nat.le_of_ble_eq_true rfl) ((hp_set6 hX6).trans (tk_cm (s := s.setb b2) (Ne.symm hXT))) rfl ?_
      refine AW.goto (tgt := 212) dX3_read_193 (by decide) ?_
      refine AW.aload_n dX3_read_212 rfl rfl ?_
      refine AW.bipush (v := 59) dX3_read_213 (by decide) rfl ?_
      exact AW.callVX (Y := mX3_want) (n := 1) (w2) (by decide) (by decide) rfl (gTk hT) q562 q564 qs11 q142 q565 dX3_read_215 (by decide +kernel) rfl rfl (Nat.le_of_ble_eq_true rfl) q332 rfl
