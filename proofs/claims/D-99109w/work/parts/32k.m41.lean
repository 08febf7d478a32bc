/-! MODEL 41: the body of a clause, a clause, a text as wholes (printed by tools/m41.py) -/
set_option maxRecDepth 100000
theorem law_sf {s : Sg} {a b c : Int32} {X PA : Nat → Int32} {base : Nat} {C : Cd} {Q : List Int32} {o : Int32} {w : Bool} {n : Nat} {L0 : Lq} {i : Nat} (h12 : s.S 12 + 97 = nI base) (hb2 : base + 608 ≤ 2820) (hn : s.S 4 = nI n) (h300 : n ≤ 300) (hby : ∀ k, k < n → 0 ≤ s.A 629 k) {so : Int32} (hse : so = 2 ↔ false = true) (hg : gd (s.A 629) n L0 i) (hc : C.length ≤ i) {r : Int32} {j : Nat} (h : rd (byteF (s.A 629) n) (tkL (s.A 629) n L0) false FU 3 [] i 0 = .inl (r, j)) (hr : ¬ r = 0) : ∃ C2 PA2 Q2 o2 w2, Run 8 mX2_parsed [.ref 625, .int (b2i false)] (hp (ps (rs s so b c) (tkL (s.A 629) n L0 i) (gq X base C PA Q o w))) (.inl (some (.int r))) (hp (ps (rs s so (b2i false) c) (tkL (s.A 629) n L0 j) (gq X base C2 PA2 Q2 o2 w2))) := by
  have cx : Cy (rs s so (b2i false) c) base n false false := ⟨h12, hb2, hn, h300, hby, rfl, hse⟩
  have hG := @y_sum (rs s so (b2i false) c) X base n L0 false false (.inl (some (.int r))) (fun h9 => ∃ C2 PA2 Q2 o2 w2, h9 = hp (ps (rs s so (b2i false) c) (tkL ((rs s so (b2i false) c).A 629) n L0 j) (gq X base C2 PA2 Q2 o2 w2))) cx rfl FU i C
  simp only [rsA] at hG
  have hG := hG hg hc (fun x hx => by
    cases Sum.inl.inj (hx.symm.trans h)
    exact ⟨hr, rfl, fun C PA Q o w => ⟨C, PA, Q, o, w, rfl⟩⟩) (fun c9 j9 hx => by
    have := hx.symm.trans h
    cases this) PA trivial
  simp only [rsA] at hG
  obtain ⟨h2, ⟨C2, PA2, Q2, o2, w2, rfl⟩, hw⟩ := parsed_pre (s := s) (a := so) (b := b) (c := c) (Q := Q) (o := o) (w := w) (L0 := L0) (i := i) hG
  exact ⟨C2, PA2, Q2, o2, w2, Run.of rfl (Nat.le_of_ble_eq_true rfl) rfl hw⟩
theorem law_st {s : Sg} {a b c : Int32} {X PA : Nat → Int32} {base : Nat} {C : Cd} {Q : List Int32} {o : Int32} {w : Bool} {n : Nat} {L0 : Lq} {i : Nat} (h12 : s.S 12 + 97 = nI base) (hb2 : base + 608 ≤ 2820) (hn : s.S 4 = nI n) (h300 : n ≤ 300) (hby : ∀ k, k < n → 0 ≤ s.A 629 k) {so : Int32} (hse : so = 2 ↔ false = true) (hg : gd (s.A 629) n L0 i) (hc : C.length ≤ i) {c9 : Cd} {j : Nat} (h : rd (byteF (s.A 629) n) (tkL (s.A 629) n L0) false FU 3 [] i 0 = .inr (c9, j)) : gd (s.A 629) n L0 j ∧ C.length + c9.length ≤ j ∧ ∃ PA2, Run 8 mX2_parsed [.ref 625, .int (b2i false)] (hp (ps (rs s so b c) (tkL (s.A 629) n L0 i) (gq X base C PA Q o w))) (.inl (some (.int 0))) (hp (ps (rs s so (b2i false) c) (tkL (s.A 629) n L0 j) (gq X base (C ++ c9) PA2 [] 0 true))) := by
  have cx : Cy (rs s so (b2i false) c) base n false false := ⟨h12, hb2, hn, h300, hby, rfl, hse⟩
  have hG := @y_sum (rs s so (b2i false) c) X base n L0 false false (.inl (some (.int 0))) (fun h9 => gd (s.A 629) n L0 j ∧ C.length + c9.length ≤ j ∧ ∃ PA2, h9 = hp (ps (rs s so (b2i false) c) (tkL ((rs s so (b2i false) c).A 629) n L0 j) (gq X base (C ++ c9) PA2 [] 0 true))) cx rfl FU i C
  simp only [rsA] at hG
  have hG := hG hg hc (fun x hx => by
    have := hx.symm.trans h
    cases this) (fun c8 j8 hx hgj hlen => by
    cases Sum.inr.inj (hx.symm.trans h)
    exact ⟨by first | rfl | trivial, fun PA => ⟨hgj, hlen, PA, rfl⟩⟩) PA trivial
  simp only [rsA] at hG
  obtain ⟨h2, ⟨g1, g2, PA2, rfl⟩, hw⟩ := parsed_pre (s := s) (a := so) (b := b) (c := c) (Q := Q) (o := o) (w := w) (L0 := L0) (i := i) hG
  exact ⟨g1, g2, PA2, Run.of rfl (Nat.le_of_ble_eq_true rfl) rfl hw⟩
theorem law_af {s : Sg} {a b c : Int32} {X PA : Nat → Int32} {base : Nat} {C : Cd} {Q : List Int32} {o : Int32} {w : Bool} {n : Nat} {L0 : Lq} {i : Nat} (h12 : s.S 12 + 97 = nI base) (hb2 : base + 608 ≤ 2820) (hn : s.S 4 = nI n) (h300 : n ≤ 300) (hby : ∀ k, k < n → 0 ≤ s.A 629 k) {so : Int32} (hse : so = 2 ↔ true = true) (hg : gd (s.A 629) n L0 i) (hc : C.length ≤ i) {r : Int32} {j : Nat} (h : rd (byteF (s.A 629) n) (tkL (s.A 629) n L0) true FU 8 [] i 0 = .inl (r, j)) (hr : ¬ r = 0) : ∃ C2 PA2 Q2 o2 w2, Run 8 mX2_parsed [.ref 625, .int (b2i true)] (hp (ps (rs s so b c) (tkL (s.A 629) n L0 i) (gq X base C PA Q o w))) (.inl (some (.int r))) (hp (ps (rs s so (b2i true) c) (tkL (s.A 629) n L0 j) (gq X base C2 PA2 Q2 o2 w2))) := by
  have cx : Cy (rs s so (b2i true) c) base n true true := ⟨h12, hb2, hn, h300, hby, rfl, hse⟩
  have hG := @y_ask (rs s so (b2i true) c) X base n L0 true true (.inl (some (.int r))) (fun h9 => ∃ C2 PA2 Q2 o2 w2, h9 = hp (ps (rs s so (b2i true) c) (tkL ((rs s so (b2i true) c).A 629) n L0 j) (gq X base C2 PA2 Q2 o2 w2))) cx rfl FU i C
  simp only [rsA] at hG
  have hG := hG hg hc (fun x hx => by
    cases Sum.inl.inj (hx.symm.trans h)
    exact ⟨hr, rfl, fun C PA Q o w => ⟨C, PA, Q, o, w, rfl⟩⟩) (fun c9 j9 hx => by
    have := hx.symm.trans h
    cases this) PA trivial
  simp only [rsA] at hG
  obtain ⟨h2, ⟨C2, PA2, Q2, o2, w2, rfl⟩, hw⟩ := parsed_pre (s := s) (a := so) (b := b) (c := c) (Q := Q) (o := o) (w := w) (L0 := L0) (i := i) hG
  exact ⟨C2, PA2, Q2, o2, w2, Run.of rfl (Nat.le_of_ble_eq_true rfl) rfl hw⟩
theorem law_at {s : Sg} {a b c : Int32} {X PA : Nat → Int32} {base : Nat} {C : Cd} {Q : List Int32} {o : Int32} {w : Bool} {n : Nat} {L0 : Lq} {i : Nat} (h12 : s.S 12 + 97 = nI base) (hb2 : base + 608 ≤ 2820) (hn : s.S 4 = nI n) (h300 : n ≤ 300) (hby : ∀ k, k < n → 0 ≤ s.A 629 k) {so : Int32} (hse : so = 2 ↔ true = true) (hg : gd (s.A 629) n L0 i) (hc : C.length ≤ i) {c9 : Cd} {j : Nat} (h : rd (byteF (s.A 629) n) (tkL (s.A 629) n L0) true FU 8 [] i 0 = .inr (c9, j)) : gd (s.A 629) n L0 j ∧ C.length + c9.length ≤ j ∧ ∃ PA2, Run 8 mX2_parsed [.ref 625, .int (b2i true)] (hp (ps (rs s so b c) (tkL (s.A 629) n L0 i) (gq X base C PA Q o w))) (.inl (some (.int 0))) (hp (ps (rs s so (b2i true) c) (tkL (s.A 629) n L0 j) (gq X base (C ++ c9) PA2 [] 0 true))) := by
  have cx : Cy (rs s so (b2i true) c) base n true true := ⟨h12, hb2, hn, h300, hby, rfl, hse⟩
  have hG := @y_ask (rs s so (b2i true) c) X base n L0 true true (.inl (some (.int 0))) (fun h9 => gd (s.A 629) n L0 j ∧ C.length + c9.length ≤ j ∧ ∃ PA2, h9 = hp (ps (rs s so (b2i true) c) (tkL ((rs s so (b2i true) c).A 629) n L0 j) (gq X base (C ++ c9) PA2 [] 0 true))) cx rfl FU i C
  simp only [rsA] at hG
  have hG := hG hg hc (fun x hx => by
    have := hx.symm.trans h
    cases this) (fun c8 j8 hx hgj hlen => by
    cases Sum.inr.inj (hx.symm.trans h)
    exact ⟨by first | rfl | trivial, fun PA => ⟨hgj, hlen, PA, rfl⟩⟩) PA trivial
  simp only [rsA] at hG
  obtain ⟨h2, ⟨g1, g2, PA2, rfl⟩, hw⟩ := parsed_pre (s := s) (a := so) (b := b) (c := c) (Q := Q) (o := o) (w := w) (L0 := L0) (i := i) hG
  exact ⟨g1, g2, PA2, Run.of rfl (Nat.le_of_ble_eq_true rfl) rfl hw⟩
theorem inl_inr {α β : Type} {a : α} {b : β} (h : (Sum.inl a : Sum α β) = Sum.inr b) : False := by cases h
theorem inr_inl {α β : Type} {a : α} {b : β} (h : (Sum.inr b : Sum α β) = Sum.inl a) : False := by cases h
section CLB
variable {B : Nat → Int32} {K : Nat → Lq} {so : Int32} {C : Cd} {i : Nat}
theorem clB_lo (h : so ≤ 2) : clB B K so C i = (match lawR B K so i with
    | .inl e => .inl e
    | .inr q => .inr ((so, nI C.length, nI (C ++ q.1).length, 0), C ++ q.1, q.2)) := if_pos h
theorem clB_hi (h : ¬ so ≤ 2) : clB B K so C i = (match bodyR B K so i with
    | .inl e => .inl e
    | .inr q => .inr ((so, q.1), C, q.2)) := if_neg h
theorem fgR_t {lo hi : Int32} {k : BR} (h : figF (K i) lo hi = 0) : fgR K i lo hi k = k := if_pos h
theorem fgR_f {lo hi : Int32} {k : BR} (h : ¬ figF (K i) lo hi = 0) : fgR K i lo hi k = .inl (figF (K i) lo hi, i) := if_neg h
theorem wdR_t {x : Int64} {k : BR} (h : isWd (K i) x = true) : wdR K i x k = k := if_pos h
theorem wdR_f {x : Int64} {k : BR} (h : isWd (K i) x = false) : wdR K i x k = .inl (1, i) := if_neg (by rw [h]; decide)
theorem fig_tok {L : Lq} {lo hi : Int32} (h : figF L lo hi = 0) : ¬ L.2.2.1 = 0 := by
  unfold figF at h
  by_cases q : L.2.2.1 = 1
  · rw [q]; decide
  · rw [if_neg q] at h
    exact absurd h (by decide)
theorem wd_tok0 {L : Lq} {x : Int64} (h : isWd L x = true) : ¬ L.2.2.1 = 0 := by rw [wd_tok h]; decide
theorem fr_tok0 {B : Nat → Int32} {L : Lq} {p : Nat} (h : isFrF B L p = true) : ¬ L.2.2.1 = 0 := by
  have e : L.2.2.1 = 2 := by
    unfold isFrF isLongF at h
    exact of_decide_eq_true (Bool.and_eq_true_iff.mp h).1
  rw [e]; decide
end CLB
abbrev u1 {X : Nat → Int32} {x : Nat} {u : Int32} : ∀ m, m ≤ x → up X (x + 1) u m = X m := fun m hm => up_ne (by omega)
abbrev u2 {X : Nat → Int32} {x : Nat} {u v : Int32} : ∀ m, m ≤ x → up (up X (x + 1) u) (x + 2) v m = X m := fun m hm => (up_ne (by omega)).trans (up_ne (by omega))
abbrev u3 {X : Nat → Int32} {x : Nat} {u v y : Int32} : ∀ m, m ≤ x → up (up (up X (x + 1) u) (x + 2) v) (x + 3) y m = X m := fun m hm => (up_ne (by omega)).trans ((up_ne (by omega)).trans (up_ne (by omega)))
theorem bodyf_0 {s : Sg} {a b c : Int32} {X PA : Nat → Int32} {base : Nat} {C : Cd} {Q : List Int32} {o : Int32} {w : Bool} {n : Nat} {L0 : Lq} {i : Nat} (h12 : s.S 12 + 97 = nI base) (hn : s.S 4 = nI n) (h300 : n ≤ 300) (hby : ∀ k, k < n → 0 ≤ s.A 629 k) (x : Nat) (hx : x + 3 < base) (hb2 : base + 608 ≤ 2820) (hg : gd (s.A 629) n L0 i) (hc : C.length ≤ i) (r : Int32) (j : Nat) (h : clB (byteF (s.A 629) n) (tkL (s.A 629) n L0) 0 C i = .inl (r, j)) (hr : ¬ r = 0) : ∃ X2 a2 b2 C2 PA2 Q2 o2 w2, Run 10 mX2_body [.ref 625, .int 0, .int (nI x)] (hp (ps (rs s 0 b c) (tkL (s.A 629) n L0 i) (gq X base C PA Q o w))) (.inl (some (.int r))) (hp (ps (rs s a2 b2 c) (tkL (s.A 629) n L0 j) (gq X2 base C2 PA2 Q2 o2 w2))) ∧ ∀ m, m ≤ x → X2 m = X m := by
  rw [clB_lo (by decide)] at h
  cases hl : lawR (byteF (s.A 629) n) (tkL (s.A 629) n L0) 0 i with
  | inl q =>
    rw [hl] at h
    cases h
    obtain ⟨C2, PA2, Q2, o2, w2, hw⟩ := law_sf (X := up X (x + 1) (nI C.length)) (PA := PA) (Q := Q) (o := o) (w := w) (a := a) (b := b) (c := c) h12 hb2 hn h300 hby (so := 0) (by decide) hg hc hl hr
    exact ⟨_, _, _, _, _, _, _, _, body_0 (law_run x hx hb2 hw), fun m hm => (up_ne (by omega)).trans (up_ne (by omega))⟩
  | inr q =>
    rw [hl] at h
    cases h
theorem bodyt_0 {s : Sg} {a b c : Int32} {X PA : Nat → Int32} {base : Nat} {C : Cd} {Q : List Int32} {o : Int32} {w : Bool} {n : Nat} {L0 : Lq} {i : Nat} (h12 : s.S 12 + 97 = nI base) (hn : s.S 4 = nI n) (h300 : n ≤ 300) (hby : ∀ k, k < n → 0 ≤ s.A 629 k) (x : Nat) (hx : x + 3 < base) (hb2 : base + 608 ≤ 2820) (hg : gd (s.A 629) n L0 i) (hc : C.length ≤ i) (cl : Cl) (C2 : Cd) (j : Nat) (h : clB (byteF (s.A 629) n) (tkL (s.A 629) n L0) 0 C i = .inr (cl, C2, j)) : gd (s.A 629) n L0 j ∧ C2.length ≤ j ∧ ∃ X2 a2 b2 PA2 Q2 o2 w2, Run 10 mX2_body [.ref 625, .int 0, .int (nI x)] (hp (ps (rs s 0 b c) (tkL (s.A 629) n L0 i) (gq X base C PA Q o w))) (.inl (some (.int 0))) (hp (ps (rs s a2 b2 c) (tkL (s.A 629) n L0 j) (gq X2 base C2 PA2 Q2 o2 w2))) ∧ (∀ m, m ≤ x → X2 m = X m) ∧ cl.1 = 0 ∧ X2 (x + 1) = cl.2.1 ∧ ((0 : Int32) ≤ 2 ∨ (0 : Int32) = 3 ∨ (0 : Int32) = 5 ∨ (0 : Int32) = 7 → X2 (x + 2) = cl.2.2.1) ∧ ((0 : Int32) = 3 → X2 (x + 3) = cl.2.2.2) := by
  rw [clB_lo (by decide)] at h
  cases hl : lawR (byteF (s.A 629) n) (tkL (s.A 629) n L0) 0 i with
  | inl q =>
    rw [hl] at h
    cases h
  | inr q =>
    rw [hl] at h
    obtain ⟨c9, j9⟩ := q
    cases h
    obtain ⟨g1, g2, PA2, hw⟩ := law_st (X := up X (x + 1) (nI C.length)) (PA := PA) (Q := Q) (o := o) (w := w) (a := a) (b := b) (c := c) h12 hb2 hn h300 hby (so := 0) (by decide) hg hc hl
    exact ⟨g1, by rw [List.length_append]; exact g2, _, _, _, _, _, _, _, body_0 (law_run x hx hb2 hw), fun m hm => (up_ne (by omega)).trans (up_ne (by omega)), rfl, (up_ne (by omega)).trans up_eq, fun _ => up_eq, fun z => absurd z (by decide)⟩
theorem bodyf_1 {s : Sg} {a b c : Int32} {X PA : Nat → Int32} {base : Nat} {C : Cd} {Q : List Int32} {o : Int32} {w : Bool} {n : Nat} {L0 : Lq} {i : Nat} (h12 : s.S 12 + 97 = nI base) (hn : s.S 4 = nI n) (h300 : n ≤ 300) (hby : ∀ k, k < n → 0 ≤ s.A 629 k) (x : Nat) (hx : x + 3 < base) (hb2 : base + 608 ≤ 2820) (hg : gd (s.A 629) n L0 i) (hc : C.length ≤ i) (r : Int32) (j : Nat) (h : clB (byteF (s.A 629) n) (tkL (s.A 629) n L0) 1 C i = .inl (r, j)) (hr : ¬ r = 0) : ∃ X2 a2 b2 C2 PA2 Q2 o2 w2, Run 10 mX2_body [.ref 625, .int 1, .int (nI x)] (hp (ps (rs s 1 b c) (tkL (s.A 629) n L0 i) (gq X base C PA Q o w))) (.inl (some (.int r))) (hp (ps (rs s a2 b2 c) (tkL (s.A 629) n L0 j) (gq X2 base C2 PA2 Q2 o2 w2))) ∧ ∀ m, m ≤ x → X2 m = X m := by
  rw [clB_lo (by decide)] at h
  cases hl : lawR (byteF (s.A 629) n) (tkL (s.A 629) n L0) 1 i with
  | inl q =>
    rw [hl] at h
    cases h
    obtain ⟨C2, PA2, Q2, o2, w2, hw⟩ := law_sf (X := up X (x + 1) (nI C.length)) (PA := PA) (Q := Q) (o := o) (w := w) (a := a) (b := b) (c := c) h12 hb2 hn h300 hby (so := 1) (by decide) hg hc hl hr
    exact ⟨_, _, _, _, _, _, _, _, body_1 (law_run x hx hb2 hw), fun m hm => (up_ne (by omega)).trans (up_ne (by omega))⟩
  | inr q =>
    rw [hl] at h
    cases h
theorem bodyt_1 {s : Sg} {a b c : Int32} {X PA : Nat → Int32} {base : Nat} {C : Cd} {Q : List Int32} {o : Int32} {w : Bool} {n : Nat} {L0 : Lq} {i : Nat} (h12 : s.S 12 + 97 = nI base) (hn : s.S 4 = nI n) (h300 : n ≤ 300) (hby : ∀ k, k < n → 0 ≤ s.A 629 k) (x : Nat) (hx : x + 3 < base) (hb2 : base + 608 ≤ 2820) (hg : gd (s.A 629) n L0 i) (hc : C.length ≤ i) (cl : Cl) (C2 : Cd) (j : Nat) (h : clB (byteF (s.A 629) n) (tkL (s.A 629) n L0) 1 C i = .inr (cl, C2, j)) : gd (s.A 629) n L0 j ∧ C2.length ≤ j ∧ ∃ X2 a2 b2 PA2 Q2 o2 w2, Run 10 mX2_body [.ref 625, .int 1, .int (nI x)] (hp (ps (rs s 1 b c) (tkL (s.A 629) n L0 i) (gq X base C PA Q o w))) (.inl (some (.int 0))) (hp (ps (rs s a2 b2 c) (tkL (s.A 629) n L0 j) (gq X2 base C2 PA2 Q2 o2 w2))) ∧ (∀ m, m ≤ x → X2 m = X m) ∧ cl.1 = 1 ∧ X2 (x + 1) = cl.2.1 ∧ ((1 : Int32) ≤ 2 ∨ (1 : Int32) = 3 ∨ (1 : Int32) = 5 ∨ (1 : Int32) = 7 → X2 (x + 2) = cl.2.2.1) ∧ ((1 : Int32) = 3 → X2 (x + 3) = cl.2.2.2) := by
  rw [clB_lo (by decide)] at h
  cases hl : lawR (byteF (s.A 629) n) (tkL (s.A 629) n L0) 1 i with
  | inl q =>
    rw [hl] at h
    cases h
  | inr q =>
    rw [hl] at h
    obtain ⟨c9, j9⟩ := q
    cases h
    obtain ⟨g1, g2, PA2, hw⟩ := law_st (X := up X (x + 1) (nI C.length)) (PA := PA) (Q := Q) (o := o) (w := w) (a := a) (b := b) (c := c) h12 hb2 hn h300 hby (so := 1) (by decide) hg hc hl
    exact ⟨g1, by rw [List.length_append]; exact g2, _, _, _, _, _, _, _, body_1 (law_run x hx hb2 hw), fun m hm => (up_ne (by omega)).trans (up_ne (by omega)), rfl, (up_ne (by omega)).trans up_eq, fun _ => up_eq, fun z => absurd z (by decide)⟩
theorem bodyf_2 {s : Sg} {a b c : Int32} {X PA : Nat → Int32} {base : Nat} {C : Cd} {Q : List Int32} {o : Int32} {w : Bool} {n : Nat} {L0 : Lq} {i : Nat} (h12 : s.S 12 + 97 = nI base) (hn : s.S 4 = nI n) (h300 : n ≤ 300) (hby : ∀ k, k < n → 0 ≤ s.A 629 k) (x : Nat) (hx : x + 3 < base) (hb2 : base + 608 ≤ 2820) (hg : gd (s.A 629) n L0 i) (hc : C.length ≤ i) (r : Int32) (j : Nat) (h : clB (byteF (s.A 629) n) (tkL (s.A 629) n L0) 2 C i = .inl (r, j)) (hr : ¬ r = 0) : ∃ X2 a2 b2 C2 PA2 Q2 o2 w2, Run 10 mX2_body [.ref 625, .int 2, .int (nI x)] (hp (ps (rs s 2 b c) (tkL (s.A 629) n L0 i) (gq X base C PA Q o w))) (.inl (some (.int r))) (hp (ps (rs s a2 b2 c) (tkL (s.A 629) n L0 j) (gq X2 base C2 PA2 Q2 o2 w2))) ∧ ∀ m, m ≤ x → X2 m = X m := by
  rw [clB_lo (by decide)] at h
  cases hl : lawR (byteF (s.A 629) n) (tkL (s.A 629) n L0) 2 i with
  | inl q =>
    rw [hl] at h
    cases h
    obtain ⟨C2, PA2, Q2, o2, w2, hw⟩ := law_af (X := up X (x + 1) (nI C.length)) (PA := PA) (Q := Q) (o := o) (w := w) (a := a) (b := b) (c := c) h12 hb2 hn h300 hby (so := 2) (by decide) hg hc hl hr
    exact ⟨_, _, _, _, _, _, _, _, body_2 (law_run x hx hb2 hw), fun m hm => (up_ne (by omega)).trans (up_ne (by omega))⟩
  | inr q =>
    rw [hl] at h
    cases h
theorem bodyt_2 {s : Sg} {a b c : Int32} {X PA : Nat → Int32} {base : Nat} {C : Cd} {Q : List Int32} {o : Int32} {w : Bool} {n : Nat} {L0 : Lq} {i : Nat} (h12 : s.S 12 + 97 = nI base) (hn : s.S 4 = nI n) (h300 : n ≤ 300) (hby : ∀ k, k < n → 0 ≤ s.A 629 k) (x : Nat) (hx : x + 3 < base) (hb2 : base + 608 ≤ 2820) (hg : gd (s.A 629) n L0 i) (hc : C.length ≤ i) (cl : Cl) (C2 : Cd) (j : Nat) (h : clB (byteF (s.A 629) n) (tkL (s.A 629) n L0) 2 C i = .inr (cl, C2, j)) : gd (s.A 629) n L0 j ∧ C2.length ≤ j ∧ ∃ X2 a2 b2 PA2 Q2 o2 w2, Run 10 mX2_body [.ref 625, .int 2, .int (nI x)] (hp (ps (rs s 2 b c) (tkL (s.A 629) n L0 i) (gq X base C PA Q o w))) (.inl (some (.int 0))) (hp (ps (rs s a2 b2 c) (tkL (s.A 629) n L0 j) (gq X2 base C2 PA2 Q2 o2 w2))) ∧ (∀ m, m ≤ x → X2 m = X m) ∧ cl.1 = 2 ∧ X2 (x + 1) = cl.2.1 ∧ ((2 : Int32) ≤ 2 ∨ (2 : Int32) = 3 ∨ (2 : Int32) = 5 ∨ (2 : Int32) = 7 → X2 (x + 2) = cl.2.2.1) ∧ ((2 : Int32) = 3 → X2 (x + 3) = cl.2.2.2) := by
  rw [clB_lo (by decide)] at h
  cases hl : lawR (byteF (s.A 629) n) (tkL (s.A 629) n L0) 2 i with
  | inl q =>
    rw [hl] at h
    cases h
  | inr q =>
    rw [hl] at h
    obtain ⟨c9, j9⟩ := q
    cases h
    obtain ⟨g1, g2, PA2, hw⟩ := law_at (X := up X (x + 1) (nI C.length)) (PA := PA) (Q := Q) (o := o) (w := w) (a := a) (b := b) (c := c) h12 hb2 hn h300 hby (so := 2) (by decide) hg hc hl
    exact ⟨g1, by rw [List.length_append]; exact g2, _, _, _, _, _, _, _, body_2 (law_run x hx hb2 hw), fun m hm => (up_ne (by omega)).trans (up_ne (by omega)), rfl, (up_ne (by omega)).trans up_eq, fun _ => up_eq, fun z => absurd z (by decide)⟩
theorem bodyf_4 {s : Sg} {a b c : Int32} {X PA : Nat → Int32} {base : Nat} {C : Cd} {Q : List Int32} {o : Int32} {w : Bool} {n : Nat} {L0 : Lq} {i : Nat} (h12 : s.S 12 + 97 = nI base) (hn : s.S 4 = nI n) (h300 : n ≤ 300) (hby : ∀ k, k < n → 0 ≤ s.A 629 k) (x : Nat) (hx : x + 3 < base) (hb2 : base + 608 ≤ 2820) (hg : gd (s.A 629) n L0 i) (hc : C.length ≤ i) (r : Int32) (j : Nat) (h : clB (byteF (s.A 629) n) (tkL (s.A 629) n L0) 4 C i = .inl (r, j)) (hr : ¬ r = 0) : ∃ X2 a2 b2 C2 PA2 Q2 o2 w2, Run 10 mX2_body [.ref 625, .int 4, .int (nI x)] (hp (ps (rs s 4 b c) (tkL (s.A 629) n L0 i) (gq X base C PA Q o w))) (.inl (some (.int r))) (hp (ps (rs s a2 b2 c) (tkL (s.A 629) n L0 j) (gq X2 base C2 PA2 Q2 o2 w2))) ∧ ∀ m, m ≤ x → X2 m = X m := by
  rw [clB_hi (by decide), show bodyR (byteF (s.A 629) n) (tkL (s.A 629) n L0) 4 i = fgR (tkL (s.A 629) n L0) i 0 6 (.inr (((tkL (s.A 629) n L0 i).2.2.2.1, -1, -1), i + 1)) from rfl] at h
  by_cases h1 : figF (tkL (s.A 629) n L0 i) 0 6 = 0
  · rw [fgR_t h1] at h
    exact (inr_inl h).elim
  · rw [fgR_f h1] at h
    obtain ⟨e1, e2⟩ := Prod.mk.inj (Sum.inl.inj h)
    subst e1
    subst e2
    exact ⟨_, _, _, _, _, _, _, _, body_4f hn h300 hby x hx hb2 h1, fun m hm => rfl⟩
theorem bodyt_4 {s : Sg} {a b c : Int32} {X PA : Nat → Int32} {base : Nat} {C : Cd} {Q : List Int32} {o : Int32} {w : Bool} {n : Nat} {L0 : Lq} {i : Nat} (h12 : s.S 12 + 97 = nI base) (hn : s.S 4 = nI n) (h300 : n ≤ 300) (hby : ∀ k, k < n → 0 ≤ s.A 629 k) (x : Nat) (hx : x + 3 < base) (hb2 : base + 608 ≤ 2820) (hg : gd (s.A 629) n L0 i) (hc : C.length ≤ i) (cl : Cl) (C2 : Cd) (j : Nat) (h : clB (byteF (s.A 629) n) (tkL (s.A 629) n L0) 4 C i = .inr (cl, C2, j)) : gd (s.A 629) n L0 j ∧ C2.length ≤ j ∧ ∃ X2 a2 b2 PA2 Q2 o2 w2, Run 10 mX2_body [.ref 625, .int 4, .int (nI x)] (hp (ps (rs s 4 b c) (tkL (s.A 629) n L0 i) (gq X base C PA Q o w))) (.inl (some (.int 0))) (hp (ps (rs s a2 b2 c) (tkL (s.A 629) n L0 j) (gq X2 base C2 PA2 Q2 o2 w2))) ∧ (∀ m, m ≤ x → X2 m = X m) ∧ cl.1 = 4 ∧ X2 (x + 1) = cl.2.1 ∧ ((4 : Int32) ≤ 2 ∨ (4 : Int32) = 3 ∨ (4 : Int32) = 5 ∨ (4 : Int32) = 7 → X2 (x + 2) = cl.2.2.1) ∧ ((4 : Int32) = 3 → X2 (x + 3) = cl.2.2.2) := by
  rw [clB_hi (by decide), show bodyR (byteF (s.A 629) n) (tkL (s.A 629) n L0) 4 i = fgR (tkL (s.A 629) n L0) i 0 6 (.inr (((tkL (s.A 629) n L0 i).2.2.2.1, -1, -1), i + 1)) from rfl] at h
  by_cases h1 : figF (tkL (s.A 629) n L0 i) 0 6 = 0
  · rw [fgR_t h1] at h
    obtain ⟨e1, e2⟩ := Prod.mk.inj (Sum.inr.inj h)
    obtain ⟨e2, e3⟩ := Prod.mk.inj e2
    subst e1
    subst e2
    subst e3
    exact ⟨gd_s hg (fig_tok h1), by omega, _, _, _, _, _, _, _, body_4t hn h300 hby x hx hb2 h1, u1, rfl, up_eq, fun z => absurd z (by decide), fun z => absurd z (by decide)⟩
  · rw [fgR_f h1] at h
    exact (inl_inr h).elim
theorem bodyf_6 {s : Sg} {a b c : Int32} {X PA : Nat → Int32} {base : Nat} {C : Cd} {Q : List Int32} {o : Int32} {w : Bool} {n : Nat} {L0 : Lq} {i : Nat} (h12 : s.S 12 + 97 = nI base) (hn : s.S 4 = nI n) (h300 : n ≤ 300) (hby : ∀ k, k < n → 0 ≤ s.A 629 k) (x : Nat) (hx : x + 3 < base) (hb2 : base + 608 ≤ 2820) (hg : gd (s.A 629) n L0 i) (hc : C.length ≤ i) (r : Int32) (j : Nat) (h : clB (byteF (s.A 629) n) (tkL (s.A 629) n L0) 6 C i = .inl (r, j)) (hr : ¬ r = 0) : ∃ X2 a2 b2 C2 PA2 Q2 o2 w2, Run 10 mX2_body [.ref 625, .int 6, .int (nI x)] (hp (ps (rs s 6 b c) (tkL (s.A 629) n L0 i) (gq X base C PA Q o w))) (.inl (some (.int r))) (hp (ps (rs s a2 b2 c) (tkL (s.A 629) n L0 j) (gq X2 base C2 PA2 Q2 o2 w2))) ∧ ∀ m, m ≤ x → X2 m = X m := by
  rw [clB_hi (by decide), show bodyR (byteF (s.A 629) n) (tkL (s.A 629) n L0) 6 i = fgR (tkL (s.A 629) n L0) i 0 6 (.inr (((tkL (s.A 629) n L0 i).2.2.2.1, -1, -1), i + 1)) from rfl] at h
  by_cases h1 : figF (tkL (s.A 629) n L0 i) 0 6 = 0
  · rw [fgR_t h1] at h
    exact (inr_inl h).elim
  · rw [fgR_f h1] at h
    obtain ⟨e1, e2⟩ := Prod.mk.inj (Sum.inl.inj h)
    subst e1
    subst e2
    exact ⟨_, _, _, _, _, _, _, _, body_6f hn h300 hby x hx hb2 h1, fun m hm => rfl⟩
theorem bodyt_6 {s : Sg} {a b c : Int32} {X PA : Nat → Int32} {base : Nat} {C : Cd} {Q : List Int32} {o : Int32} {w : Bool} {n : Nat} {L0 : Lq} {i : Nat} (h12 : s.S 12 + 97 = nI base) (hn : s.S 4 = nI n) (h300 : n ≤ 300) (hby : ∀ k, k < n → 0 ≤ s.A 629 k) (x : Nat) (hx : x + 3 < base) (hb2 : base + 608 ≤ 2820) (hg : gd (s.A 629) n L0 i) (hc : C.length ≤ i) (cl : Cl) (C2 : Cd) (j : Nat) (h : clB (byteF (s.A 629) n) (tkL (s.A 629) n L0) 6 C i = .inr (cl, C2, j)) : gd (s.A 629) n L0 j ∧ C2.length ≤ j ∧ ∃ X2 a2 b2 PA2 Q2 o2 w2, Run 10 mX2_body [.ref 625, .int 6, .int (nI x)] (hp (ps (rs s 6 b c) (tkL (s.A 629) n L0 i) (gq X base C PA Q o w))) (.inl (some (.int 0))) (hp (ps (rs s a2 b2 c) (tkL (s.A 629) n L0 j) (gq X2 base C2 PA2 Q2 o2 w2))) ∧ (∀ m, m ≤ x → X2 m = X m) ∧ cl.1 = 6 ∧ X2 (x + 1) = cl.2.1 ∧ ((6 : Int32) ≤ 2 ∨ (6 : Int32) = 3 ∨ (6 : Int32) = 5 ∨ (6 : Int32) = 7 → X2 (x + 2) = cl.2.2.1) ∧ ((6 : Int32) = 3 → X2 (x + 3) = cl.2.2.2) := by
  rw [clB_hi (by decide), show bodyR (byteF (s.A 629) n) (tkL (s.A 629) n L0) 6 i = fgR (tkL (s.A 629) n L0) i 0 6 (.inr (((tkL (s.A 629) n L0 i).2.2.2.1, -1, -1), i + 1)) from rfl] at h
  by_cases h1 : figF (tkL (s.A 629) n L0 i) 0 6 = 0
  · rw [fgR_t h1] at h
    obtain ⟨e1, e2⟩ := Prod.mk.inj (Sum.inr.inj h)
    obtain ⟨e2, e3⟩ := Prod.mk.inj e2
    subst e1
    subst e2
    subst e3
    exact ⟨gd_s hg (fig_tok h1), by omega, _, _, _, _, _, _, _, body_6t hn h300 hby x hx hb2 h1, u1, rfl, up_eq, fun z => absurd z (by decide), fun z => absurd z (by decide)⟩
  · rw [fgR_f h1] at h
    exact (inl_inr h).elim
theorem bodyf_8 {s : Sg} {a b c : Int32} {X PA : Nat → Int32} {base : Nat} {C : Cd} {Q : List Int32} {o : Int32} {w : Bool} {n : Nat} {L0 : Lq} {i : Nat} (h12 : s.S 12 + 97 = nI base) (hn : s.S 4 = nI n) (h300 : n ≤ 300) (hby : ∀ k, k < n → 0 ≤ s.A 629 k) (x : Nat) (hx : x + 3 < base) (hb2 : base + 608 ≤ 2820) (hg : gd (s.A 629) n L0 i) (hc : C.length ≤ i) (r : Int32) (j : Nat) (h : clB (byteF (s.A 629) n) (tkL (s.A 629) n L0) 8 C i = .inl (r, j)) (hr : ¬ r = 0) : ∃ X2 a2 b2 C2 PA2 Q2 o2 w2, Run 10 mX2_body [.ref 625, .int 8, .int (nI x)] (hp (ps (rs s 8 b c) (tkL (s.A 629) n L0 i) (gq X base C PA Q o w))) (.inl (some (.int r))) (hp (ps (rs s a2 b2 c) (tkL (s.A 629) n L0 j) (gq X2 base C2 PA2 Q2 o2 w2))) ∧ ∀ m, m ≤ x → X2 m = X m := by
  rw [clB_hi (by decide), show bodyR (byteF (s.A 629) n) (tkL (s.A 629) n L0) 8 i = fgR (tkL (s.A 629) n L0) i 1 60 (.inr (((tkL (s.A 629) n L0 i).2.2.2.1, -1, -1), i + 1)) from rfl] at h
  by_cases h1 : figF (tkL (s.A 629) n L0 i) 1 60 = 0
  · rw [fgR_t h1] at h
    exact (inr_inl h).elim
  · rw [fgR_f h1] at h
    obtain ⟨e1, e2⟩ := Prod.mk.inj (Sum.inl.inj h)
    subst e1
    subst e2
    exact ⟨_, _, _, _, _, _, _, _, body_8f hn h300 hby x hx hb2 h1, fun m hm => rfl⟩
theorem bodyt_8 {s : Sg} {a b c : Int32} {X PA : Nat → Int32} {base : Nat} {C : Cd} {Q : List Int32} {o : Int32} {w : Bool} {n : Nat} {L0 : Lq} {i : Nat} (h12 : s.S 12 + 97 = nI base) (hn : s.S 4 = nI n) (h300 : n ≤ 300) (hby : ∀ k, k < n → 0 ≤ s.A 629 k) (x : Nat) (hx : x + 3 < base) (hb2 : base + 608 ≤ 2820) (hg : gd (s.A 629) n L0 i) (hc : C.length ≤ i) (cl : Cl) (C2 : Cd) (j : Nat) (h : clB (byteF (s.A 629) n) (tkL (s.A 629) n L0) 8 C i = .inr (cl, C2, j)) : gd (s.A 629) n L0 j ∧ C2.length ≤ j ∧ ∃ X2 a2 b2 PA2 Q2 o2 w2, Run 10 mX2_body [.ref 625, .int 8, .int (nI x)] (hp (ps (rs s 8 b c) (tkL (s.A 629) n L0 i) (gq X base C PA Q o w))) (.inl (some (.int 0))) (hp (ps (rs s a2 b2 c) (tkL (s.A 629) n L0 j) (gq X2 base C2 PA2 Q2 o2 w2))) ∧ (∀ m, m ≤ x → X2 m = X m) ∧ cl.1 = 8 ∧ X2 (x + 1) = cl.2.1 ∧ ((8 : Int32) ≤ 2 ∨ (8 : Int32) = 3 ∨ (8 : Int32) = 5 ∨ (8 : Int32) = 7 → X2 (x + 2) = cl.2.2.1) ∧ ((8 : Int32) = 3 → X2 (x + 3) = cl.2.2.2) := by
  rw [clB_hi (by decide), show bodyR (byteF (s.A 629) n) (tkL (s.A 629) n L0) 8 i = fgR (tkL (s.A 629) n L0) i 1 60 (.inr (((tkL (s.A 629) n L0 i).2.2.2.1, -1, -1), i + 1)) from rfl] at h
  by_cases h1 : figF (tkL (s.A 629) n L0 i) 1 60 = 0
  · rw [fgR_t h1] at h
    obtain ⟨e1, e2⟩ := Prod.mk.inj (Sum.inr.inj h)
    obtain ⟨e2, e3⟩ := Prod.mk.inj e2
    subst e1
    subst e2
    subst e3
    exact ⟨gd_s hg (fig_tok h1), by omega, _, _, _, _, _, _, _, body_8t hn h300 hby x hx hb2 h1, u1, rfl, up_eq, fun z => absurd z (by decide), fun z => absurd z (by decide)⟩
  · rw [fgR_f h1] at h
    exact (inl_inr h).elim
theorem bodyf_5 {s : Sg} {a b c : Int32} {X PA : Nat → Int32} {base : Nat} {C : Cd} {Q : List Int32} {o : Int32} {w : Bool} {n : Nat} {L0 : Lq} {i : Nat} (h12 : s.S 12 + 97 = nI base) (hn : s.S 4 = nI n) (h300 : n ≤ 300) (hby : ∀ k, k < n → 0 ≤ s.A 629 k) (x : Nat) (hx : x + 3 < base) (hb2 : base + 608 ≤ 2820) (hg : gd (s.A 629) n L0 i) (hc : C.length ≤ i) (r : Int32) (j : Nat) (h : clB (byteF (s.A 629) n) (tkL (s.A 629) n L0) 5 C i = .inl (r, j)) (hr : ¬ r = 0) : ∃ X2 a2 b2 C2 PA2 Q2 o2 w2, Run 10 mX2_body [.ref 625, .int 5, .int (nI x)] (hp (ps (rs s 5 b c) (tkL (s.A 629) n L0 i) (gq X base C PA Q o w))) (.inl (some (.int r))) (hp (ps (rs s a2 b2 c) (tkL (s.A 629) n L0 j) (gq X2 base C2 PA2 Q2 o2 w2))) ∧ ∀ m, m ≤ x → X2 m = X m := by
  rw [clB_hi (by decide), show bodyR (byteF (s.A 629) n) (tkL (s.A 629) n L0) 5 i = fgR (tkL (s.A 629) n L0) i 0 6 (wdR (tkL (s.A 629) n L0) (i + 1) (w2F 116 111) (fgR (tkL (s.A 629) n L0) (i + 2) 0 6 (.inr (((tkL (s.A 629) n L0 i).2.2.2.1, (tkL (s.A 629) n L0 (i + 2)).2.2.2.1, -1), i + 3)))) from rfl] at h
  by_cases h1 : figF (tkL (s.A 629) n L0 i) 0 6 = 0
  · rw [fgR_t h1] at h
    cases h2 : isWd (tkL (s.A 629) n L0 (i + 1)) (w2F 116 111)
    · rw [wdR_f h2] at h
      obtain ⟨e1, e2⟩ := Prod.mk.inj (Sum.inl.inj h)
      subst e1
      subst e2
      exact ⟨_, _, _, _, _, _, _, _, body_5b hn h300 hby x hx hb2 h1 h2, u1⟩
    · rw [wdR_t h2] at h
      by_cases h3 : figF (tkL (s.A 629) n L0 (i + 2)) 0 6 = 0
      · rw [fgR_t h3] at h
        exact (inr_inl h).elim
      · rw [fgR_f h3] at h
        obtain ⟨e1, e2⟩ := Prod.mk.inj (Sum.inl.inj h)
        subst e1
        subst e2
        exact ⟨_, _, _, _, _, _, _, _, body_5c hn h300 hby x hx hb2 h1 h2 h3, u1⟩
  · rw [fgR_f h1] at h
    obtain ⟨e1, e2⟩ := Prod.mk.inj (Sum.inl.inj h)
    subst e1
    subst e2
    exact ⟨_, _, _, _, _, _, _, _, body_5a hn h300 hby x hx hb2 h1, fun m hm => rfl⟩
theorem bodyt_5 {s : Sg} {a b c : Int32} {X PA : Nat → Int32} {base : Nat} {C : Cd} {Q : List Int32} {o : Int32} {w : Bool} {n : Nat} {L0 : Lq} {i : Nat} (h12 : s.S 12 + 97 = nI base) (hn : s.S 4 = nI n) (h300 : n ≤ 300) (hby : ∀ k, k < n → 0 ≤ s.A 629 k) (x : Nat) (hx : x + 3 < base) (hb2 : base + 608 ≤ 2820) (hg : gd (s.A 629) n L0 i) (hc : C.length ≤ i) (cl : Cl) (C2 : Cd) (j : Nat) (h : clB (byteF (s.A 629) n) (tkL (s.A 629) n L0) 5 C i = .inr (cl, C2, j)) : gd (s.A 629) n L0 j ∧ C2.length ≤ j ∧ ∃ X2 a2 b2 PA2 Q2 o2 w2, Run 10 mX2_body [.ref 625, .int 5, .int (nI x)] (hp (ps (rs s 5 b c) (tkL (s.A 629) n L0 i) (gq X base C PA Q o w))) (.inl (some (.int 0))) (hp (ps (rs s a2 b2 c) (tkL (s.A 629) n L0 j) (gq X2 base C2 PA2 Q2 o2 w2))) ∧ (∀ m, m ≤ x → X2 m = X m) ∧ cl.1 = 5 ∧ X2 (x + 1) = cl.2.1 ∧ ((5 : Int32) ≤ 2 ∨ (5 : Int32) = 3 ∨ (5 : Int32) = 5 ∨ (5 : Int32) = 7 → X2 (x + 2) = cl.2.2.1) ∧ ((5 : Int32) = 3 → X2 (x + 3) = cl.2.2.2) := by
  rw [clB_hi (by decide), show bodyR (byteF (s.A 629) n) (tkL (s.A 629) n L0) 5 i = fgR (tkL (s.A 629) n L0) i 0 6 (wdR (tkL (s.A 629) n L0) (i + 1) (w2F 116 111) (fgR (tkL (s.A 629) n L0) (i + 2) 0 6 (.inr (((tkL (s.A 629) n L0 i).2.2.2.1, (tkL (s.A 629) n L0 (i + 2)).2.2.2.1, -1), i + 3)))) from rfl] at h
  by_cases h1 : figF (tkL (s.A 629) n L0 i) 0 6 = 0
  · rw [fgR_t h1] at h
    cases h2 : isWd (tkL (s.A 629) n L0 (i + 1)) (w2F 116 111)
    · rw [wdR_f h2] at h
      exact (inl_inr h).elim
    · rw [wdR_t h2] at h
      by_cases h3 : figF (tkL (s.A 629) n L0 (i + 2)) 0 6 = 0
      · rw [fgR_t h3] at h
        obtain ⟨e1, e2⟩ := Prod.mk.inj (Sum.inr.inj h)
        obtain ⟨e2, e3⟩ := Prod.mk.inj e2
        subst e1
        subst e2
        subst e3
        have g1 : gd (s.A 629) n L0 (i + 1) := gd_s hg (fig_tok h1)
        have g2 : gd (s.A 629) n L0 (i + 2) := gd_s g1 (wd_tok0 h2)
        have g3 : gd (s.A 629) n L0 (i + 3) := gd_s g2 (fig_tok h3)
        exact ⟨g3, by omega, _, _, _, _, _, _, _, body_5t hn h300 hby x hx hb2 h1 h2 h3, u2, rfl, (up_ne (by omega)).trans up_eq, fun _ => up_eq, fun z => absurd z (by decide)⟩
      · rw [fgR_f h3] at h
        exact (inl_inr h).elim
  · rw [fgR_f h1] at h
    exact (inl_inr h).elim
theorem bodyf_7 {s : Sg} {a b c : Int32} {X PA : Nat → Int32} {base : Nat} {C : Cd} {Q : List Int32} {o : Int32} {w : Bool} {n : Nat} {L0 : Lq} {i : Nat} (h12 : s.S 12 + 97 = nI base) (hn : s.S 4 = nI n) (h300 : n ≤ 300) (hby : ∀ k, k < n → 0 ≤ s.A 629 k) (x : Nat) (hx : x + 3 < base) (hb2 : base + 608 ≤ 2820) (hg : gd (s.A 629) n L0 i) (hc : C.length ≤ i) (r : Int32) (j : Nat) (h : clB (byteF (s.A 629) n) (tkL (s.A 629) n L0) 7 C i = .inl (r, j)) (hr : ¬ r = 0) : ∃ X2 a2 b2 C2 PA2 Q2 o2 w2, Run 10 mX2_body [.ref 625, .int 7, .int (nI x)] (hp (ps (rs s 7 b c) (tkL (s.A 629) n L0 i) (gq X base C PA Q o w))) (.inl (some (.int r))) (hp (ps (rs s a2 b2 c) (tkL (s.A 629) n L0 j) (gq X2 base C2 PA2 Q2 o2 w2))) ∧ ∀ m, m ≤ x → X2 m = X m := by
  rw [clB_hi (by decide), show bodyR (byteF (s.A 629) n) (tkL (s.A 629) n L0) 7 i = fgR (tkL (s.A 629) n L0) i 0 19 (wdR (tkL (s.A 629) n L0) (i + 1) (w2F 111 102) (fgR (tkL (s.A 629) n L0) (i + 2) 0 6 (.inr (((tkL (s.A 629) n L0 i).2.2.2.1, (tkL (s.A 629) n L0 (i + 2)).2.2.2.1, -1), i + 3)))) from rfl] at h
  by_cases h1 : figF (tkL (s.A 629) n L0 i) 0 19 = 0
  · rw [fgR_t h1] at h
    cases h2 : isWd (tkL (s.A 629) n L0 (i + 1)) (w2F 111 102)
    · rw [wdR_f h2] at h
      obtain ⟨e1, e2⟩ := Prod.mk.inj (Sum.inl.inj h)
      subst e1
      subst e2
      exact ⟨_, _, _, _, _, _, _, _, body_7b hn h300 hby x hx hb2 h1 h2, u1⟩
    · rw [wdR_t h2] at h
      by_cases h3 : figF (tkL (s.A 629) n L0 (i + 2)) 0 6 = 0
      · rw [fgR_t h3] at h
        exact (inr_inl h).elim
      · rw [fgR_f h3] at h
        obtain ⟨e1, e2⟩ := Prod.mk.inj (Sum.inl.inj h)
        subst e1
        subst e2
        exact ⟨_, _, _, _, _, _, _, _, body_7c hn h300 hby x hx hb2 h1 h2 h3, u1⟩
  · rw [fgR_f h1] at h
    obtain ⟨e1, e2⟩ := Prod.mk.inj (Sum.inl.inj h)
    subst e1
    subst e2
    exact ⟨_, _, _, _, _, _, _, _, body_7a hn h300 hby x hx hb2 h1, fun m hm => rfl⟩
theorem bodyt_7 {s : Sg} {a b c : Int32} {X PA : Nat → Int32} {base : Nat} {C : Cd} {Q : List Int32} {o : Int32} {w : Bool} {n : Nat} {L0 : Lq} {i : Nat} (h12 : s.S 12 + 97 = nI base) (hn : s.S 4 = nI n) (h300 : n ≤ 300) (hby : ∀ k, k < n → 0 ≤ s.A 629 k) (x : Nat) (hx : x + 3 < base) (hb2 : base + 608 ≤ 2820) (hg : gd (s.A 629) n L0 i) (hc : C.length ≤ i) (cl : Cl) (C2 : Cd) (j : Nat) (h : clB (byteF (s.A 629) n) (tkL (s.A 629) n L0) 7 C i = .inr (cl, C2, j)) : gd (s.A 629) n L0 j ∧ C2.length ≤ j ∧ ∃ X2 a2 b2 PA2 Q2 o2 w2, Run 10 mX2_body [.ref 625, .int 7, .int (nI x)] (hp (ps (rs s 7 b c) (tkL (s.A 629) n L0 i) (gq X base C PA Q o w))) (.inl (some (.int 0))) (hp (ps (rs s a2 b2 c) (tkL (s.A 629) n L0 j) (gq X2 base C2 PA2 Q2 o2 w2))) ∧ (∀ m, m ≤ x → X2 m = X m) ∧ cl.1 = 7 ∧ X2 (x + 1) = cl.2.1 ∧ ((7 : Int32) ≤ 2 ∨ (7 : Int32) = 3 ∨ (7 : Int32) = 5 ∨ (7 : Int32) = 7 → X2 (x + 2) = cl.2.2.1) ∧ ((7 : Int32) = 3 → X2 (x + 3) = cl.2.2.2) := by
  rw [clB_hi (by decide), show bodyR (byteF (s.A 629) n) (tkL (s.A 629) n L0) 7 i = fgR (tkL (s.A 629) n L0) i 0 19 (wdR (tkL (s.A 629) n L0) (i + 1) (w2F 111 102) (fgR (tkL (s.A 629) n L0) (i + 2) 0 6 (.inr (((tkL (s.A 629) n L0 i).2.2.2.1, (tkL (s.A 629) n L0 (i + 2)).2.2.2.1, -1), i + 3)))) from rfl] at h
  by_cases h1 : figF (tkL (s.A 629) n L0 i) 0 19 = 0
  · rw [fgR_t h1] at h
    cases h2 : isWd (tkL (s.A 629) n L0 (i + 1)) (w2F 111 102)
    · rw [wdR_f h2] at h
      exact (inl_inr h).elim
    · rw [wdR_t h2] at h
      by_cases h3 : figF (tkL (s.A 629) n L0 (i + 2)) 0 6 = 0
      · rw [fgR_t h3] at h
        obtain ⟨e1, e2⟩ := Prod.mk.inj (Sum.inr.inj h)
        obtain ⟨e2, e3⟩ := Prod.mk.inj e2
        subst e1
        subst e2
        subst e3
        have g1 : gd (s.A 629) n L0 (i + 1) := gd_s hg (fig_tok h1)
        have g2 : gd (s.A 629) n L0 (i + 2) := gd_s g1 (wd_tok0 h2)
        have g3 : gd (s.A 629) n L0 (i + 3) := gd_s g2 (fig_tok h3)
        exact ⟨g3, by omega, _, _, _, _, _, _, _, body_7t hn h300 hby x hx hb2 h1 h2 h3, u2, rfl, (up_ne (by omega)).trans up_eq, fun _ => up_eq, fun z => absurd z (by decide)⟩
      · rw [fgR_f h3] at h
        exact (inl_inr h).elim
  · rw [fgR_f h1] at h
    exact (inl_inr h).elim
theorem bodyf_3 {s : Sg} {a b c : Int32} {X PA : Nat → Int32} {base : Nat} {C : Cd} {Q : List Int32} {o : Int32} {w : Bool} {n : Nat} {L0 : Lq} {i : Nat} (h12 : s.S 12 + 97 = nI base) (hn : s.S 4 = nI n) (h300 : n ≤ 300) (hby : ∀ k, k < n → 0 ≤ s.A 629 k) (x : Nat) (hx : x + 3 < base) (hb2 : base + 608 ≤ 2820) (hg : gd (s.A 629) n L0 i) (hc : C.length ≤ i) (r : Int32) (j : Nat) (h : clB (byteF (s.A 629) n) (tkL (s.A 629) n L0) 3 C i = .inl (r, j)) (hr : ¬ r = 0) : ∃ X2 a2 b2 C2 PA2 Q2 o2 w2, Run 10 mX2_body [.ref 625, .int 3, .int (nI x)] (hp (ps (rs s 3 b c) (tkL (s.A 629) n L0 i) (gq X base C PA Q o w))) (.inl (some (.int r))) (hp (ps (rs s a2 b2 c) (tkL (s.A 629) n L0 j) (gq X2 base C2 PA2 Q2 o2 w2))) ∧ ∀ m, m ≤ x → X2 m = X m := by
  rw [clB_hi (by decide), show bodyR (byteF (s.A 629) n) (tkL (s.A 629) n L0) 3 i = fgR (tkL (s.A 629) n L0) i 0 19 (wdR (tkL (s.A 629) n L0) (i + 1) (w5F 112 117 114 115 101) (fgR (tkL (s.A 629) n L0) (i + 2) 0 9999 (if isFrF (byteF (s.A 629) n) (tkL (s.A 629) n L0 (i + 3)) (cI (tkL (s.A 629) n L0 (i + 3)).2.1) = true then fgR (tkL (s.A 629) n L0) (i + 4) 0 99 (.inr (((tkL (s.A 629) n L0 i).2.2.2.1, (tkL (s.A 629) n L0 (i + 2)).2.2.2.1, (tkL (s.A 629) n L0 (i + 4)).2.2.2.1), i + 5)) else .inl (1, i + 3)))) from rfl] at h
  by_cases h1 : figF (tkL (s.A 629) n L0 i) 0 19 = 0
  · rw [fgR_t h1] at h
    cases h2 : isWd (tkL (s.A 629) n L0 (i + 1)) (w5F 112 117 114 115 101)
    · rw [wdR_f h2] at h
      obtain ⟨e1, e2⟩ := Prod.mk.inj (Sum.inl.inj h)
      subst e1
      subst e2
      exact ⟨_, _, _, _, _, _, _, _, body_3 (house_2 hn h300 hby x hx hb2 h1 h2), u1⟩
    · rw [wdR_t h2] at h
      by_cases h3 : figF (tkL (s.A 629) n L0 (i + 2)) 0 9999 = 0
      · rw [fgR_t h3] at h
        cases h4 : isFrF (byteF (s.A 629) n) (tkL (s.A 629) n L0 (i + 3)) (cI (tkL (s.A 629) n L0 (i + 3)).2.1)
        · rw [h4, if_neg (by decide)] at h
          obtain ⟨e1, e2⟩ := Prod.mk.inj (Sum.inl.inj h)
          subst e1
          subst e2
          exact ⟨_, _, _, _, _, _, _, _, body_3 (house_4 hn h300 hby x hx hb2 h1 h2 h3 h4), u2⟩
        · rw [h4, if_pos rfl] at h
          by_cases h5 : figF (tkL (s.A 629) n L0 (i + 4)) 0 99 = 0
          · rw [fgR_t h5] at h
            exact (inr_inl h).elim
          · rw [fgR_f h5] at h
            obtain ⟨e1, e2⟩ := Prod.mk.inj (Sum.inl.inj h)
            subst e1
            subst e2
            exact ⟨_, _, _, _, _, _, _, _, body_3 (house_5 hn h300 hby x hx hb2 h1 h2 h3 h4 h5), u2⟩
      · rw [fgR_f h3] at h
        obtain ⟨e1, e2⟩ := Prod.mk.inj (Sum.inl.inj h)
        subst e1
        subst e2
        exact ⟨_, _, _, _, _, _, _, _, body_3 (house_3 hn h300 hby x hx hb2 h1 h2 h3), u1⟩
  · rw [fgR_f h1] at h
    obtain ⟨e1, e2⟩ := Prod.mk.inj (Sum.inl.inj h)
    subst e1
    subst e2
    exact ⟨_, _, _, _, _, _, _, _, body_3 (house_1 hn h300 hby x hx hb2 h1), (fun m hm => rfl)⟩
theorem bodyt_3 {s : Sg} {a b c : Int32} {X PA : Nat → Int32} {base : Nat} {C : Cd} {Q : List Int32} {o : Int32} {w : Bool} {n : Nat} {L0 : Lq} {i : Nat} (h12 : s.S 12 + 97 = nI base) (hn : s.S 4 = nI n) (h300 : n ≤ 300) (hby : ∀ k, k < n → 0 ≤ s.A 629 k) (x : Nat) (hx : x + 3 < base) (hb2 : base + 608 ≤ 2820) (hg : gd (s.A 629) n L0 i) (hc : C.length ≤ i) (cl : Cl) (C2 : Cd) (j : Nat) (h : clB (byteF (s.A 629) n) (tkL (s.A 629) n L0) 3 C i = .inr (cl, C2, j)) : gd (s.A 629) n L0 j ∧ C2.length ≤ j ∧ ∃ X2 a2 b2 PA2 Q2 o2 w2, Run 10 mX2_body [.ref 625, .int 3, .int (nI x)] (hp (ps (rs s 3 b c) (tkL (s.A 629) n L0 i) (gq X base C PA Q o w))) (.inl (some (.int 0))) (hp (ps (rs s a2 b2 c) (tkL (s.A 629) n L0 j) (gq X2 base C2 PA2 Q2 o2 w2))) ∧ (∀ m, m ≤ x → X2 m = X m) ∧ cl.1 = 3 ∧ X2 (x + 1) = cl.2.1 ∧ ((3 : Int32) ≤ 2 ∨ (3 : Int32) = 3 ∨ (3 : Int32) = 5 ∨ (3 : Int32) = 7 → X2 (x + 2) = cl.2.2.1) ∧ ((3 : Int32) = 3 → X2 (x + 3) = cl.2.2.2) := by
  rw [clB_hi (by decide), show bodyR (byteF (s.A 629) n) (tkL (s.A 629) n L0) 3 i = fgR (tkL (s.A 629) n L0) i 0 19 (wdR (tkL (s.A 629) n L0) (i + 1) (w5F 112 117 114 115 101) (fgR (tkL (s.A 629) n L0) (i + 2) 0 9999 (if isFrF (byteF (s.A 629) n) (tkL (s.A 629) n L0 (i + 3)) (cI (tkL (s.A 629) n L0 (i + 3)).2.1) = true then fgR (tkL (s.A 629) n L0) (i + 4) 0 99 (.inr (((tkL (s.A 629) n L0 i).2.2.2.1, (tkL (s.A 629) n L0 (i + 2)).2.2.2.1, (tkL (s.A 629) n L0 (i + 4)).2.2.2.1), i + 5)) else .inl (1, i + 3)))) from rfl] at h
  by_cases h1 : figF (tkL (s.A 629) n L0 i) 0 19 = 0
  · rw [fgR_t h1] at h
    cases h2 : isWd (tkL (s.A 629) n L0 (i + 1)) (w5F 112 117 114 115 101)
    · rw [wdR_f h2] at h
      exact (inl_inr h).elim
    · rw [wdR_t h2] at h
      by_cases h3 : figF (tkL (s.A 629) n L0 (i + 2)) 0 9999 = 0
      · rw [fgR_t h3] at h
        cases h4 : isFrF (byteF (s.A 629) n) (tkL (s.A 629) n L0 (i + 3)) (cI (tkL (s.A 629) n L0 (i + 3)).2.1)
        · rw [h4, if_neg (by decide)] at h
          exact (inl_inr h).elim
        · rw [h4, if_pos rfl] at h
          by_cases h5 : figF (tkL (s.A 629) n L0 (i + 4)) 0 99 = 0
          · rw [fgR_t h5] at h
            obtain ⟨e1, e2⟩ := Prod.mk.inj (Sum.inr.inj h)
            obtain ⟨e2, e3⟩ := Prod.mk.inj e2
            subst e1
            subst e2
            subst e3
            have g1 : gd (s.A 629) n L0 (i + 1) := gd_s hg (fig_tok h1)
            have g2 : gd (s.A 629) n L0 (i + 2) := gd_s g1 (wd_tok0 h2)
            have g3 : gd (s.A 629) n L0 (i + 3) := gd_s g2 (fig_tok h3)
            have g4 : gd (s.A 629) n L0 (i + 4) := gd_s g3 (fr_tok0 h4)
            have g5 : gd (s.A 629) n L0 (i + 5) := gd_s g4 (fig_tok h5)
            have hb9 := body_3 (s := s) (a := 3) (b := b) (c := c) (X := X) (PA := PA) (C := C) (Q := Q) (o := o) (w := w) (house_t hn h300 hby x hx hb2 h1 h2 h3 h4 h5)
            generalize (tkL (s.A 629) n L0 i).2.2.2.1 = v0 at hb9 ⊢
            generalize (tkL (s.A 629) n L0 (i + 2)).2.2.2.1 = v2 at hb9 ⊢
            generalize (tkL (s.A 629) n L0 (i + 4)).2.2.2.1 = v4 at hb9 ⊢
            exact ⟨g5, by omega, _, _, _, _, _, _, _, hb9, u3, rfl, (up_ne (by omega)).trans ((up_ne (by omega)).trans up_eq), fun _ => (up_ne (by omega)).trans up_eq, fun _ => up_eq⟩
          · rw [fgR_f h5] at h
            exact (inl_inr h).elim
      · rw [fgR_f h3] at h
        exact (inl_inr h).elim
  · rw [fgR_f h1] at h
    exact (inl_inr h).elim
theorem body_f {s : Sg} {a b c : Int32} {X PA : Nat → Int32} {base : Nat} {C : Cd} {Q : List Int32} {o : Int32} {w : Bool} {n : Nat} {L0 : Lq} {i : Nat} {so : Int32} (hso : so = 0 ∨ so = 1 ∨ so = 2 ∨ so = 3 ∨ so = 4 ∨ so = 5 ∨ so = 6 ∨ so = 7 ∨ so = 8) (h12 : s.S 12 + 97 = nI base) (hn : s.S 4 = nI n) (h300 : n ≤ 300) (hby : ∀ k, k < n → 0 ≤ s.A 629 k) (x : Nat) (hx : x + 3 < base) (hb2 : base + 608 ≤ 2820) (hg : gd (s.A 629) n L0 i) (hc : C.length ≤ i) (r : Int32) (j : Nat) (h : clB (byteF (s.A 629) n) (tkL (s.A 629) n L0) so C i = .inl (r, j)) (hr : ¬ r = 0) : ∃ X2 a2 b2 C2 PA2 Q2 o2 w2, Run 10 mX2_body [.ref 625, .int so, .int (nI x)] (hp (ps (rs s so b c) (tkL (s.A 629) n L0 i) (gq X base C PA Q o w))) (.inl (some (.int r))) (hp (ps (rs s a2 b2 c) (tkL (s.A 629) n L0 j) (gq X2 base C2 PA2 Q2 o2 w2))) ∧ ∀ m, m ≤ x → X2 m = X m := by
  rcases hso with rfl | rfl | rfl | rfl | rfl | rfl | rfl | rfl | rfl
  · exact bodyf_0 (a := a) h12 hn h300 hby x hx hb2 hg hc r j h hr
  · exact bodyf_1 (a := a) h12 hn h300 hby x hx hb2 hg hc r j h hr
  · exact bodyf_2 (a := a) h12 hn h300 hby x hx hb2 hg hc r j h hr
  · exact bodyf_3 (a := a) h12 hn h300 hby x hx hb2 hg hc r j h hr
  · exact bodyf_4 (a := a) h12 hn h300 hby x hx hb2 hg hc r j h hr
  · exact bodyf_5 (a := a) h12 hn h300 hby x hx hb2 hg hc r j h hr
  · exact bodyf_6 (a := a) h12 hn h300 hby x hx hb2 hg hc r j h hr
  · exact bodyf_7 (a := a) h12 hn h300 hby x hx hb2 hg hc r j h hr
  · exact bodyf_8 (a := a) h12 hn h300 hby x hx hb2 hg hc r j h hr
theorem body_t {s : Sg} {a b c : Int32} {X PA : Nat → Int32} {base : Nat} {C : Cd} {Q : List Int32} {o : Int32} {w : Bool} {n : Nat} {L0 : Lq} {i : Nat} {so : Int32} (hso : so = 0 ∨ so = 1 ∨ so = 2 ∨ so = 3 ∨ so = 4 ∨ so = 5 ∨ so = 6 ∨ so = 7 ∨ so = 8) (h12 : s.S 12 + 97 = nI base) (hn : s.S 4 = nI n) (h300 : n ≤ 300) (hby : ∀ k, k < n → 0 ≤ s.A 629 k) (x : Nat) (hx : x + 3 < base) (hb2 : base + 608 ≤ 2820) (hg : gd (s.A 629) n L0 i) (hc : C.length ≤ i) (cl : Cl) (C2 : Cd) (j : Nat) (h : clB (byteF (s.A 629) n) (tkL (s.A 629) n L0) so C i = .inr (cl, C2, j)) : gd (s.A 629) n L0 j ∧ C2.length ≤ j ∧ ∃ X2 a2 b2 PA2 Q2 o2 w2, Run 10 mX2_body [.ref 625, .int so, .int (nI x)] (hp (ps (rs s so b c) (tkL (s.A 629) n L0 i) (gq X base C PA Q o w))) (.inl (some (.int 0))) (hp (ps (rs s a2 b2 c) (tkL (s.A 629) n L0 j) (gq X2 base C2 PA2 Q2 o2 w2))) ∧ (∀ m, m ≤ x → X2 m = X m) ∧ cl.1 = so ∧ X2 (x + 1) = cl.2.1 ∧ (so ≤ 2 ∨ so = 3 ∨ so = 5 ∨ so = 7 → X2 (x + 2) = cl.2.2.1) ∧ (so = 3 → X2 (x + 3) = cl.2.2.2) := by
  rcases hso with rfl | rfl | rfl | rfl | rfl | rfl | rfl | rfl | rfl
  · exact bodyt_0 (a := a) h12 hn h300 hby x hx hb2 hg hc cl C2 j h
  · exact bodyt_1 (a := a) h12 hn h300 hby x hx hb2 hg hc cl C2 j h
  · exact bodyt_2 (a := a) h12 hn h300 hby x hx hb2 hg hc cl C2 j h
  · exact bodyt_3 (a := a) h12 hn h300 hby x hx hb2 hg hc cl C2 j h
  · exact bodyt_4 (a := a) h12 hn h300 hby x hx hb2 hg hc cl C2 j h
  · exact bodyt_5 (a := a) h12 hn h300 hby x hx hb2 hg hc cl C2 j h
  · exact bodyt_6 (a := a) h12 hn h300 hby x hx hb2 hg hc cl C2 j h
  · exact bodyt_7 (a := a) h12 hn h300 hby x hx hb2 hg hc cl C2 j h
  · exact bodyt_8 (a := a) h12 hn h300 hby x hx hb2 hg hc cl C2 j h
