/-! YARD: the model's parser as it goes on from a place: what is said of the rest -/
set_option maxRecDepth 100000
def Cy (s : Sg) (base n : Nat) (e lets : Bool) : Prop := s.S 12 + 97 = nI base ∧ base + 608 ≤ 2820 ∧ s.S 4 = nI n ∧ n ≤ 300 ∧ (∀ k, k < n → 0 ≤ s.A 629 k) ∧ s.S 19 = b2i e ∧ (s.S 14 = 2 ↔ lets = true)
def ls3 (e : Bool) : List (Option Value) := [some (.ref 625), some (.int (b2i e)), none]
def Go (s : Sg) (X : Nat → Int32) (base n : Nat) (L0 : Lq) (e : Bool) (oo : OR) (Qf : AH → Prop) (i : Nat) (C : Cd) (Q : List Int32) (o : Int32) (w : Bool) : Prop :=
  ∀ PA, pileR PA Q → AX Qf 8 mX2_parsed (hp (ps s (tkL (s.A 629) n L0 i) (gq X base C PA Q o w))) 20 [some (.ref 625), some (.int (b2i e)), none] [] oo
def Fl (s : Sg) (X : Nat → Int32) (base n : Nat) (L0 : Lq) (oo : OR) (Qf : AH → Prop) (r : Int32) (i : Nat) : Prop :=
  oo = .inl (some (.int r)) ∧ ∀ C PA Q o w, Qf (hp (ps s (tkL (s.A 629) n L0 i) (gq X base C PA Q o w)))
def En (s : Sg) (X : Nat → Int32) (base n : Nat) (L0 : Lq) (e : Bool) (oo : OR) (Qf : AH → Prop) (i : Nat) (C : Cd) (Q : List Int32) (o : Int32) : Prop :=
  ∀ Q1 C1 o1, settleL 7 Q C o = (Q1, C1, o1) → ((∀ q Q2, Q1 = q :: Q2 → ¬ q = 41) → Go s X base n L0 e oo Qf i C1 Q1 o1 true) ∧
    ∀ Q2, Q1 = 41 :: Q2 → (isWd (tkL (s.A 629) n L0 i) (w2F 111 102) = true → Go s X base n L0 e oo Qf (i + 1) C1 (7 :: Q2) o1 false) ∧ (isWd (tkL (s.A 629) n L0 i) (w2F 111 102) = false → Fl s X base n L0 oo Qf 1 i)
section YD
variable {s : Sg} {X : Nat → Int32} {base n : Nat} {L0 : Lq} {e lets : Bool} {oo : OR} {Qf : AH → Prop} {i : Nat} {C : Cd} {Q : List Int32} {o : Int32} {w : Bool} {PA : Nat → Int32}
theorem end_run (cx : Cy s base n e lets) (hl : Q.length ≤ 160) (hc : C.length + Q.length ≤ 304) (hE : En s X base n L0 e oo Qf i C Q o) (hq : pileR PA Q) : ∃ r h2, Run 4 mX2_endOne [.ref 625] (hp (ps s (tkL (s.A 629) n L0 i) (gq X base C PA Q o w))) (.inl (some (.int r))) h2 ∧ ((r = 0 ∧ AX Qf 8 mX2_parsed h2 20 [some (.ref 625), some (.int (b2i e)), none] [] oo) ∨ (0 < r ∧ oo = .inl (some (.int r)) ∧ Qf h2)) := by
  obtain ⟨hb, hb2, hn, h300, hby, he, hlt⟩ := cx
  rcases hr : settleL 7 Q C o with ⟨Q1, C1, o1⟩
  have hst := hE Q1 C1 o1 hr
  obtain ⟨hp1, hl1, hc1⟩ := settle_p hr hq
  by_cases h41 : ∃ Q2, Q1 = 41 :: Q2
  · obtain ⟨Q2, rfl⟩ := h41
    obtain ⟨ht, hf⟩ := hst.2 Q2 rfl
    cases hw : isWd (tkL (s.A 629) n L0 i) (w2F 111 102)
    · refine ⟨1, _, r_X2_endOne_f hb hb2 hq hl hc hr hw, Or.inr ⟨by decide, (hf hw).1, (hf hw).2 _ _ _ _ _⟩⟩
    · have hL := tk_L (t := s.A 629) (L0 := L0) h300 i
      refine ⟨0, _, r_X2_endOne_t hb hb2 hq hl hc hr n hn h300 hby _ hL.2 hL.1 hw, Or.inl ⟨rfl, ?_⟩⟩
      exact ht hw _ ⟨up_eq, pileR_up (Nat.le_refl _) hp1.2⟩
  · refine ⟨0, _, r_X2_endOne_n hb hb2 hq hl hc hr (fun q Q2 h z => h41 ⟨Q2, z ▸ h⟩), Or.inl ⟨rfl, ?_⟩⟩
    exact hst.1 (fun q Q2 h z => h41 ⟨Q2, z ▸ h⟩) _ hp1
/-- what a call leaves: it goes on, or it ends -/
def Nx (e : Bool) (oo : OR) (Qf : AH → Prop) (r : Int32) (h2 : AH) : Prop := (r = 0 ∧ AX Qf 8 mX2_parsed h2 20 [some (.ref 625), some (.int (b2i e)), none] [] oo) ∨ (0 < r ∧ oo = .inl (some (.int r)) ∧ Qf h2)
theorem go_beg (h : ∀ PA, pileR PA Q → ∃ r h2, Run 7 mX2_beginOne [.ref 625] (hp (ps s (tkL (s.A 629) n L0 i) (gq X base C PA Q o false))) (.inl (some (.int r))) h2 ∧ Nx e oo Qf r h2) : Go s X base n L0 e oo Qf i C Q o false := fun PA hq => by
  obtain ⟨r, h2, hr, hx⟩ := h PA hq
  rcases hx with ⟨rfl, h', q, k⟩ | ⟨h0, rfl, q⟩
  · exact ⟨h', q, parsed_b0 rfl hr k⟩
  · exact ⟨h2, q, parsed_bf (oo := .inl none) (hh := h2) rfl hr h0⟩
theorem go_beh (h : ∀ PA, pileR PA Q → ∃ r h2, Run 7 mX2_behindOne [.ref 625] (hp (ps s (tkL (s.A 629) n L0 i) (gq X base C PA Q o true))) (.inl (some (.int r))) h2 ∧ Nx e oo Qf r h2) : Go s X base n L0 e oo Qf i C Q o true := fun PA hq => by
  obtain ⟨r, h2, hr, hx⟩ := h PA hq
  rcases hx with ⟨rfl, h', q, k⟩ | ⟨h0, rfl, q⟩
  · exact ⟨h', q, parsed_w0 rfl hr k⟩
  · exact ⟨h2, q, parsed_wf (oo := .inl none) (hh := h2) rfl hr h0⟩
theorem fl_nx {r : Int32} (h0 : 0 < r) (h : Fl s X base n L0 oo Qf r i) : Nx e oo Qf r (hp (ps s (tkL (s.A 629) n L0 i) (gq X base C PA Q o w))) := Or.inr ⟨h0, h.1, h.2 _ _ _ _ _⟩
end YD
