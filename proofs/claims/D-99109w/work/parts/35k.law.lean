/-! LAW: a text that was read is a text with its laws (by hand) -/
set_option maxRecDepth 100000
theorem SlotG.sum {b : AH} {lo X Dl E : Nat} {v : Value} {f : Option SumF} (h : SlotG yzSum (fun F N => .long (F N)) b lo X Dl E v f) : SlotS b v f := by
  cases f with
  | none => exact h
  | some F =>
    obtain ⟨a, lo1, hi1, h1, h2, -⟩ := h
    exact ⟨a, lo1, hi1, h1, h2⟩
theorem SlotG.ask {b : AH} {lo X Dl E : Nat} {v : Value} {f : Option AskF} (h : SlotG yzAsk (fun F N => .int (b2i (F N))) b lo X Dl E v f) : SlotA b v f := by
  cases f with
  | none => exact h
  | some F =>
    obtain ⟨a, lo1, hi1, h1, h2, -⟩ := h
    exact ⟨a, lo1, hi1, h1, h2⟩
theorem lwOne.ext {β : Type} {P : Cd → ((Nat → Int32) → β) → Prop} {so : Int32} {cls : List Cl} {C : Cd} {o : Option ((Nat → Int32) → β)} (h : lwOne P so cls C o) (hP : ∀ q F, P q F → extF (some F)) : extF o := by
  cases o with
  | none => exact fun F e => absurd e.symm (Option.some_ne_none F)
  | some F =>
    obtain ⟨p, q, r, -, -, h3⟩ := h
    exact hP q F h3
theorem RdS.law {b : AH} {lo X Dl ix : Nat} {cls : List Cl} {C : Cd} {L : Lw} (h : RdS b lo X Dl ix cls C L) : LawT b X L ∧ extL L := by
  obtain ⟨E, ve, vl, vq, dv, ⟨h1, h2, h3, h4, h5, h6, h7⟩, h8, h9, h10, ⟨s1, s2, s3⟩, l0, l1, l2⟩ := h
  exact ⟨⟨Or.inr (by omega), h3, ve, vl, vq, _, _, h8, s1.sum, s2.sum, s3.ask⟩, l0.ext (fun q F h => h.2.1.1), l1.ext (fun q F h => h.2.1.1), l2.ext (fun q F h => h.1.1)⟩
