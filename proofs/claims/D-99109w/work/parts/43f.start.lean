/-! START 2: classes, arrays, statics, the interface's calls (printed by tools/xfx.py) -/
set_option maxRecDepth 100000
theorem fx_cls {b : Nat} {s : State} (ht : ∀ w ∈ lw_tbl, w.before #[Value.ref b] s = true) : ∃ D : va_G, ∀ (c : Nat) (q : vw_C), clL[c]? = some q → u_Kn s q.1 q.2.1 q.2.2 (D.1 c) (D.2 c) := by
  have ha : ∀ w ∈ lw_all, w.before #[Value.ref b] s = true := fun w h => ht w (lw_all_tbl h)
  have h0 : ∀ c : Nat, ∃ z : ClassId × (Nat → Nat), ∀ q : vw_C, clL[c]? = some q → u_Kn s q.1 q.2.1 q.2.2 z.1 z.2 := by
    intro c
    match c with
    | 0 =>
      obtain ⟨a, f, h⟩ := u_known (C := RX0) (T := TX0) (N := 12) (n := 12) ha ci0.2.1 (ha _ q173)
      exact ⟨(a, f), fun q hq => by obtain rfl := Option.some.inj (ci0.1.symm.trans hq); exact h⟩
    | 1 =>
      obtain ⟨a, f, h⟩ := u_known (C := RX1) (T := TX1) (N := 6) (n := 6) ha ci1.2.1 (ha _ q181)
      exact ⟨(a, f), fun q hq => by obtain rfl := Option.some.inj (ci1.1.symm.trans hq); exact h⟩
    | 2 =>
      obtain ⟨a, f, h⟩ := u_known (C := RX2) (T := TX2) (N := 36) (n := 36) ha ci2.2.1 (ha _ q1343)
      exact ⟨(a, f), fun q hq => by obtain rfl := Option.some.inj (ci2.1.symm.trans hq); exact h⟩
    | 3 =>
      obtain ⟨a, f, h⟩ := u_known (C := RX3) (T := TX3) (N := 8) (n := 8) ha ci3.2.1 (ha _ q299)
      exact ⟨(a, f), fun q hq => by obtain rfl := Option.some.inj (ci3.1.symm.trans hq); exact h⟩
    | 4 =>
      obtain ⟨a, f, h⟩ := u_known (C := RX4) (T := TX4) (N := 5) (n := 5) ha ci4.2.1 (ha _ q334)
      exact ⟨(a, f), fun q hq => by obtain rfl := Option.some.inj (ci4.1.symm.trans hq); exact h⟩
    | 5 =>
      obtain ⟨a, f, h⟩ := u_known (C := RX5) (T := TX5) (N := 8) (n := 8) ha ci5.2.1 (ha _ q460)
      exact ⟨(a, f), fun q hq => by obtain rfl := Option.some.inj (ci5.1.symm.trans hq); exact h⟩
    | 6 =>
      obtain ⟨a, f, h⟩ := u_known (C := RX6) (T := TX6) (N := 3) (n := 3) ha ci6.2.1 (ha _ q528)
      exact ⟨(a, f), fun q hq => by obtain rfl := Option.some.inj (ci6.1.symm.trans hq); exact h⟩
    | 7 =>
      obtain ⟨a, f, h⟩ := u_known (C := RX7) (T := TX7) (N := 1) (n := 1) ha ci7.2.1 (ha _ q538)
      exact ⟨(a, f), fun q hq => by obtain rfl := Option.some.inj (ci7.1.symm.trans hq); exact h⟩
    | 8 =>
      obtain ⟨a, f, h⟩ := u_known (C := RX8) (T := TX8) (N := 2) (n := 2) ha ci8.2.1 (ha _ q567)
      exact ⟨(a, f), fun q hq => by obtain rfl := Option.some.inj (ci8.1.symm.trans hq); exact h⟩
    | 9 =>
      obtain ⟨a, f, h⟩ := u_known (C := RX9) (T := TX9) (N := 1) (n := 1) ha ci9.2.1 (ha _ q588)
      exact ⟨(a, f), fun q hq => by obtain rfl := Option.some.inj (ci9.1.symm.trans hq); exact h⟩
    | 10 =>
      obtain ⟨a, f, h⟩ := u_known (C := RX10) (T := TX10) (N := 1) (n := 1) ha ci10.2.1 (ha _ q598)
      exact ⟨(a, f), fun q hq => by obtain rfl := Option.some.inj (ci10.1.symm.trans hq); exact h⟩
    | 11 =>
      obtain ⟨a, f, h⟩ := u_known (C := RX11) (T := TX11) (N := 1) (n := 1) ha ci11.2.1 (ha _ q731)
      exact ⟨(a, f), fun q hq => by obtain rfl := Option.some.inj (ci11.1.symm.trans hq); exact h⟩
    | 12 =>
      obtain ⟨a, f, h⟩ := u_known (C := RX12) (T := TX12) (N := 2) (n := 2) ha ci12.2.1 (ha _ q745)
      exact ⟨(a, f), fun q hq => by obtain rfl := Option.some.inj (ci12.1.symm.trans hq); exact h⟩
    | 13 =>
      obtain ⟨a, f, h⟩ := u_known (C := RX13) (T := TX13) (N := 3) (n := 3) ha ci13.2.1 (ha _ q758)
      exact ⟨(a, f), fun q hq => by obtain rfl := Option.some.inj (ci13.1.symm.trans hq); exact h⟩
    | 14 =>
      obtain ⟨a, f, h⟩ := u_known (C := RX14) (T := TX14) (N := 2) (n := 2) ha ci14.2.1 (ha _ q792)
      exact ⟨(a, f), fun q hq => by obtain rfl := Option.some.inj (ci14.1.symm.trans hq); exact h⟩
    | 15 =>
      obtain ⟨a, f, h⟩ := u_known (C := RX15) (T := TX15) (N := 5) (n := 5) ha ci15.2.1 (ha _ q813)
      exact ⟨(a, f), fun q hq => by obtain rfl := Option.some.inj (ci15.1.symm.trans hq); exact h⟩
    | 16 =>
      obtain ⟨a, f, h⟩ := u_known (C := RJ2) (T := TJ2) (N := 3) (n := 3) ha ci16.2.1 (ha _ q340)
      exact ⟨(a, f), fun q hq => by obtain rfl := Option.some.inj (ci16.1.symm.trans hq); exact h⟩
    | 17 =>
      obtain ⟨a, f, h⟩ := u_known (C := RJ12) (T := TJ12) (N := 1) (n := 1) ha ci17.2.1 (ha _ q635)
      exact ⟨(a, f), fun q hq => by obtain rfl := Option.some.inj (ci17.1.symm.trans hq); exact h⟩
    | c + 18 => exact ⟨(0, fun _ => 0), fun q hq => by rw [List.getElem?_eq_none (show 18 ≤ c + 18 by omega)] at hq; cases hq⟩
  obtain ⟨z, hz⟩ := Classical.axiomOfChoice h0
  exact ⟨(fun c => (z c).1, fun c => (z c).2), hz⟩
theorem arr_of {s : State} {cell : Cell} {ty : FieldType} (h : s.isArrayOf cell ty) : ArrOfT s cell.cls ty := fun _ _ => ⟨fun k h => by cases h, h.2⟩
theorem arr_k {s : State} {c comp : ClassId} {k : Class} {ty : FieldType} (h1 : s.vm.classes[c]? = some k) (h2 : k.kind = .array comp ty) : ArrOfT s c ty := fun _ _ => ⟨fun k h => by cases h, k, h1, comp, h2⟩
theorem fx_arr {b : Nat} {s : State} (ht : ∀ w ∈ lw_tbl, w.before #[Value.ref b] s = true) : ∃ ac : Nat → ClassId, ∀ (k : Nat) (ty : FieldType), atL[k]? = some ty → ArrOfT s (ac k) ty ∧ va_RA s (ac k) ty := by
  have ha : ∀ w ∈ lw_all, w.before #[Value.ref b] s = true := fun w h => ht w (lw_all_tbl h)
  have h0 : ∀ k : Nat, ∃ c : ClassId, ∀ ty : FieldType, atL[k]? = some ty → ArrOfT s c ty ∧ va_RA s c ty := by
    intro k
    match k with
    | 0 =>
      obtain ⟨c, k, comp, h1, h2, h3⟩ := Cond.arrayClass_spec (ha _ q215)
      exact ⟨c, fun ty hq => by cases hq; exact ⟨arr_k h2 h3, h1⟩⟩
    | 1 =>
      obtain ⟨c, k, comp, h1, h2, h3⟩ := Cond.arrayClass_spec (ha _ q266)
      exact ⟨c, fun ty hq => by cases hq; exact ⟨arr_k h2 h3, h1⟩⟩
    | 2 =>
      obtain ⟨c, k, comp, h1, h2, h3⟩ := Cond.arrayClass_spec (ha _ q1461)
      exact ⟨c, fun ty hq => by cases hq; exact ⟨arr_k h2 h3, h1⟩⟩
    | 3 =>
      obtain ⟨c, k, comp, h1, h2, h3⟩ := Cond.arrayClass_spec (ha _ q1460)
      exact ⟨c, fun ty hq => by cases hq; exact ⟨arr_k h2 h3, h1⟩⟩
    | 4 =>
      obtain ⟨comp, c, k, h1, h2, h3, h4⟩ := Cond.arrayOver_specA (ht _ q187)
      exact ⟨c, fun ty hq => by cases hq; exact ⟨arr_k h2 h3, h4⟩⟩
    | 5 =>
      obtain ⟨comp, c, k, h1, -, h2, h3, h4⟩ := Cond.arrayOver_spec (ht _ q189)
      exact ⟨c, fun ty hq => by cases hq; exact ⟨arr_k h2 h3, k, comp, h2, h3, h1, h4⟩⟩
    | 6 =>
      obtain ⟨comp, c, k, h1, -, h2, h3, h4⟩ := Cond.arrayOver_spec (ht _ q702)
      exact ⟨c, fun ty hq => by cases hq; exact ⟨arr_k h2 h3, k, comp, h2, h3, h1, h4⟩⟩
    | k + 7 => exact ⟨0, fun ty hq => by rw [List.getElem?_eq_none (show 7 ≤ k + 7 by omega)] at hq; cases hq⟩
  obtain ⟨z, hz⟩ := Classical.axiomOfChoice h0
  exact ⟨z, hz⟩
theorem zq_of {b : Nat} {s : State} {C n d : String} (hl : (Cond.laysStatic C n d).before #[Value.ref b] s = true) (hini : (Cond.initialized C).before #[Value.ref b] s = true) (h : (Cond.isRef (.static C n d)).before #[Value.ref b] s = true) : ∃ q : Option Nat, va_Z C n d (va_rf q) (AS s) s s.heap := by
  rcases va_Zqof (A := AS s) hl hini h AS_no with z | ⟨t, z⟩
  · exact ⟨none, z⟩
  · exact ⟨some t, z⟩
theorem vxl_of {b : Nat} {s : State} {C n d : String} (hl : (Cond.laysStatic C n d).before #[Value.ref b] s = true) : vx_L C n d (AS s) s s.heap := by
  obtain ⟨c, k, i, f, a, cell, h1, h2, h3, h4, h5, h6, h7, h8, h9⟩ := Cond.laysStatic_spec hl
  exact ⟨c, k, i, f, a, cell, h1, h2, h3, h4, h5, h6, h7, h8, h9, AS_no a (Array.getElem?_eq_some_iff.mp h5).1⟩
theorem fx_nw {b : Nat} {s : State} (ht : ∀ w ∈ lw_tbl, w.before #[Value.ref b] s = true) : ∀ w ∈ nwF, va_Nw w s := by
  intro w hw
  obtain ⟨h1, h2⟩ := List.mem_filter.mp hw
  have h := ht w h1
  cases w <;> first | (simp at h2; done) | exact h
theorem fx_fw {b : Nat} {s : State} (ht : ∀ w ∈ lw_tbl, w.before #[Value.ref b] s = true) : ∀ q ∈ fwL, va_Fw q.1 q.2.1 q.2.2 s := by
  unfold fwL
  exact (List.forall_mem_cons.mpr ⟨va_Fw.of (ht _ q907) (ht _ q906) (ht _ q912) (ht _ q910) (ht _ q908), (List.forall_mem_cons.mpr ⟨va_Fw.of (ht _ q907) (ht _ q906) (ht _ q942) (ht _ q940) (ht _ q938), (List.forall_mem_cons.mpr ⟨va_Fw.of (ht _ q907) (ht _ q906) (ht _ q920) (ht _ q918) (ht _ q916), (List.forall_mem_cons.mpr ⟨va_Fw.of (ht _ q907) (ht _ q906) (ht _ q936) (ht _ q934) (ht _ q932), (List.forall_mem_cons.mpr ⟨va_Fw.of (ht _ q907) (ht _ q906) (ht _ q928) (ht _ q926) (ht _ q924), (List.forall_mem_cons.mpr ⟨va_Fw.of (ht _ q995) (ht _ q994) (ht _ q1027) (ht _ q1025) (ht _ q1023), (List.forall_mem_cons.mpr ⟨va_Fw.of (ht _ q995) (ht _ q994) (ht _ q1019) (ht _ q1017) (ht _ q1015), (List.forall_mem_cons.mpr ⟨va_Fw.of (ht _ q995) (ht _ q994) (ht _ q1011) (ht _ q1009) (ht _ q1007), (List.forall_mem_cons.mpr ⟨va_Fw.of (ht _ q995) (ht _ q994) (ht _ q1000) (ht _ q998) (ht _ q996), (fun q hq => by cases hq)⟩)⟩)⟩)⟩)⟩)⟩)⟩)⟩)⟩)
