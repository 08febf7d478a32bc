/-! CALLS: a method's entry, its end, and calls, over Run -/
set_option maxRecDepth 100000
def entL : List Value → List (Option Value)
  | [] => []
  | v :: vs => if v.category = 2 then some v :: none :: entL vs else some v :: entL vs
theorem entL_len (vs : List Value) : (entL vs).length = (lg_sl vs).length := by
  induction vs with
  | nil => rfl
  | cons v vs ih =>
    unfold entL
    have e : lg_sl (v :: vs) = (if v.category = 2 then [Slot.val v, .second] else [.val v]) ++ lg_sl vs := rfl
    rw [e]
    by_cases h : v.category = 2
    · rw [if_pos h, if_pos h]; simp [ih]
    · rw [if_neg h, if_neg h]; simp [ih]
theorem entL_args {E : EE} (vs : List Value) : ∀ (i k : Nat) (v : Value), (entL vs)[k]? = some (some v) → (i + k, cv E v) ∈ lv_args i (vs.map (cv E)) := by
  induction vs with
  | nil => intro i k v h; simp [entL] at h
  | cons w vs ih =>
    intro i k v h
    unfold entL at h
    rw [List.map_cons]
    unfold lv_args
    rw [cv_cat]
    by_cases hw : w.category = 2
    · rw [if_pos hw] at h ⊢
      match k, h with
      | 0, h => cases h; exact List.mem_cons_self
      | 1, h => cases h
      | k + 2, h =>
        have := ih (i + 2) k v h
        rw [show i + 2 + k = i + (k + 2) by omega] at this
        exact List.mem_cons_of_mem _ this
    · rw [if_neg hw] at h ⊢
      match k, h with
      | 0, h => cases h; exact List.mem_cons_self
      | k + 1, h =>
        have := ih (i + 1) k v h
        rw [show i + 1 + k = i + (k + 1) by omega] at this
        exact List.mem_cons_of_mem _ this
theorem sl_cv {E : EE} (vs : List Value) : (lg_sl (vs.map (cv E))).length = (lg_sl vs).length := by
  induction vs with
  | nil => rfl
  | cons v vs ih =>
    have e : lg_sl (v :: vs) = (if v.category = 2 then [Slot.val v, .second] else [.val v]) ++ lg_sl vs := rfl
    have e2 : lg_sl ((v :: vs).map (cv E)) = (if (cv E v).category = 2 then [Slot.val (cv E v), .second] else [.val (cv E v)]) ++ lg_sl (vs.map (cv E)) := rfl
    rw [e, e2, cv_cat]
    by_cases h : v.category = 2
    · rw [if_pos h, if_pos h]; simp [ih]
    · rw [if_neg h, if_neg h]; simp [ih]
/-- a method from its entry on -/
theorem Run.of {d : Nat} {M : Mt} {av : List Value} {h : AH} {r : Option Value} {h2 : AH} (hy : plainName M.1.cls = true) (hlen : (entL av).length ≤ M.2.2.1) {ls : List (Option Value)} (hls : entL av ++ List.replicate (M.2.2.1 - (entL av).length) none = ls) (k : AW d M h 0 ls [] (.inl r) h2) : Run d M av h (.inl r) h2 := by
  subst hls
  refine ⟨k.1, k.2.1, fun E => ?_⟩
  show Met _ _ _ _ _ _ _ _ _
  refine Met.ofW (cc := M.2.1) (maxL := M.2.2.1) (ret := M.2.2.2) hy rfl ?_
  intro p e s m args below meth c s1 B hml hv
  obtain ⟨rfl, hF, hR⟩ := hv
  have hts := atoms_spec (ws := ws_ M.1 M.2.1 M.2.2.1 M.2.2.2) B.pre
  have hts : ∀ w ∈ lw_all, w.before _ s = true := fun w h => hts w (List.mem_cons_of_mem _ h)
  have hC : Cx E d M p s m (av.map (cv E)).toArray meth c h.n := ⟨B.exec, B.bytes, B.returns, hml, findClass_of_methodNamed B.named, hts, B.notSynchronized, (name_of_methodNamed B.named B.method).1, hF, hR.1, fun w => x_tab0 B (hts _ w), fun hh w => x_tabH B (hts _ w)⟩
  have hl := lv_entry (av.map (cv E)) (n := M.2.2.1) (by rw [sl_cv, ← entL_len]; exact hlen)
  rw [lg_entry_eq]
  have hL : LR E ((lg_sl (av.map (cv E)) ++ List.replicate (M.2.2.1 - (lg_sl (av.map (cv E))).length) Slot.unset).toArray) (entL av ++ List.replicate (M.2.2.1 - (entL av).length) none) := by
    refine ⟨by rw [hl.1]; simp; omega, hl.2.1, fun k v hk => ?_⟩
    by_cases hkl : k < (entL av).length
    · rw [List.getElem?_append_left hkl] at hk
      have := entL_args (E := E) av 0 k v hk
      rw [Nat.zero_add] at this
      exact hl.2.2 _ this
    · rw [List.getElem?_append_right (by omega), List.getElem?_replicate] at hk
      split at hk <;> simp at hk
  have := k.2.2.2 E p e s m _ below meth c h.n h.u s.heap [] _ hC (Nat.le_refl _) (Nat.le_refl _) va_S.rf hR hL
  rw [Nat.sub_self, Nat.sub_self] at this
  exact this
/-- a method from its entry on, that throws -/
theorem Run.ofX {d : Nat} {M : Mt} {av : List Value} {h : AH} {q : Nat} {h2 : AH} (hy : plainName M.1.cls = true) (hlen : (entL av).length ≤ M.2.2.1) {ls : List (Option Value)} (hls : entL av ++ List.replicate (M.2.2.1 - (entL av).length) none = ls) (k : AW d M h 0 ls [] (.inr q) h2) : Run d M av h (.inr q) h2 := by
  subst hls
  refine ⟨k.1, k.2.1, fun E => ?_⟩
  show xMet _ _ _ _ _ _ _ _ _
  refine xMet.ofW (cc := M.2.1) (maxL := M.2.2.1) (ret := M.2.2.2) hy rfl ?_
  intro p e s m args below meth c s1 B hml hv
  obtain ⟨rfl, hF, hR⟩ := hv
  have hts := atoms_spec (ws := ws_ M.1 M.2.1 M.2.2.1 M.2.2.2) B.pre
  have hts : ∀ w ∈ lw_all, w.before _ s = true := fun w h => hts w (List.mem_cons_of_mem _ h)
  have hC : Cx E d M p s m (av.map (cv E)).toArray meth c h.n := ⟨B.exec, B.bytes, B.returns, hml, findClass_of_methodNamed B.named, hts, B.notSynchronized, (name_of_methodNamed B.named B.method).1, hF, hR.1, fun w => x_tab0 B (hts _ w), fun hh w => x_tabH B (hts _ w)⟩
  have hl := lv_entry (av.map (cv E)) (n := M.2.2.1) (by rw [sl_cv, ← entL_len]; exact hlen)
  rw [lg_entry_eq]
  have hL : LR E ((lg_sl (av.map (cv E)) ++ List.replicate (M.2.2.1 - (lg_sl (av.map (cv E))).length) Slot.unset).toArray) (entL av ++ List.replicate (M.2.2.1 - (entL av).length) none) := by
    refine ⟨by rw [hl.1]; simp; omega, hl.2.1, fun k v hk => ?_⟩
    by_cases hkl : k < (entL av).length
    · rw [List.getElem?_append_left hkl] at hk
      have := entL_args (E := E) av 0 k v hk
      rw [Nat.zero_add] at this
      exact hl.2.2 _ this
    · rw [List.getElem?_append_right (by omega), List.getElem?_replicate] at hk
      split at hk <;> simp at hk
  have := k.2.2.2 E p e s m _ below meth c h.n h.u s.heap [] _ hC (Nat.le_refl _) (Nat.le_refl _) va_S.rf hR hL
  rw [Nat.sub_self, Nat.sub_self] at this
  exact this
theorem Fx.end {E : EE} {s t : State} {H : Heap} {locs : List Loc} (hF : Fx E s) (hz : EB E ≤ s.heap.size) (hS : va_S (EA E) s.heap H locs) (ht : t.heap = H) (hW : s.WarmedH t.vm) : Fx E t := Fx.go hW hz (fun q hq => by rw [ht]; exact hS.2.1 q (by omega) (by unfold EA; omega)) hF
section ENDS
variable {d : Nat} {M : Mt} {h : AH} {pc : Nat} {ls : List (Option Value)}
theorem AW.iret {v : Int32} (hd : decode M.2.1 pc = .ok (.ireturn, 1)) (hr : M.2.2.2 = some .int) (hz : ls.length = M.2.2.1) : AW d M h pc ls [.int v] (.inl (some (.int v))) h := by
  refine ⟨Nat.le_refl _, Nat.le_refl _, hz, ?_⟩
  intro E p e s m args below meth c n0 u0 H locs A C hn hu hS hR hL
  exact W.iret (v := v) C.1 C.2.1 (C.2.2.1.trans hr) (fun t ht hW => ⟨rfl, Fx.end C.2.2.2.2.2.2.2.2.1 (by rw [C.2.2.2.2.2.2.2.2.2.1]; omega) hS ht hW, by rw [ht]; exact hR, hS.F ht⟩) hS.2.2 hd C.2.2.2.2.2.2.1
theorem AW.zret {v : Int32} {ty : FieldType} (hd : decode M.2.1 pc = .ok (.ireturn, 1)) (hr : M.2.2.2 = some ty) (hnw : narrow ty (.int v) = .int v) (hz : ls.length = M.2.2.1) : AW d M h pc ls [.int v] (.inl (some (.int v))) h := by
  refine ⟨Nat.le_refl _, Nat.le_refl _, hz, ?_⟩
  intro E p e s m args below meth c n0 u0 H locs A C hn hu hS hR hL
  exact W.zret (v := v) C.1 C.2.1 (C.2.2.1.trans hr) hnw (fun t ht hW => ⟨rfl, Fx.end C.2.2.2.2.2.2.2.2.1 (by rw [C.2.2.2.2.2.2.2.2.2.1]; omega) hS ht hW, by rw [ht]; exact hR, hS.F ht⟩) hS.2.2 hd C.2.2.2.2.2.2.1
theorem AW.lret {v : Int64} (hd : decode M.2.1 pc = .ok (.lreturn, 1)) (hr : M.2.2.2 = some .long) (hz : ls.length = M.2.2.1) : AW d M h pc ls [.long v] (.inl (some (.long v))) h := by
  refine ⟨Nat.le_refl _, Nat.le_refl _, hz, ?_⟩
  intro E p e s m args below meth c n0 u0 H locs A C hn hu hS hR hL
  exact W.lret (v := v) C.1 C.2.1 (C.2.2.1.trans hr) (fun t ht hW => ⟨rfl, Fx.end C.2.2.2.2.2.2.2.2.1 (by rw [C.2.2.2.2.2.2.2.2.2.1]; omega) hS ht hW, by rw [ht]; exact hR, hS.F ht⟩) hS.2.2 hd C.2.2.2.2.2.2.1
theorem AW.vret (hd : decode M.2.1 pc = .ok (.return_, 1)) (hr : M.2.2.2 = none) (hz : ls.length = M.2.2.1) : AW d M h pc ls [] (.inl none) h := by
  refine ⟨Nat.le_refl _, Nat.le_refl _, hz, ?_⟩
  intro E p e s m args below meth c n0 u0 H locs A C hn hu hS hR hL
  exact W.vret C.1 C.2.1 (C.2.2.1.trans hr) (fun t ht hW => ⟨rfl, Fx.end C.2.2.2.2.2.2.2.2.1 (by rw [C.2.2.2.2.2.2.2.2.2.1]; omega) hS ht hW, by rw [ht]; exact hR, hS.F ht⟩) hS.2.2 hd C.2.2.2.2.2.2.1
theorem AW.aret {v : Value} {rt : FieldType} (hd : decode M.2.1 pc = .ok (.areturn, 1)) (hr : M.2.2.2 = some rt) (hrt : (∃ n, rt = .object n) ∨ ∃ t, rt = .array t) (hv : v = .null ∨ ∃ a, v = .ref a) (hz : ls.length = M.2.2.1) : AW d M h pc ls [v] (.inl (some v)) h := by
  refine ⟨Nat.le_refl _, Nat.le_refl _, hz, ?_⟩
  intro E p e s m args below meth c n0 u0 H locs A C hn hu hS hR hL
  exact W.aret (v := cv E v) C.1 C.2.1 (C.2.2.1.trans hr) hrt (by rcases hv with rfl | ⟨a, rfl⟩; exact Or.inl rfl; exact Or.inr ⟨_, rfl⟩) (fun t ht hW => ⟨rfl, Fx.end C.2.2.2.2.2.2.2.2.1 (by rw [C.2.2.2.2.2.2.2.2.2.1]; omega) hS ht hW, by rw [ht]; exact hR, hS.F ht⟩) hS.2.2 hd C.2.2.2.2.2.2.1
end ENDS
/-- behind a call -/
theorem after_run {E : EE} {p : Program} {e : Env} {R : Room} {s : State} {m : MethodId} {args : Array Value} {below : List Frame} {meth : Method} {c : Code} {H : Heap} {locs : List Loc} {cells slots mc ms : Nat} {Q : State → Prop} {pc : Nat} {A : Array Slot} {st0 rest : List Value} {r : Option Value} {h1 : AH} {aa : Array Value}
    (hr : va_Run p (EL E) e R s m args below meth c H locs cells slots mc ms (F0 m pc A st0) rest (Qx E r h1 aa) (EA E)) (hS : va_S (EA E) s.heap H locs)
    (kk : ∀ (H' : Heap) (locs' : List Loc), Rp E h1 H' → va_S (EA E) s.heap H' locs' → W p (EL E) e R s m args below meth c H' locs' (cells + mc) (slots + ms) Q (F0 m (pc + 3) A ((r.map (cv E)).toList ++ rest))) : W p (EL E) e R s m args below meth c H locs cells slots Q (F0 m pc A st0) := by
  intro T hT X
  obtain ⟨v, st₀, t, T', L, h0, X', hL, e1, e2, ⟨hv, hF, hRt, hFr⟩, st⟩ := hr T hT X
  cases hv
  obtain ⟨hz, hk⟩ := hFr
  rw [h0] at hz hk
  obtain ⟨t2, a1, b1⟩ := kk T'.heap (locs ++ L) (by rw [e1]; exact hRt) ⟨Nat.le_trans hS.1 (by rw [e1]; exact hz), fun q h1 h2 => by rw [e1, hk q (Nat.lt_of_lt_of_le h1 hS.1) h2]; exact hS.2.1 q h1 h2, fun q hq => by
      rcases List.mem_append.mp hq with h | h
      · exact hS.2.2 q h
      · exact hL q h⟩ T' rfl X'
  exact ⟨t2, st t2 a1, b1⟩
theorem Pw.blind (E : EE) (av : List Value) (h : AH) : FrameBlind (Pw E av h) := by
  intro a U g mk hq
  obtain ⟨q0, q1, q2⟩ := hq
  exact ⟨q0, Fx.go (s := U) (U := U.calling g mk a) (State.WarmedH.refl U) (by rw [q2.1]; omega) (fun q _ => rfl) q1, q2⟩
theorem Pw.at {E : EE} {s : State} {H : Heap} {locs : List Loc} {av : List Value} {h : AH} (hF : Fx E s) (hz : EB E ≤ s.heap.size) (hS : va_S (EA E) s.heap H locs) (hR : Rp E h H) : ∀ U : State, U.heap = H → s.WarmedH U.vm → Pw E av h (av.map (cv E)).toArray U := fun U hU hW => ⟨rfl, Fx.end hF hz hS hU hW, by rw [hU]; exact hR⟩
section CALLS
variable {d dd : Nat} {M Y : Mt} {h h1 : AH} {pc pc2 : Nat} {ls : List (Option Value)} {As rest : List Value} {r : Option Value} {o : OR} {h2 : AH}
theorem Run.met {av : List Value} (hr : Run dd Y av h (.inl r) h1) (E : EE) : Met (EL E) Y.1 (ws_ Y.1 Y.2.1 Y.2.2.1 Y.2.2.2) (rmF dd (h1.n - h.n) (h1.u - h.u)) (Pw E av h) (Qx E r h1) (h1.n - h.n) (h1.u - h.u) (EA E) := hr.2.2 E
theorem cat_cv (E : EE) (st : List Value) : ((st.map (cv E)).map fun v => v.category).sum = (st.map fun v => v.category).sum := by
  rw [List.map_map]
  congr 1
  apply List.map_congr_left
  intro v _
  exact cv_cat E v
theorem AW.callS {i n : Nat} {st : List Value} (hr : Run dd Y As h (.inl r) h1) (hdd : dd + 1 ≤ d) (hY : Y.2.2.1 ≤ 181) (w1 : Cond.methodLink M.1.cls i Y.1 ∈ lw_all) (w2 : Cond.static Y.1 ∈ lw_all) (w3 : Cond.initialized Y.1.cls ∈ lw_all) (w4 : Cond.code Y.1 Y.2.1 Y.2.2.1 Y.2.2.2 ∈ lw_all) (hd : decode M.2.1 pc = .ok (.invokestatic i, 3)) (hy : Y.1.cls ≠ "java/lang/invoke/MethodHandle" ∧ Y.1.cls ≠ "java/lang/invoke/VarHandle" ∧ (parseMethodDescriptor Y.1.desc).map (fun d => d.parameters.length) = some n) (hn : As.length = n) (hst : st = As.reverse ++ rest) (hcat : (rest.map fun v => v.category).sum ≤ 8) (hp : pc + 3 = pc2) (k : AW d M h1 pc2 ls (r.toList ++ rest) o h2) : AW d M h pc ls st o h2 := by
  subst hp
  subst hst
  refine AW.liftH k hr.1 hr.2.1 rfl (fun E p e R s m args below meth c n0 H locs cells slots Q A C hR hS hL hz hroom kk => ?_)
  have hts := C.2.2.2.2.2.1
  have hF := C.2.2.2.2.2.2.2.2.1
  have hsz : EB E ≤ s.heap.size := by rw [C.2.2.2.2.2.2.2.2.2.1]; omega
  refine after_run (r := r) (va_runS (As := As.map (cv E)) (rest := rest.map (cv E)) ⟨C.1, C.2.1, C.2.2.2.1, C.2.2.2.2.1, hts⟩ (hr.met E) (va_cwS n hts (lw_S w1 w2 w3 w4) rfl rfl rfl hy ⟨by rw [hroom.1]; exact hdd, by rw [hroom.2.1]; show 8 + (Y.2.2.1 + 11) + 200 * dd ≤ 200 * d; omega⟩) ⟨Pw.blind E As h, Pw.at hF hsz hS hR⟩ rfl (by rw [List.length_map]; exact hn) (by show A.size = _; exact hz) (by simp [List.map_append, List.map_reverse]) (lv_room (by rw [cat_cv]; exact hcat)) hd ⟨hroom.2.2.1, hroom.2.2.2⟩) hS (fun H' locs' hR' hS' => ?_)
  have := kk H' locs' A hR' hS' hL
  cases r <;> exact this
theorem AW.callV {i n b : Nat} {st : List Value} {ci : Nat} {fs : List Value} {T : u_T} {N : Nat} (hr : Run dd Y (.ref b :: As) h (.inl r) h1) (hdd : dd + 1 ≤ d) (hY : Y.2.2.1 ≤ 181) (hci : clL[ci]? = some (Y.1.cls, T, N)) (hg : h.g b = some (.inr (ci, fs))) (w1 : Cond.methodLink M.1.cls i Y.1 ∈ lw_all) (w2 : Cond.instanceMethod Y.1 ∈ lw_all) (w3 : Cond.selects Y.1.cls Y.1 Y.1 ∈ lw_all) (w4 : Cond.initialized Y.1.cls ∈ lw_all) (w5 : Cond.code Y.1 Y.2.1 Y.2.2.1 Y.2.2.2 ∈ lw_all) (hd : decode M.2.1 pc = .ok (.invokevirtual i, 3)) (hy : Y.1.cls = Y.1.cls ∧ Y.1.cls ≠ "java/lang/invoke/MethodHandle" ∧ Y.1.cls ≠ "java/lang/invoke/VarHandle" ∧ (parseMethodDescriptor Y.1.desc).map (fun d => d.parameters.length) = some n) (hn : As.length = n) (hst : st = As.reverse ++ .ref b :: rest) (hcat : (rest.map fun v => v.category).sum ≤ 8) (hp : pc + 3 = pc2) (k : AW d M h1 pc2 ls (r.toList ++ rest) o h2) : AW d M h pc ls st o h2 := by
  subst hp
  subst hst
  refine AW.liftH k hr.1 hr.2.1 rfl (fun E p e R s m args below meth c n0 H locs cells slots Q A C hR hS hL hz hroom kk => ?_)
  have hts := C.2.2.2.2.2.1
  have hF := C.2.2.2.2.2.2.2.2.1
  have hsz : EB E ≤ s.heap.size := by rw [C.2.2.2.2.2.2.2.2.2.1]; omega
  obtain ⟨r0, cell, hr0, q1, qc, qv, qs, qn, q4⟩ := hR.2 b _ hg
  have hrecv : ∃ cellB : Cell, H[tr E b]? = some cellB ∧ cellB.vm.isStatics = false ∧ s.vm.findClass Y.1.cls = some cellB.cls := ⟨cell, q1, qs, by rw [qc]; exact (hF.1.1 ci _ hci).2.1⟩
  refine after_run (r := r) (va_runV (C := Y.1.cls) (b := tr E b) (As := As.map (cv E)) (rest := rest.map (cv E)) ⟨C.1, C.2.1, C.2.2.2.1, C.2.2.2.2.1, hts⟩ (hr.met E) (cwV n hts (lw_V w1 w2 w3 w4 w5) rfl rfl rfl hy ⟨by rw [hroom.1]; exact hdd, by rw [hroom.2.1]; show 8 + (Y.2.2.1 + 11) + 200 * dd ≤ 200 * d; omega⟩) ⟨Pw.blind E _ h, hrecv, Pw.at hF hsz hS hR⟩ rfl (by rw [List.length_map]; exact hn) (by show A.size = _; exact hz) (by simp [List.map_append, List.map_reverse, cv]) (lv_room (by rw [cat_cv]; exact hcat)) hd ⟨hroom.2.2.1, hroom.2.2.2⟩) hS (fun H' locs' hR' hS' => ?_)
  have := kk H' locs' A hR' hS' hL
  cases r <;> exact this
theorem AW.callI {i n b : Nat} {st : List Value} (hr : Run dd Y (.ref b :: As) h (.inl none) h1) (hdd : dd + 1 ≤ d) (hY : Y.2.2.1 ≤ 181) (hY2 : Y.2.2.2 = none) (w1 : Cond.methodLink M.1.cls i Y.1 ∈ lw_all) (w2 : Cond.instanceMethod Y.1 ∈ lw_all) (w4 : Cond.initialized Y.1.cls ∈ lw_all) (w5 : Cond.code Y.1 Y.2.1 Y.2.2.1 none ∈ lw_all) (hd : decode M.2.1 pc = .ok (.invokespecial i, 3)) (hy1 : Y.1.name = "<init>") (hy : Y.1.cls ≠ "java/lang/invoke/MethodHandle" ∧ Y.1.cls ≠ "java/lang/invoke/VarHandle" ∧ (parseMethodDescriptor Y.1.desc).map (fun d => d.parameters.length) = some n) (hn : As.length = n) (hst : st = As.reverse ++ .ref b :: rest) (hcat : (rest.map fun v => v.category).sum ≤ 8) (hp : pc + 3 = pc2) (k : AW d M h1 pc2 ls rest o h2) : AW d M h pc ls st o h2 := by
  subst hp
  subst hst
  refine AW.liftH k hr.1 hr.2.1 rfl (fun E p e R s m args below meth c n0 H locs cells slots Q A C hR hS hL hz hroom kk => ?_)
  have hts := C.2.2.2.2.2.1
  have hF := C.2.2.2.2.2.2.2.2.1
  have hsz : EB E ≤ s.heap.size := by rw [C.2.2.2.2.2.2.2.2.2.1]; omega
  have hm := hr.met E
  rw [hY2] at hm
  refine after_run (r := none) (va_runI (b := tr E b) (As := As.map (cv E)) (rest := rest.map (cv E)) ⟨C.1, C.2.1, C.2.2.2.1, C.2.2.2.2.1, hts⟩ hm (cwI n hts (lw_meth w5) rfl rfl rfl (hts _ w4) (hts _ w1) (hts _ w2) hy1 hy ⟨by rw [hroom.1]; exact hdd, by rw [hroom.2.1]; show 8 + (Y.2.2.1 + 11) + 200 * dd ≤ 200 * d; omega⟩) ⟨Pw.blind E _ h, Pw.at hF hsz hS hR⟩ rfl (by rw [List.length_map]; exact hn) (by show A.size = _; exact hz) (by simp [List.map_append, List.map_reverse, cv]) (lv_room (by rw [cat_cv]; exact hcat)) hd ⟨hroom.2.2.1, hroom.2.2.2⟩) hS (fun H' locs' hR' hS' => ?_)
  exact kk H' locs' A hR' hS' hL
/-- Object's constructor -/
theorem AW.obj {i b : Nat} {st : List Value} (hd : decode M.2.1 pc = .ok (.invokespecial i, 3)) (w1 : Cond.methodLink M.1.cls i Lib.objectInit ∈ lw_all) (w2 : Cond.instanceMethod Lib.objectInit ∈ lw_all) (w3 : Cond.code Lib.objectInit ⟨#[0xb1]⟩ 1 none ∈ lw_all) (hdd : 1 ≤ d) (hst : st = .ref b :: rest) (hcat : (rest.map fun v => v.category).sum ≤ 8) (hp : pc + 3 = pc2) (k : AW d M h pc2 ls rest o h2) : AW d M h pc ls st o h2 := by
  subst hp
  subst hst
  refine AW.liftH k (Nat.le_refl _) (Nat.le_refl _) rfl (fun E p e R s m args below meth c n0 H locs cells slots Q A C hR hS hL hz hroom kk => ?_)
  rw [Nat.sub_self, Nat.sub_self] at kk
  have hts := C.2.2.2.2.2.1
  refine W.objInit C.1 C.2.1 C.2.2.2.2.1 (hts _ w1) (hts _ w2) (hts _ w3) rfl (by rw [C.2.2.2.1]; exact hz) rfl hd (by rw [hroom.1]; exact hdd) ?_ (kk H locs A hR hS hL)
  have := lv_room (m := m) (pc := pc) (ls := A) (rest := []) (st := rest.map (cv E)) (by rw [cat_cv]; exact hcat)
  rw [hroom.2.1]
  have h8 : 2 * (F0 m pc A ((Value.ref b :: rest).map (cv E))).monitorRoom + ((rest.map (cv E)).map fun v => v.category).sum ≤ 8 := this
  omega
end CALLS
