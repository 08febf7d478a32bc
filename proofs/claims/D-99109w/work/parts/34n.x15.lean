/-! SYSTEM 15: lists and small whole numbers of the library (printed by tools/x15.py) -/
set_option maxRecDepth 100000
section CASTS
variable {d : Nat} {M : Mt} {h : AH} {pc pc2 : Nat} {ls : List (Option Value)} {st : List Value} {o : OR} {h2 : AH}
/-- a cast to the object's very class -/
theorem AW.castS {i a ci : Nat} {fs : List Value} {rC : vw_C} {nm : String} (hd : decode M.2.1 pc = .ok (.checkcast i, 3)) (hl : Cond.classLink M.1.cls i nm ∈ lw_all) (hg : h.g a = some (.inr (ci, fs))) (hc : clL[ci]? = some rC) (hnm : rC.1 = nm) (hp : pc + 3 = pc2) (k : AW d M h pc2 ls (.ref a :: st) o h2) : AW d M h pc ls (.ref a :: st) o h2 := by
  subst hp
  subst hnm
  refine AW.lift k rfl (fun E p e R s m args below meth c n0 H locs cells slots Q A C hR hS hL hz kk => ?_)
  have hF := C.2.2.2.2.2.2.2.2.1
  obtain ⟨r0, cell, hr0, q1, qc, qv, qs, qn, q4⟩ := hR.2 a _ hg
  exact va_castS C.1 C.2.1 C.2.2.2.2.1 (C.2.2.2.2.2.1 _ hl) (hF.1.1 ci _ hc).2 ⟨cell, q1, qs, by rw [qc]; exact (hF.1.1 ci _ hc).2.1⟩ hd (kk A hL)
theorem AW.aload_nF {q : Fin 4} {w : UInt32} (hd : decode M.2.1 pc = .ok (.aload_n q, 1)) (hl : ls[(q : Nat)]? = some (some (.float w))) (hp : pc + 1 = pc2) (k : AW d M h pc2 ls (.float w :: st) o h2) : AW d M h pc ls st o h2 := by
  subst hp
  exact AW.lift k rfl (fun E p e R s m args below meth c n0 H locs cells slots Q A C hR hS hL hz kk => by
    have h1 := hL.at hl
    have h2 := kk A hL
    rw [List.map_cons] at h2
    have e : cv E (.float w) = va_rf (Eov E w.toNat) := rfl
    rw [e] at h1 h2
    cases hq : Eov E w.toNat with
    | none => rw [hq] at h1 h2; exact lv_aload_nN C.1 C.2.1 hd rfl h1 h2
    | some x => rw [hq] at h1 h2; exact lv_aload_n C.1 C.2.1 hd rfl h1 h2)
theorem AW.getU {R : String} {ci : Nat} {C0 : String} {T : u_T} {N : Nat} {ty : Nat → FieldType} (hI : CI ci C0 T N ty) (k0 : Nat) {i a : Nat} {fs : List Value} {v : Value} (hk : k0 < N) (hl : Cond.fieldLink M.1.cls i R (T k0).2.1 (T k0).2.2.1 ∈ lw_all) (hsf : Cond.sameField R (T k0).1 (T k0).2.1 (T k0).2.2.1 ∈ lw_all) (hd : decode M.2.1 pc = .ok (.getfield i, 3)) (hg : h.g a = some (.inr (ci, fs))) (hv : fs[k0]? = some v) (hp : pc + 3 = pc2) (k : AW d M h pc2 ls (v :: st) o h2) : AW d M h pc ls (.ref a :: st) o h2 := by
  subst hp
  refine AW.lift k rfl (fun E p e R s m args below meth c n0 H locs cells slots Q A C hR hS hL hz kk => ?_)
  obtain ⟨r, cell, hr, q1, qc, qv, qs, qn, q4⟩ := hR.2 a _ hg
  have hr' : r = (C0, T, N) := Option.some.inj (hr.symm.trans hI.1)
  subst hr'
  obtain ⟨hSl, hfc, kC, hkC, hkind⟩ := C.2.2.2.2.2.2.2.2.1.1.1 ci _ hI.1
  obtain ⟨cf, kf, fi, f, hi, hsl⟩ := hSl k0 hk
  refine W.getf C.1 C.2.1 C.2.2.2.2.1 (C.2.2.2.2.2.1 _ hl) (u_same (C.2.2.2.2.2.1 _ hsf) _ hi) (u_facts hfc hkC (u_lays C.2.2.2.2.2.1 hI.2.1 hk) hi).1 q1 qv (v := cv E v) ?_ rfl rfl hd (kk A hL)
  rw [hsl, q4 k0 hk]
  simp [vp_V, hv]
theorem AW.putU {R : String} {ci : Nat} {C0 : String} {T : u_T} {N : Nat} {ty : Nat → FieldType} (hI : CI ci C0 T N ty) (k0 : Nat) {i a : Nat} {fs : List Value} {v : Value} (hk : k0 < N) (hl : Cond.fieldLink M.1.cls i R (T k0).2.1 (T k0).2.2.1 ∈ lw_all) (hsf : Cond.sameField R (T k0).1 (T k0).2.1 (T k0).2.2.1 ∈ lw_all) (hd : decode M.2.1 pc = .ok (.putfield i, 3)) (ha : 512 ≤ a) (hg : h.g a = some (.inr (ci, fs))) (hfin : (T k0).2.2.2 = false) (hn : ∀ E, narrow (ty k0) (cv E v) = cv E v) (hfit : ∀ E, fits (ty k0) (cv E v) = true) (hlen : k0 < fs.length) {h3 : AH} (hh : h.set a (.inr (ci, fs.set k0 v)) = h3) (hp : pc + 3 = pc2) (k : AW d M h3 pc2 ls st o h2) : AW d M h pc ls (v :: .ref a :: st) o h2 := by
  subst hp
  subst hh
  refine AW.liftS k rfl rfl rfl (fun E p e R s m args below meth c n0 H locs cells slots Q A C hR hS hL hz kk => ?_)
  obtain ⟨r, cell, hr, q1, qc, qv, qs, qn, q4⟩ := hR.2 a _ hg
  have hr' : r = (C0, T, N) := Option.some.inj (hr.symm.trans hI.1)
  subst hr'
  have hF := C.2.2.2.2.2.2.2.2.1
  have hts := C.2.2.2.2.2.1
  have hap := va_apart (own := M.1.cls) hts hI.2.1 ty hI.2.2.1 hI.2.2.2 hF.1 hI.1
  obtain ⟨hSl, hfc, kC, hkC, hkind⟩ := hF.1.1 ci _ hI.1
  obtain ⟨cf, kf, fi, f, hi, hsl⟩ := hSl k0 hk
  have hlay := hts _ (hI.2.1 _ (u_in_lay hk))
  unfold u_lay at hlay
  rw [if_neg (by rw [hfin]; decide)] at hlay
  have hst := (u_facts hfc hkC (u_lays hts hI.2.1 hk) hi).1
  have h6 := u_store hfc hkC hkind hlay hi (hI.2.2.1 k0 hk) (hn E) (hfit E)
  refine W.putK C.1 C.2.1 (f := f) ⟨C.2.2.2.2.1, hts _ hl, ⟨_, _, _, u_same (hts _ hsf) _ hi⟩, hst⟩ (by rw [qc]; exact h6) q1 (qn ha).1 (by rw [hsl]; exact k2_hasslot (q4 k0 hk)) rfl rfl hd fun H' e1 e2 e3 => ?_
  rw [hsl] at e1 ⊢
  have hR' : Rp E (h.set a (.inr (ci, fs.set k0 v))) H' := by
    refine Rp.set hF hR ha ⟨_, _, hI.1, e1, qc, qv, qs, qn, fun j hj => ?_⟩ e2 e3
    have h7 := t_set (v := cv E v) q4 hap hk j hj
    rw [h7]
    by_cases hjk : j = k0
    · subst hjk
      simp [updV, vp_V, hlen]
    · simp [updV, vp_V, hjk, Ne.symm hjk]
  exact kk H' _ A hR' (hS.put (k := (ED E).2 ci k0) e2 e3 (tr_A ha)) hL
end CASTS
theorem set_g {b : AH} {k : Nat} {c : AC} : (b.set k c).g k = some c := if_pos rfl
theorem set_go {b : AH} {k j : Nat} {c : AC} (h : j ≠ k) : (b.set k c).g j = b.g j := if_neg h
theorem r_J5_checkIndex_n {h : AH} (i n : Int32) (h0 : ¬ i < 0) (h1 : i < n) : Run 1 mJ5_checkIndex [.int i, .int n, .null] h (.inl (some (.int (i)))) h := by
  refine Run.of rfl (Nat.le_of_ble_eq_true rfl) rfl ?_
  refine AW.iload_n dJ5_checkIndex_0 rfl rfl ?_
  refine AW.if_lt (tgt := 9) dJ5_checkIndex_1 (by decide) rfl (fun c_ => by first | exact absurd c_ h0 | exact absurd h0 c_ | exact Bool.noConfusion (c_.symm.trans h0)) (fun _ => ?_)
  refine AW.iload_n dJ5_checkIndex_4 rfl rfl ?_
  refine AW.iload_n dJ5_checkIndex_5 rfl rfl ?_
  refine AW.icmp_lt (tgt := 16) dJ5_checkIndex_6 (by decide) rfl (fun _ => ?_) (fun c_ => by first | exact absurd c_ h1 | exact absurd h1 c_ | exact absurd c_ (not_not_intro h1) | exact Bool.noConfusion (c_.symm.trans h1))
  refine AW.iload_n dJ5_checkIndex_16 rfl rfl ?_
  exact AW.iretE dJ5_checkIndex_17 rfl rfl rfl rfl
theorem r_J5_checkIndex_f {h : AH} (i n : Int32) (h0 : ¬ i < 0) (h1 : i < n) : Run 1 mJ5_checkIndex [.int i, .int n, .float 2] h (.inl (some (.int (i)))) h := by
  refine Run.of rfl (Nat.le_of_ble_eq_true rfl) rfl ?_
  refine AW.iload_n dJ5_checkIndex_0 rfl rfl ?_
  refine AW.if_lt (tgt := 9) dJ5_checkIndex_1 (by decide) rfl (fun c_ => by first | exact absurd c_ h0 | exact absurd h0 c_ | exact Bool.noConfusion (c_.symm.trans h0)) (fun _ => ?_)
  refine AW.iload_n dJ5_checkIndex_4 rfl rfl ?_
  refine AW.iload_n dJ5_checkIndex_5 rfl rfl ?_
  refine AW.icmp_lt (tgt := 16) dJ5_checkIndex_6 (by decide) rfl (fun _ => ?_) (fun c_ => by first | exact absurd c_ h1 | exact absurd h1 c_ | exact absurd c_ (not_not_intro h1) | exact Bool.noConfusion (c_.symm.trans h1))
  refine AW.iload_n dJ5_checkIndex_16 rfl rfl ?_
  exact AW.iretE dJ5_checkIndex_17 rfl rfl rfl rfl
theorem r_J15_checkIndex {h : AH} (i n : Int32) (h0 : ¬ i < 0) (h1 : i < n) : Run 2 mJ15_checkIndex [.int i, .int n] h (.inl (some (.int (i)))) h := by
  refine Run.of rfl (Nat.le_of_ble_eq_true rfl) rfl ?_
  refine AW.iload_n dJ15_checkIndex_0 rfl rfl ?_
  refine AW.iload_n dJ15_checkIndex_1 rfl rfl ?_
  refine AW.null dJ15_checkIndex_2 rfl ?_
  refine AW.callS (Y := mJ5_checkIndex) (n := 3) (r_J5_checkIndex_n _ _ h0 h1) (by decide) (by decide) q785 q426 q149 q427 dJ15_checkIndex_3 (by decide +kernel) rfl rfl (Nat.le_of_ble_eq_true rfl) rfl ?_
  exact AW.iretE dJ15_checkIndex_6 rfl rfl rfl rfl
theorem r_J2_size {h : AH} {D E : Nat} {m n : Int32} (gD : h.g D = some (.inr (16, [.int m, .ref E, .int n]))) : Run 1 mJ2_size [.ref D] h (.inl (some (.int (n)))) h := by
  refine Run.of rfl (Nat.le_of_ble_eq_true rfl) rfl ?_
  refine AW.aload_n dJ2_size_0 rfl rfl ?_
  refine AW.get ci16 2 (by decide) q354 dJ2_size_1 gD rfl rfl ?_
  exact AW.iretE dJ2_size_4 rfl rfl rfl rfl
theorem r_J2_isEmpty {h : AH} {D E : Nat} {m n : Int32} (gD : h.g D = some (.inr (16, [.int m, .ref E, .int n]))) : Run 1 mJ2_isEmpty [.ref D] h (.inl (some (.int (b2i (decide (n = 0)))))) h := by
  refine Run.of rfl (Nat.le_of_ble_eq_true rfl) rfl ?_
  refine AW.aload_n dJ2_isEmpty_0 rfl rfl ?_
  refine AW.get ci16 2 (by decide) q354 dJ2_isEmpty_1 gD rfl rfl ?_
  refine AW.if_ne (tgt := 11) dJ2_isEmpty_4 (by decide) rfl (fun c4 => ?_) (fun c4 => ?_)
  · refine AW.iconst (v := 0) dJ2_isEmpty_11 (by decide) rfl ?_
    exact AW.bretE dJ2_isEmpty_12 rfl rfl (by first | (rw [dec_t (show n = 0 from c4)]; rfl) | (rw [dec_f (show ¬ n = 0 from c4)]; rfl)) rfl
  · refine AW.iconst (v := 1) dJ2_isEmpty_7 (by decide) rfl ?_
    refine AW.goto (tgt := 12) dJ2_isEmpty_8 (by decide) ?_
    exact AW.bretE dJ2_isEmpty_12 rfl rfl (by first | (rw [dec_t (show n = 0 from c4)]; rfl) | (rw [dec_f (show ¬ n = 0 from c4)]; rfl)) rfl
theorem r_J2_elementData {h : AH} {D E : Nat} {m n : Int32} (gD : h.g D = some (.inr (16, [.int m, .ref E, .int n]))) {cap : Nat} {f : Nat → Value} (gE : h.g E = some (.inl (6, cap, f))) (i : Int32) (hi : vp_in i cap) (hv : f (cI i) = .null ∨ ∃ a, f (cI i) = .ref a) : Run 1 mJ2_elementData [.ref D, .int i] h (.inl (some (f (cI i)))) h := by
  refine Run.of rfl (Nat.le_of_ble_eq_true rfl) rfl ?_
  refine AW.aload_n dJ2_elementData_0 rfl rfl ?_
  refine AW.get ci16 1 (by decide) q353 dJ2_elementData_1 gD rfl rfl ?_
  refine AW.iload_n dJ2_elementData_4 rfl rfl ?_
  refine AW.aald dJ2_elementData_5 gE rfl rfl hi rfl rfl ?_
  exact AW.aretE dJ2_elementData_6 rfl (Or.inl ⟨_, rfl⟩) hv rfl rfl rfl
theorem r_J2_get {h : AH} {D E : Nat} {m n : Int32} (gD : h.g D = some (.inr (16, [.int m, .ref E, .int n]))) {cap : Nat} {f : Nat → Value} (gE : h.g E = some (.inl (6, cap, f))) (i : Int32) (h0 : ¬ i < 0) (h1 : i < n) (hi : vp_in i cap) (hv : f (cI i) = .null ∨ ∃ a, f (cI i) = .ref a) : Run 3 mJ2_get [.ref D, .int i] h (.inl (some (f (cI i)))) h := by
  refine Run.of rfl (Nat.le_of_ble_eq_true rfl) rfl ?_
  refine AW.iload_n dJ2_get_0 rfl rfl ?_
  refine AW.aload_n dJ2_get_1 rfl rfl ?_
  refine AW.get ci16 2 (by decide) q354 dJ2_get_2 gD rfl rfl ?_
  refine AW.callS (Y := mJ15_checkIndex) (n := 2) (r_J15_checkIndex _ _ h0 h1) (by decide) (by decide) q782 q783 q169 q784 dJ2_get_5 (by decide +kernel) rfl rfl (Nat.le_of_ble_eq_true rfl) rfl ?_
  refine AW.pop dJ2_get_8 rfl rfl ?_
  refine AW.aload_n dJ2_get_9 rfl rfl ?_
  refine AW.iload_n dJ2_get_10 rfl rfl ?_
  refine AW.callV (Y := mJ2_elementData) (n := 1) (r_J2_elementData gD gE _ hi hv) (by decide) (by decide) rfl gD q786 q787 q788 q146 q789 dJ2_get_11 (by decide +kernel) rfl rfl (Nat.le_of_ble_eq_true rfl) rfl ?_
  exact AW.aretE dJ2_get_14 rfl (Or.inl ⟨_, rfl⟩) hv rfl rfl rfl
theorem in_vo {k : Nat} (h : k < 128) : vp_in (nI k + 128) 256 := by
  rw [show (128 : Int32) = nI 128 from rfl, nI_add]
  exact vp_in_nI (by omega) (by omega)
theorem at_vo {k : Nat} (h : k < 128) : (nI k + 128).toNatClampNeg = 128 + k := by
  rw [show (128 : Int32) = nI 128 from rfl, nI_add]
  exact (cI_nI (by omega)).trans (Nat.add_comm _ _)
theorem r_J12_valueOf {h : AH} (hc : h.g 3 = some (.inl (9, 256, fun j => .ref (200 + j)))) (k : Nat) (hk : k < 128) : Run 1 mJ12_valueOf [.int (nI k)] h (.inl (some (.ref (328 + k)))) h := by
  have hk2 : (nI k).toInt = (k : Int) := nI_t (by omega)
  have h1 : ¬ nI k < -128 := by rw [Int32.lt_iff_toInt_lt, hk2]; show ¬ (k : Int) < -128; omega
  have h2 : ¬ (127 : Int32) < nI k := nlt_lit 127 rfl (by omega) (by decide)
  refine Run.of rfl (Nat.le_of_ble_eq_true rfl) rfl ?_
  refine AW.iload_n dJ12_valueOf_0 rfl rfl ?_
  refine AW.bipush (v := (-128)) dJ12_valueOf_1 (by decide) rfl ?_
  refine AW.icmp_lt (tgt := 23) dJ12_valueOf_3 (by decide) rfl (fun c_ => by first | exact absurd c_ h1 | exact absurd h1 c_ | exact Bool.noConfusion (c_.symm.trans h1)) (fun _ => ?_)
  refine AW.iload_n dJ12_valueOf_6 rfl rfl ?_
  refine AW.gets (q := zL.get ⟨4, by decide⟩) (List.get_mem _ _) dJ12_valueOf_7 q630 rfl ?_
  refine AW.icmp_gt (tgt := 23) dJ12_valueOf_10 (by decide) rfl (fun c_ => by first | exact absurd c_ h2 | exact absurd h2 c_ | exact Bool.noConfusion (c_.symm.trans h2)) (fun _ => ?_)
  refine AW.gets (q := zL.get ⟨3, by decide⟩) (List.get_mem _ _) dJ12_valueOf_13 q632 rfl ?_
  refine AW.iload_n dJ12_valueOf_16 rfl rfl ?_
  refine AW.sipush (v := 128) dJ12_valueOf_17 (by decide) rfl ?_
  refine AW.iadd dJ12_valueOf_20 rfl ?_
  refine AW.aald dJ12_valueOf_21 hc rfl rfl (in_vo hk) (j := 128 + k) (at_vo hk) rfl ?_
  exact AW.aretE dJ12_valueOf_22 rfl (Or.inl ⟨_, rfl⟩) (Or.inr ⟨_, rfl⟩) rfl (by show Value.ref (200 + (128 + k)) = _; rw [show 200 + (128 + k) = 328 + k by omega]) rfl
theorem r_J12_intValue {h : AH} {a : Nat} {x : Int32} (ga : h.g a = some (.inr (17, [.int x]))) : Run 1 mJ12_intValue [.ref a] h (.inl (some (.int (x)))) h := by
  refine Run.of rfl (Nat.le_of_ble_eq_true rfl) rfl ?_
  refine AW.aload_n dJ12_intValue_0 rfl rfl ?_
  refine AW.get ci17 0 (by decide) q643 dJ12_intValue_1 ga rfl rfl ?_
  exact AW.iretE dJ12_intValue_4 rfl rfl rfl rfl
theorem r_J13_newLength {h : AH} (a x y r : Int32) (hr : a + maxI x y = r) (h0 : 0 < r) (h1 : r ≤ 2147483639) : Run 2 mJ13_newLength [.int a, .int x, .int y] h (.inl (some (.int (r)))) h := by
  refine Run.of rfl (Nat.le_of_ble_eq_true rfl) rfl ?_
  refine AW.iload_n dJ13_newLength_0 rfl rfl ?_
  refine AW.iload_n dJ13_newLength_1 rfl rfl ?_
  refine AW.iload_n dJ13_newLength_2 rfl rfl ?_
  refine AW.mmax dJ13_newLength_3 q666 q667 q151 q668 (by decide) (Nat.le_of_ble_eq_true rfl) rfl ?_
  refine AW.iadd dJ13_newLength_6 rfl ?_
  refine AW.st (st' := [.int r]) (by rw [hr]) ?_
  refine AW.istore_n (i := 3) dJ13_newLength_7 rfl rfl (Nat.le_of_ble_eq_true rfl) rfl rfl ?_
  refine AW.iconst (v := 0) dJ13_newLength_8 (by decide) rfl ?_
  refine AW.iload_n dJ13_newLength_9 rfl rfl ?_
  refine AW.icmp_ge (tgt := 21) dJ13_newLength_10 (by decide) rfl (fun c_ => by first | exact absurd c_ (Int32.not_le.mpr h0) | exact absurd (Int32.not_le.mpr h0) c_ | exact Bool.noConfusion (c_.symm.trans (Int32.not_le.mpr h0))) (fun _ => ?_)
  refine AW.iload_n dJ13_newLength_13 rfl rfl ?_
  refine AW.ldc dJ13_newLength_14 q669 rfl ?_
  refine AW.icmp_gt (tgt := 21) dJ13_newLength_16 (by decide) rfl (fun c_ => by first | exact absurd c_ (Int32.not_lt.mpr h1) | exact absurd (Int32.not_lt.mpr h1) c_ | exact Bool.noConfusion (c_.symm.trans (Int32.not_lt.mpr h1))) (fun _ => ?_)
  refine AW.iload_n dJ13_newLength_19 rfl rfl ?_
  exact AW.iretE dJ13_newLength_20 rfl rfl rfl rfl
/-- how much a list can hold, step by step -/
def capN : Nat → Nat
  | 0 => 0
  | 1 => 10
  | 2 => 15
  | 3 => 22
  | 4 => 33
  | 5 => 49
  | 6 => 73
  | 7 => 109
  | 8 => 163
  | _ => 244
theorem capN_le : ∀ i, capN i ≤ 244 := fun i => match i with
  | 0 => by decide
  | 1 => by decide
  | 2 => by decide
  | 3 => by decide
  | 4 => by decide
  | 5 => by decide
  | 6 => by decide
  | 7 => by decide
  | 8 => by decide
  | _ + 9 => Nat.le_refl _
theorem capN_i {i : Nat} (h1 : 1 ≤ i) (h8 : i ≤ 8) {P : Nat → Prop} (k1 : P 1) (k2 : P 2) (k3 : P 3) (k4 : P 4) (k5 : P 5) (k6 : P 6) (k7 : P 7) (k8 : P 8) : P i := by
  have : i = 1 ∨ i = 2 ∨ i = 3 ∨ i = 4 ∨ i = 5 ∨ i = 6 ∨ i = 7 ∨ i = 8 := by omega
  rcases this with rfl | rfl | rfl | rfl | rfl | rfl | rfl | rfl <;> assumption
theorem capN_g {i : Nat} (h1 : 1 ≤ i) (h8 : i ≤ 8) : nI (capN i) + maxI (nI (capN i) + 1 - nI (capN i)) (nI (capN i) >>> ((1 : Int32) &&& 31)) = nI (capN (i + 1)) :=
  capN_i (P := fun i => nI (capN i) + maxI (nI (capN i) + 1 - nI (capN i)) (nI (capN i) >>> ((1 : Int32) &&& 31)) = nI (capN (i + 1))) h1 h8 (by decide +kernel) (by decide +kernel) (by decide +kernel) (by decide +kernel) (by decide +kernel) (by decide +kernel) (by decide +kernel) (by decide +kernel)
theorem capN_s {i : Nat} (h1 : 1 ≤ i) (h8 : i ≤ 8) : 10 ≤ capN i ∧ capN i < capN (i + 1) ∧ capN (i + 1) + 4 * capN i ≤ 4 * capN (i + 1) :=
  capN_i (P := fun i => 10 ≤ capN i ∧ capN i < capN (i + 1) ∧ capN (i + 1) + 4 * capN i ≤ 4 * capN (i + 1)) h1 h8 (by decide) (by decide) (by decide) (by decide) (by decide) (by decide) (by decide) (by decide)
theorem minI_n {a b : Nat} (h : a ≤ b) (hb : b ≤ 1000) : minI (Int32.ofNat a) (nI b) = nI a := by
  unfold minI
  rw [if_neg]
  · rfl
  · show ¬ nI b < nI a
    rw [Int32.lt_iff_toInt_lt, nI_t (by omega), nI_t (by omega)]
    omega
def oOk : String → Prop := fun c => Cond.castable c "java/lang/Object" ∈ lw_tbl ∨ c = "java/lang/Object"
/-- a reference to an object that may stand in a list -/
def ObjR (b : AH) (v : Value) : Prop := ∃ (a ci : Nat) (fs : List Value) (rC : vw_C), v = .ref a ∧ isFx a = false ∧ a < 512 + b.n ∧ b.g a = some (.inr (ci, fs)) ∧ clL[ci]? = some rC ∧ Cond.castable rC.1 "java/lang/Object" ∈ lw_tbl
theorem ObjR.orn {s : Sg} {v : Value} (h : ObjR s.b v) : OrNull (hp s) oOk v := by
  obtain ⟨a, ci, fs, rC, e, h1, h2, h3, h4, h5⟩ := h
  exact Or.inr ⟨a, ci, fs, rC, e, (hp_gb h1).trans h3, h4, Or.inl h5⟩
theorem ObjR.push {b : AH} {v : Value} {c : AC} {w : Nat} (h : ObjR b v) : ObjR (b.push c w) v := by
  obtain ⟨a, ci, fs, rC, e, h1, h2, h3, h4, h5⟩ := h
  exact ⟨a, ci, fs, rC, e, h1, Nat.lt_succ_of_lt h2, (push_go (by omega)).trans h3, h4, h5⟩
/-- behind a push: what was there -/
theorem gpo {s : Sg} {k : Nat} {c c0 : AC} {w : Nat} (hk : isFx k = false) (hlt : k < 512 + s.b.n) (g : s.b.g k = some c0) : (hp (s.setb (s.b.push c w))).g k = some c0 := (hp_gb hk).trans ((push_go (by omega)).trans g)
theorem r_J14_copyOf_2 {s : Sg} {E cap cap2 : Nat} {f : Nat → Value} (hb : 128 ≤ s.b.n) (hE : isFx E = false) (hEl : E < 512 + s.b.n) (gE : s.b.g E = some (.inl (6, cap, f))) (hc : cap ≤ cap2) (hc2 : cap2 ≤ 1000) (hv : ∀ j, j < cap → ObjR s.b (f j)) : Run 2 mJ14_copyOf_2 [.ref E, .int (nI cap2), .float 3] (hp s) (.inl (some (.ref (512 + s.b.n)))) (hp (s.setb (s.b.push (.inl (6, cap2, mv0 (fun _ => .null) f cap)) cap2))) := by
  refine Run.of rfl (Nat.le_of_ble_eq_true rfl) rfl ?_
  refine AW.aload_nF dJ14_copyOf_2_0 rfl rfl ?_
  refine AW.ldcM dJ14_copyOf_2_1 q701 rfl ?_
  refine AW.acmpN (tgt := 13) dJ14_copyOf_2_3 (Or.inr ⟨_, rfl⟩) (by decide) rfl ?_
  refine AW.iload_n dJ14_copyOf_2_6 rfl rfl ?_
  refine AW.anew (t := 6) dJ14_copyOf_2_7 q703 q702 (fun _ => rfl) (N := cap2) (i32_nn (by omega)) (cI_nI (by omega)) (by omega) (hp_push hb) rfl ?_
  refine AW.goto (tgt := 24) dJ14_copyOf_2_10 (by decide) ?_
  refine AW.astore_n (i := 3) dJ14_copyOf_2_24 rfl rfl (Nat.le_of_ble_eq_true rfl) rfl rfl ?_
  refine AW.aload_n dJ14_copyOf_2_25 rfl rfl ?_
  refine AW.iconst (v := 0) dJ14_copyOf_2_26 (by decide) rfl ?_
  refine AW.aload_n dJ14_copyOf_2_27 rfl rfl ?_
  refine AW.iconst (v := 0) dJ14_copyOf_2_28 (by decide) rfl ?_
  refine AW.aload_n dJ14_copyOf_2_29 rfl rfl ?_
  refine AW.alen dJ14_copyOf_2_30 (by first | exact (hp_gb hE).trans gE | exact gpo hE hEl gE) rfl rfl ?_
  refine AW.iload_n dJ14_copyOf_2_31 rfl rfl ?_
  refine AW.mmin dJ14_copyOf_2_32 q704 q452 q151 q453 (by decide) (Nat.le_of_ble_eq_true rfl) rfl ?_
  refine AW.st (st' := [.int (nI cap), .int 0, .ref (512 + s.b.n), .int 0, .ref E]) (by rw [minI_n hc hc2]; rfl) ?_
  refine AW.copyT (Cn := "java/lang/Object") dJ14_copyOf_2_35 q705 q225 q224 q140 (gpo hE hEl gE) (Nat.le_add_right _ _) (hp_pg hb) rfl (fun _ => rfl) (by decide) (by decide) (i32_nn (by omega)) (by rw [(show (nI cap).toNatClampNeg = cap from cI_nI (by omega))]; exact Nat.le_of_eq (Nat.zero_add _)) (by rw [(show (nI cap).toNatClampNeg = cap from cI_nI (by omega))]; exact Nat.le_trans (Nat.le_of_eq (Nat.zero_add _)) hc) (fun j hj => by rw [(show (nI cap).toNatClampNeg = cap from cI_nI (by omega))] at hj; rw [show (0 : Int32).toNatClampNeg + j = j from Nat.zero_add j]; exact ObjR.orn (ObjR.push (hv j hj))) (by decide) (Nat.le_of_ble_eq_true rfl) (h3 := (hp (s.setb (s.b.push (.inl (6, cap2, mv0 (fun _ => .null) f cap)) cap2)))) (by rw [(show (nI cap).toNatClampNeg = cap from cI_nI (by omega))]; exact (hp_pset hb).trans (congrArg (fun z => hp (s.setb (s.b.push (.inl (6, cap2, z)) cap2))) cpy0)) rfl ?_
  refine AW.aload_n dJ14_copyOf_2_38 rfl rfl ?_
  exact AW.aretE dJ14_copyOf_2_39 rfl (Or.inr ⟨_, rfl⟩) (Or.inr ⟨_, rfl⟩) rfl rfl rfl
theorem r_J14_copyOf {s : Sg} {E cap cap2 : Nat} {f : Nat → Value} (hb : 128 ≤ s.b.n) (hE : isFx E = false) (hEl : E < 512 + s.b.n) (gE : s.b.g E = some (.inl (6, cap, f))) (hc : cap ≤ cap2) (hc2 : cap2 ≤ 1000) (hv : ∀ j, j < cap → ObjR s.b (f j)) : Run 3 mJ14_copyOf [.ref E, .int (nI cap2)] (hp s) (.inl (some (.ref (512 + s.b.n)))) (hp (s.setb (s.b.push (.inl (6, cap2, mv0 (fun _ => .null) f cap)) cap2))) := by
  refine Run.of rfl (Nat.le_of_ble_eq_true rfl) rfl ?_
  refine AW.aload_n dJ14_copyOf_0 rfl rfl ?_
  refine AW.iload_n dJ14_copyOf_1 rfl rfl ?_
  refine AW.aload_n dJ14_copyOf_2 rfl rfl ?_
  refine AW.getC dJ14_copyOf_3 (by first | exact (hp_gb hE).trans gE | exact gpo hE hEl gE) q676 q2049 q2048 q677 q697 (by decide) (Nat.le_of_ble_eq_true rfl) rfl ?_
  refine AW.callS (Y := mJ14_copyOf_2) (n := 3) (r_J14_copyOf_2 hb hE hEl gE hc hc2 hv) (by decide) (by decide) q698 q699 q165 q700 dJ14_copyOf_6 (by decide +kernel) rfl rfl (Nat.le_of_ble_eq_true rfl) rfl ?_
  exact AW.aretE dJ14_copyOf_9 rfl (Or.inr ⟨_, rfl⟩) (Or.inr ⟨_, rfl⟩) rfl rfl rfl
theorem nI_pos1 {k : Nat} (h : 1 ≤ k) (h2 : k ≤ 1000) : (0 : Int32) < nI k := by
  rw [Int32.lt_iff_toInt_lt, nI_t (by omega)]
  show (0 : Int) < _
  omega
theorem nI_le9 {k : Nat} (h2 : k ≤ 1000) : nI k ≤ (2147483639 : Int32) := by
  rw [Int32.le_iff_toInt_le, nI_t (by omega)]
  show (k : Int) ≤ 2147483639
  omega
theorem r_J2_grow_2_0 {s : Sg} {D : Nat} {m : Int32} (hb : 128 ≤ s.b.n) (hD : 640 ≤ D) (hDl : D < 512 + s.b.n) (gD : s.b.g D = some (.inr (16, [.int (m), .ref 2, .int (0)]))) (g2 : s.b.g 2 = some (.inl (7, 0, fun _ => .null))) (x : Int32) (hx : x ≤ 10) : Run 3 mJ2_grow_2 [.ref D, .int x] (hp s) (.inl (some (.ref (512 + s.b.n)))) (hp (s.setb ((s.b.push (.inl (6, 10, fun _ => .null)) 10).set D (.inr (16, [.int (m), .ref (512 + s.b.n), .int (0)]))))) := by
  refine Run.of rfl (Nat.le_of_ble_eq_true rfl) rfl ?_
  refine AW.aload_n dJ2_grow_2_0 rfl rfl ?_
  refine AW.get ci16 1 (by decide) q353 dJ2_grow_2_1 (by first | exact (hp_gb (nfx hD)).trans gD | exact gpo (nfx hD) hDl gD) rfl rfl ?_
  refine AW.alen dJ2_grow_2_4 (by first | exact (hp_gb rfl).trans g2 | exact (hp_gb (nfx hE)).trans gE) rfl rfl ?_
  refine AW.istore_n (i := 2) dJ2_grow_2_5 rfl rfl (Nat.le_of_ble_eq_true rfl) rfl rfl ?_
  refine AW.iload_n dJ2_grow_2_6 rfl rfl ?_
  refine AW.if_gt (tgt := 20) dJ2_grow_2_7 (by decide) rfl (fun c_ => by first | exact absurd c_ (by decide) | exact absurd (by decide) c_ | exact Bool.noConfusion (c_.symm.trans (by decide))) (fun _ => ?_)
  refine AW.aload_n dJ2_grow_2_10 rfl rfl ?_
  refine AW.get ci16 1 (by decide) q353 dJ2_grow_2_11 (by first | exact (hp_gb (nfx hD)).trans gD | exact gpo (nfx hD) hDl gD) rfl rfl ?_
  refine AW.gets (q := zL.get ⟨2, by decide⟩) (List.get_mem _ _) dJ2_grow_2_14 q351 rfl ?_
  refine AW.acmpE (tgt := 45) dJ2_grow_2_17 (Or.inl ⟨_, rfl⟩) (by decide) ?_
  refine AW.aload_n dJ2_grow_2_45 rfl rfl ?_
  refine AW.bipush (v := 10) dJ2_grow_2_46 (by decide) rfl ?_
  refine AW.iload_n dJ2_grow_2_48 rfl rfl ?_
  refine AW.mmax dJ2_grow_2_49 q706 q667 q151 q668 (by decide) (Nat.le_of_ble_eq_true rfl) rfl ?_
  refine AW.st (st' := [.int 10, .ref D]) (by rw [show maxI 10 x = 10 from if_neg (Int32.not_lt.mpr hx)]) ?_
  refine AW.anew (t := 6) dJ2_grow_2_52 q707 q702 (fun _ => rfl) (N := 10) (by decide) (by decide) (by decide) (hp_push hb) rfl ?_
  refine AW.dup_x1 dJ2_grow_2_55 rfl rfl rfl ?_
  refine AW.put ci16 1 (by decide) q353 dJ2_grow_2_56 (by omega) (by first | exact (hp_gb (nfx hD)).trans gD | exact gpo (nfx hD) hDl gD) rfl (fun _ => rfl) (fun _ => rfl) (Nat.le_of_ble_eq_true rfl) (hp_set6 hD) rfl ?_
  exact AW.aretE dJ2_grow_2_59 rfl (Or.inr ⟨_, rfl⟩) (Or.inr ⟨_, rfl⟩) rfl rfl rfl
theorem r_J2_grow_2_1 {s : Sg} {D : Nat} {m : Int32} (hb : 128 ≤ s.b.n) (hD : 640 ≤ D) (hDl : D < 512 + s.b.n) {n : Int32} {E : Nat} {f : Nat → Value} (hE : 640 ≤ E) (hEl : E < 512 + s.b.n) (i : Nat) (h1 : 1 ≤ i) (h8 : i ≤ 8) (gD : s.b.g D = some (.inr (16, [.int (m), .ref E, .int (n)]))) (gE : s.b.g E = some (.inl (6, capN i, f))) (hv : ∀ j, j < capN i → ObjR s.b (f j)) : Run 4 mJ2_grow_2 [.ref D, .int (nI (capN i) + 1)] (hp s) (.inl (some (.ref (512 + s.b.n)))) (hp (s.setb ((s.b.push (.inl (6, capN (i + 1), mv0 (fun _ => .null) f (capN i))) (capN (i + 1))).set D (.inr (16, [.int (m), .ref (512 + s.b.n), .int (n)]))))) := by
  have cl := capN_le (i + 1)
  have cs := capN_s h1 h8
  refine Run.of rfl (Nat.le_of_ble_eq_true rfl) rfl ?_
  refine AW.aload_n dJ2_grow_2_0 rfl rfl ?_
  refine AW.get ci16 1 (by decide) q353 dJ2_grow_2_1 (by first | exact (hp_gb (nfx hD)).trans gD | exact gpo (nfx hD) hDl gD) rfl rfl ?_
  refine AW.alen dJ2_grow_2_4 (by first | exact (hp_gb rfl).trans g2 | exact (hp_gb (nfx hE)).trans gE) rfl rfl ?_
  refine AW.istore_n (i := 2) dJ2_grow_2_5 rfl rfl (Nat.le_of_ble_eq_true rfl) rfl rfl ?_
  refine AW.iload_n dJ2_grow_2_6 rfl rfl ?_
  refine AW.if_gt (tgt := 20) dJ2_grow_2_7 (by decide) rfl (fun _ => ?_) (fun c_ => by first | exact absurd c_ (nI_pos1 (by omega) (by omega)) | exact absurd (nI_pos1 (by omega) (by omega)) c_ | exact absurd c_ (not_not_intro (nI_pos1 (by omega) (by omega))) | exact Bool.noConfusion (c_.symm.trans (nI_pos1 (by omega) (by omega))))
  refine AW.iload_n dJ2_grow_2_20 rfl rfl ?_
  refine AW.iload_n dJ2_grow_2_21 rfl rfl ?_
  refine AW.iload_n dJ2_grow_2_22 rfl rfl ?_
  refine AW.isub dJ2_grow_2_23 rfl ?_
  refine AW.iload_n dJ2_grow_2_24 rfl rfl ?_
  refine AW.iconst (v := 1) dJ2_grow_2_25 (by decide) rfl ?_
  refine AW.ishr dJ2_grow_2_26 rfl ?_
  refine AW.callS (Y := mJ13_newLength) (n := 3) (r_J13_newLength _ _ _ (nI (capN (i + 1))) (capN_g h1 h8) (nI_pos1 (by omega) (by omega)) (nI_le9 (by omega))) (by decide) (by decide) q663 q664 q164 q665 dJ2_grow_2_27 (by decide +kernel) rfl rfl (Nat.le_of_ble_eq_true rfl) rfl ?_
  refine AW.istore_n (i := 3) dJ2_grow_2_30 rfl rfl (Nat.le_of_ble_eq_true rfl) rfl rfl ?_
  refine AW.aload_n dJ2_grow_2_31 rfl rfl ?_
  refine AW.aload_n dJ2_grow_2_32 rfl rfl ?_
  refine AW.get ci16 1 (by decide) q353 dJ2_grow_2_33 (by first | exact (hp_gb (nfx hD)).trans gD | exact gpo (nfx hD) hDl gD) rfl rfl ?_
  refine AW.iload_n dJ2_grow_2_36 rfl rfl ?_
  refine AW.callS (Y := mJ14_copyOf) (n := 2) (r_J14_copyOf hb (nfx hE) hEl gE (Nat.le_of_lt cs.2.1) (by omega) hv) (by decide) (by decide) q673 q674 q165 q675 dJ2_grow_2_37 (by decide +kernel) rfl rfl (Nat.le_of_ble_eq_true rfl) rfl ?_
  refine AW.dup_x1 dJ2_grow_2_40 rfl rfl rfl ?_
  refine AW.put ci16 1 (by decide) q353 dJ2_grow_2_41 (by omega) (by first | exact (hp_gb (nfx hD)).trans gD | exact gpo (nfx hD) hDl gD) rfl (fun _ => rfl) (fun _ => rfl) (Nat.le_of_ble_eq_true rfl) (hp_set6 hD) rfl ?_
  exact AW.aretE dJ2_grow_2_44 rfl (Or.inr ⟨_, rfl⟩) (Or.inr ⟨_, rfl⟩) rfl rfl rfl
theorem r_J2_grow_0 {s : Sg} {D : Nat} {m : Int32} (hb : 128 ≤ s.b.n) (hD : 640 ≤ D) (hDl : D < 512 + s.b.n) (gD : s.b.g D = some (.inr (16, [.int (m), .ref 2, .int (0)]))) (g2 : s.b.g 2 = some (.inl (7, 0, fun _ => .null))) : Run 5 mJ2_grow [.ref D] (hp s) (.inl (some (.ref (512 + s.b.n)))) (hp (s.setb ((s.b.push (.inl (6, 10, fun _ => .null)) 10).set D (.inr (16, [.int (m), .ref (512 + s.b.n), .int (0)]))))) := by
  refine Run.of rfl (Nat.le_of_ble_eq_true rfl) rfl ?_
  refine AW.aload_n dJ2_grow_0 rfl rfl ?_
  refine AW.aload_n dJ2_grow_1 rfl rfl ?_
  refine AW.get ci16 2 (by decide) q354 dJ2_grow_2 (by first | exact (hp_gb (nfx hD)).trans gD | exact gpo (nfx hD) hDl gD) rfl rfl ?_
  refine AW.iconst (v := 1) dJ2_grow_5 (by decide) rfl ?_
  refine AW.iadd dJ2_grow_6 rfl ?_
  refine AW.callV (Y := mJ2_grow_2) (n := 1) (r_J2_grow_2_0 hb hD hDl gD g2 _ (by decide)) (by decide) (by decide) rfl (by first | exact (hp_gb (nfx hD)).trans gD | exact gpo (nfx hD) hDl gD) q659 q661 qs16 q146 q662 dJ2_grow_7 (by decide +kernel) rfl rfl (Nat.le_of_ble_eq_true rfl) rfl ?_
  exact AW.aretE dJ2_grow_10 rfl (Or.inr ⟨_, rfl⟩) (Or.inr ⟨_, rfl⟩) rfl rfl rfl
theorem r_J2_grow_1 {s : Sg} {D : Nat} {m : Int32} (hb : 128 ≤ s.b.n) (hD : 640 ≤ D) (hDl : D < 512 + s.b.n) {E : Nat} {f : Nat → Value} (hE : 640 ≤ E) (hEl : E < 512 + s.b.n) (i : Nat) (h1 : 1 ≤ i) (h8 : i ≤ 8) (gD : s.b.g D = some (.inr (16, [.int (m), .ref E, .int (nI (capN i))]))) (gE : s.b.g E = some (.inl (6, capN i, f))) (hv : ∀ j, j < capN i → ObjR s.b (f j)) : Run 5 mJ2_grow [.ref D] (hp s) (.inl (some (.ref (512 + s.b.n)))) (hp (s.setb ((s.b.push (.inl (6, capN (i + 1), mv0 (fun _ => .null) f (capN i))) (capN (i + 1))).set D (.inr (16, [.int (m), .ref (512 + s.b.n), .int (nI (capN i))]))))) := by
  refine Run.of rfl (Nat.le_of_ble_eq_true rfl) rfl ?_
  refine AW.aload_n dJ2_grow_0 rfl rfl ?_
  refine AW.aload_n dJ2_grow_1 rfl rfl ?_
  refine AW.get ci16 2 (by decide) q354 dJ2_grow_2 (by first | exact (hp_gb (nfx hD)).trans gD | exact gpo (nfx hD) hDl gD) rfl rfl ?_
  refine AW.iconst (v := 1) dJ2_grow_5 (by decide) rfl ?_
  refine AW.iadd dJ2_grow_6 rfl ?_
  refine AW.callV (Y := mJ2_grow_2) (n := 1) (r_J2_grow_2_1 hb hD hDl hE hEl i h1 h8 gD gE hv) (by decide) (by decide) rfl (by first | exact (hp_gb (nfx hD)).trans gD | exact gpo (nfx hD) hDl gD) q659 q661 qs16 q146 q662 dJ2_grow_7 (by decide +kernel) rfl rfl (Nat.le_of_ble_eq_true rfl) rfl ?_
  exact AW.aretE dJ2_grow_10 rfl (Or.inr ⟨_, rfl⟩) (Or.inr ⟨_, rfl⟩) rfl rfl rfl
theorem r_J2_add_2_a {s : Sg} {D : Nat} {m : Int32} (hb : 128 ≤ s.b.n) (hD : 640 ≤ D) (hDl : D < 512 + s.b.n) {n cap : Nat} {E : Nat} {f : Nat → Value} (hE : 640 ≤ E) (hEl : E < 512 + s.b.n) (hDE : D ≠ E) (gD : s.b.g D = some (.inr (16, [.int (m), .ref E, .int (nI n)]))) (gE : s.b.g E = some (.inl (6, cap, f))) (hn : n < cap) (hc : cap ≤ 1000) {v ci : Nat} {fs : List Value} {rC : vw_C} (hvf : isFx v = false) (hvl : v < 512 + s.b.n) (hvD : v ≠ D) (gv : s.b.g v = some (.inr (ci, fs))) (hci : clL[ci]? = some rC) (hcast : Cond.castable rC.1 "java/lang/Object" ∈ lw_tbl) : Run 6 mJ2_add_2 [.ref D, .ref v, .ref E, .int (nI n)] (hp s) (.inl none) (hp (s.setb ((s.b.set E (.inl (6, cap, up f n (.ref v)))).set D (.inr (16, [.int (m), .ref E, .int (nI n + 1)]))))) := by
  refine Run.of rfl (Nat.le_of_ble_eq_true rfl) rfl ?_
  refine AW.iload_n dJ2_add_2_0 rfl rfl ?_
  refine AW.aload_n dJ2_add_2_1 rfl rfl ?_
  refine AW.alen dJ2_add_2_2 ((hp_gb (nfx hE)).trans gE) rfl rfl ?_
  refine AW.icmp_ne (tgt := 11) dJ2_add_2_3 (by decide) rfl (fun _ => ?_) (fun c_ => by first | exact absurd c_ (nI_ne (a := n) (b := cap) (by omega) (by omega) (by omega)) | exact absurd (nI_ne (a := n) (b := cap) (by omega) (by omega) (by omega)) c_ | exact absurd c_ (not_not_intro (nI_ne (a := n) (b := cap) (by omega) (by omega) (by omega))) | exact Bool.noConfusion (c_.symm.trans (nI_ne (a := n) (b := cap) (by omega) (by omega) (by omega))))
  refine AW.aload_n dJ2_add_2_11 rfl rfl ?_
  refine AW.iload_n dJ2_add_2_12 rfl rfl ?_
  refine AW.aload_n dJ2_add_2_13 rfl rfl ?_
  refine AW.aast dJ2_add_2_14 (by omega) ((hp_gb (nfx hE)).trans gE) (fun _ => rfl) ((hp_gb hvf).trans gv) hci hcast (vp_in_nI (by omega) (by omega)) (j := n) (cI_nI (by omega)) (hp_set6 hE) rfl ?_
  refine AW.aload_n dJ2_add_2_15 rfl rfl ?_
  refine AW.iload_n dJ2_add_2_16 rfl rfl ?_
  refine AW.iconst (v := 1) dJ2_add_2_17 (by decide) rfl ?_
  refine AW.iadd dJ2_add_2_18 rfl ?_
  refine AW.put ci16 2 (by decide) q354 dJ2_add_2_19 (by omega) (by first | exact (hp_gb (nfx hD)).trans gD | exact (hp_gb (nfx hD)).trans ((set_go hDE).trans gD) | exact (hp_gb (nfx hD)).trans set_g | exact (hp_gb (nfx hD)).trans ((set_go hDN).trans set_g)) rfl (fun _ => rfl) (fun _ => rfl) (Nat.le_of_ble_eq_true rfl) (hp_set6 hD) rfl ?_
  exact AW.vretE dJ2_add_2_22 rfl rfl rfl
theorem r_J2_add_2_b {s : Sg} {D : Nat} {m : Int32} (hb : 128 ≤ s.b.n) (hD : 640 ≤ D) (hDl : D < 512 + s.b.n) {n cap cap2 E : Nat} (gD : s.b.g D = some (.inr (16, [.int (m), .ref E, .int (nI n)]))) {f2 : Nat → Value} {tA : Nat} {fA : Nat → Value} {tyA : FieldType} (gA : (hp s).g E = some (.inl (tA, n, fA))) (htA : atAll[tA]? = some tyA) (hn : n < cap2) (hc : cap2 ≤ 1000) (hG : Run 5 mJ2_grow [.ref D] (hp s) (.inl (some (.ref (512 + s.b.n)))) (hp (s.setb ((s.b.push (.inl (6, cap2, f2)) cap2).set D (.inr (16, [.int (m), .ref (512 + s.b.n), .int (nI n)])))))) {v ci : Nat} {fs : List Value} {rC : vw_C} (hvf : isFx v = false) (hvl : v < 512 + s.b.n) (hvD : v ≠ D) (gv : s.b.g v = some (.inr (ci, fs))) (hci : clL[ci]? = some rC) (hcast : Cond.castable rC.1 "java/lang/Object" ∈ lw_tbl) : Run 6 mJ2_add_2 [.ref D, .ref v, .ref E, .int (nI n)] (hp s) (.inl none) (hp (s.setb (((((s.b.push (.inl (6, cap2, f2)) cap2).set D (.inr (16, [.int (m), .ref (512 + s.b.n), .int (nI n)])))).set (512 + s.b.n) (.inl (6, cap2, up f2 n (.ref v)))).set D (.inr (16, [.int (m), .ref (512 + s.b.n), .int (nI n + 1)]))))) := by
  refine Run.of rfl (Nat.le_of_ble_eq_true rfl) rfl ?_
  refine AW.iload_n dJ2_add_2_0 rfl rfl ?_
  refine AW.aload_n dJ2_add_2_1 rfl rfl ?_
  refine AW.alen dJ2_add_2_2 gA htA rfl ?_
  refine AW.icmp_ne (tgt := 11) dJ2_add_2_3 (by decide) rfl (fun c_ => by first | exact absurd c_ (show nI n = Int32.ofNat n from rfl) | exact absurd (show nI n = Int32.ofNat n from rfl) c_ | exact Bool.noConfusion (c_.symm.trans (show nI n = Int32.ofNat n from rfl))) (fun _ => ?_)
  refine AW.aload_n dJ2_add_2_6 rfl rfl ?_
  refine AW.callV (Y := mJ2_grow) (n := 0) (hG) (by decide) (by decide) rfl (by first | exact (hp_gb (nfx hD)).trans gD | exact (hp_gb (nfx hD)).trans ((set_go (by omega)).trans set_g)) q655 q657 qs15 q146 q658 dJ2_add_2_7 (by decide +kernel) rfl rfl (Nat.le_of_ble_eq_true rfl) rfl ?_
  refine AW.astore_n (i := 2) dJ2_add_2_10 rfl rfl (Nat.le_of_ble_eq_true rfl) rfl rfl ?_
  refine AW.aload_n dJ2_add_2_11 rfl rfl ?_
  refine AW.iload_n dJ2_add_2_12 rfl rfl ?_
  refine AW.aload_n dJ2_add_2_13 rfl rfl ?_
  refine AW.aast dJ2_add_2_14 (by omega) ((hp_gb (nfx (by omega))).trans ((set_go (by omega)).trans push_g)) (fun _ => rfl) ((hp_gb hvf).trans ((set_go hvD).trans ((push_go (by omega)).trans gv))) hci hcast (vp_in_nI (by omega) (by omega)) (j := n) (cI_nI (by omega)) (hp_set6 (by omega)) rfl ?_
  refine AW.aload_n dJ2_add_2_15 rfl rfl ?_
  refine AW.iload_n dJ2_add_2_16 rfl rfl ?_
  refine AW.iconst (v := 1) dJ2_add_2_17 (by decide) rfl ?_
  refine AW.iadd dJ2_add_2_18 rfl ?_
  refine AW.put ci16 2 (by decide) q354 dJ2_add_2_19 (by omega) (by first | exact (hp_gb (nfx hD)).trans gD | exact (hp_gb (nfx hD)).trans ((set_go (by omega)).trans set_g)) rfl (fun _ => rfl) (fun _ => rfl) (Nat.le_of_ble_eq_true rfl) (hp_set6 hD) rfl ?_
  exact AW.vretE dJ2_add_2_22 rfl rfl rfl
theorem r_J2_add {s : Sg} {D : Nat} {m : Int32} (hb : 128 ≤ s.b.n) (hD : 640 ≤ D) (hDl : D < 512 + s.b.n) {n E v : Nat} {B : AH} (gD : s.b.g D = some (.inr (16, [.int (m), .ref E, .int (nI n)]))) (h2 : Run 6 mJ2_add_2 [.ref D, .ref v, .ref E, .int (nI n)] (hp (s.setb (s.b.set D (.inr (16, [.int (m + 1), .ref E, .int (nI n)]))))) (.inl none) (hp (s.setb B))) : Run 7 mJ2_add [.ref D, .ref v] (hp s) (.inl (some (.int (b2i true)))) (hp (s.setb B)) := by
  refine Run.of rfl (Nat.le_of_ble_eq_true rfl) rfl ?_
  refine AW.aload_n dJ2_add_0 rfl rfl ?_
  refine AW.dup dJ2_add_1 rfl rfl ?_
  refine AW.getU ci16 0 (by decide) q356 q357 dJ2_add_2 (by first | exact (hp_gb (nfx hD)).trans gD | exact (hp_gb (nfx hD)).trans set_g) rfl rfl ?_
  refine AW.iconst (v := 1) dJ2_add_5 (by decide) rfl ?_
  refine AW.iadd dJ2_add_6 rfl ?_
  refine AW.putU ci16 0 (by decide) q356 q357 dJ2_add_7 (by omega) ((hp_gb (nfx hD)).trans gD) rfl (fun _ => rfl) (fun _ => rfl) (Nat.le_of_ble_eq_true rfl) (hp_set6 hD) rfl ?_
  refine AW.hp (h2 := hp (s.setb (s.b.set D (.inr (16, [.int (m + 1), .ref E, .int (nI n)]))))) rfl ?_
  refine AW.aload_n dJ2_add_10 rfl rfl ?_
  refine AW.aload_n dJ2_add_11 rfl rfl ?_
  refine AW.aload_n dJ2_add_12 rfl rfl ?_
  refine AW.get ci16 1 (by decide) q353 dJ2_add_13 (by first | exact (hp_gb (nfx hD)).trans gD | exact (hp_gb (nfx hD)).trans set_g) rfl rfl ?_
  refine AW.aload_n dJ2_add_16 rfl rfl ?_
  refine AW.get ci16 2 (by decide) q354 dJ2_add_17 (by first | exact (hp_gb (nfx hD)).trans gD | exact (hp_gb (nfx hD)).trans set_g) rfl rfl ?_
  refine AW.callV (Y := mJ2_add_2) (n := 3) (h2) (by decide) (by decide) rfl (by first | exact (hp_gb (nfx hD)).trans gD | exact (hp_gb (nfx hD)).trans set_g) q651 q653 qs14 q146 q654 dJ2_add_20 (by decide +kernel) rfl rfl (Nat.le_of_ble_eq_true rfl) rfl ?_
  refine AW.iconst (v := 1) dJ2_add_23 (by decide) rfl ?_
  exact AW.bretE dJ2_add_24 rfl rfl rfl rfl
theorem set_set {b : AH} {k : Nat} {c c2 : AC} : (b.set k c).set k c2 = b.set k c2 := by
  refine congrArg (fun z => (b.n, b.u, z)) (funext fun j => ?_)
  show (if j = k then some c2 else if j = k then some c else b.g j) = (if j = k then some c2 else b.g j)
  split <;> rfl
theorem r_J0_init {h : AH} {D : Nat} : Run 2 mJ0_init [.ref D] h (.inl none) h := by
  refine Run.of rfl (Nat.le_of_ble_eq_true rfl) rfl ?_
  refine AW.aload_n dJ0_init_0 rfl rfl ?_
  refine AW.obj dJ0_init_1 q350 q178 q179 (by decide) rfl (by decide) rfl ?_
  exact AW.vretE dJ0_init_4 rfl rfl rfl
theorem r_J1_init {s : Sg} {D : Nat} (hD : 640 ≤ D) {v w : Value} {m : Int32} (gD : s.b.g D = some (.inr (16, [.int m, v, w]))) : Run 3 mJ1_init [.ref D] (hp s) (.inl none) (hp (s.setb (s.b.set D (.inr (16, [.int 0, v, w]))))) := by
  refine Run.of rfl (Nat.le_of_ble_eq_true rfl) rfl ?_
  refine AW.aload_n dJ1_init_0 rfl rfl ?_
  refine AW.callI (Y := mJ0_init) (n := 0) (r_J0_init) (by decide) (by decide) rfl q347 q348 q144 q349 dJ1_init_1 rfl (by decide +kernel) rfl rfl (Nat.le_of_ble_eq_true rfl) rfl ?_
  refine AW.aload_n dJ1_init_4 rfl rfl ?_
  refine AW.iconst (v := 0) dJ1_init_5 (by decide) rfl ?_
  refine AW.put ci16 0 (by decide) q355 dJ1_init_6 (by omega) (by first | exact (hp_gb (nfx hD)).trans gD | exact (hp_gb (nfx hD)).trans set_g) rfl (fun _ => rfl) (fun _ => rfl) (Nat.le_of_ble_eq_true rfl) (hp_set6 hD) rfl ?_
  exact AW.vretE dJ1_init_9 rfl rfl rfl
theorem r_J2_init {s : Sg} {D : Nat} (hD : 640 ≤ D) {v : Value} {m : Int32} (gD : s.b.g D = some (.inr (16, [.int m, v, .int 0]))) : Run 4 mJ2_init [.ref D] (hp s) (.inl none) (hp (s.setb (s.b.set D (.inr (16, [.int (0), .ref 2, .int (0)]))))) := by
  refine Run.of rfl (Nat.le_of_ble_eq_true rfl) rfl ?_
  refine AW.aload_n dJ2_init_0 rfl rfl ?_
  refine AW.callI (Y := mJ1_init) (n := 0) (r_J1_init hD gD) (by decide) (by decide) rfl q344 q345 q145 q346 dJ2_init_1 rfl (by decide +kernel) rfl rfl (Nat.le_of_ble_eq_true rfl) rfl ?_
  refine AW.aload_n dJ2_init_4 rfl rfl ?_
  refine AW.gets (q := zL.get ⟨2, by decide⟩) (List.get_mem _ _) dJ2_init_5 q351 rfl ?_
  refine AW.put ci16 1 (by decide) q353 dJ2_init_8 (by omega) (by first | exact (hp_gb (nfx hD)).trans gD | exact (hp_gb (nfx hD)).trans set_g) rfl (fun _ => rfl) (fun _ => rfl) (Nat.le_of_ble_eq_true rfl) (hp_set6 hD) rfl ?_
  exact AW.vretE dJ2_init_11 rfl rfl (by first | rfl | exact congrArg (fun z => hp (s.setb z)) set_set)
