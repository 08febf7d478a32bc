/-! CONSTRUCTORS (printed by tools/x40.py) -/
set_option maxRecDepth 100000
theorem dfX0 : ∀ (E : EE) (j : Nat), j < 12 → defaultValue (tyX0 j) = cv E (vp_V [.null, .null, .null, .int 0, .int 0, .int 0, .null, .null, .null, .null, .null, .int 0] j) := fun E j hj => by
  have : j = 0 ∨ j = 1 ∨ j = 2 ∨ j = 3 ∨ j = 4 ∨ j = 5 ∨ j = 6 ∨ j = 7 ∨ j = 8 ∨ j = 9 ∨ j = 10 ∨ j = 11 := by omega
  rcases this with rfl | rfl | rfl | rfl | rfl | rfl | rfl | rfl | rfl | rfl | rfl | rfl <;> rfl
theorem dfX1 : ∀ (E : EE) (j : Nat), j < 6 → defaultValue (tyX1 j) = cv E (vp_V [.null, .null, .null, .null, .null, .null] j) := fun E j hj => by
  have : j = 0 ∨ j = 1 ∨ j = 2 ∨ j = 3 ∨ j = 4 ∨ j = 5 := by omega
  rcases this with rfl | rfl | rfl | rfl | rfl | rfl <;> rfl
theorem dfX2 : ∀ (E : EE) (j : Nat), j < 36 → defaultValue (tyX2 j) = cv E (vp_V [.null, .null, .null, .null, .int 0, .int 0, .int 0, .int 0, .int 0, .int 0, .int 0, .long 0, .int 0, .int 0, .int 0, .null, .int 0, .int 0, .int 0, .int 0, .int 0, .null, .null, .null, .null, .int 0, .int 0, .int 0, .int 0, .null, .int 0, .int 0, .null, .null, .null, .null] j) := fun E j hj => by
  have : j = 0 ∨ j = 1 ∨ j = 2 ∨ j = 3 ∨ j = 4 ∨ j = 5 ∨ j = 6 ∨ j = 7 ∨ j = 8 ∨ j = 9 ∨ j = 10 ∨ j = 11 ∨ j = 12 ∨ j = 13 ∨ j = 14 ∨ j = 15 ∨ j = 16 ∨ j = 17 ∨ j = 18 ∨ j = 19 ∨ j = 20 ∨ j = 21 ∨ j = 22 ∨ j = 23 ∨ j = 24 ∨ j = 25 ∨ j = 26 ∨ j = 27 ∨ j = 28 ∨ j = 29 ∨ j = 30 ∨ j = 31 ∨ j = 32 ∨ j = 33 ∨ j = 34 ∨ j = 35 := by omega
  rcases this with rfl | rfl | rfl | rfl | rfl | rfl | rfl | rfl | rfl | rfl | rfl | rfl | rfl | rfl | rfl | rfl | rfl | rfl | rfl | rfl | rfl | rfl | rfl | rfl | rfl | rfl | rfl | rfl | rfl | rfl | rfl | rfl | rfl | rfl | rfl | rfl <;> rfl
/-- the fixed cells up to the m-th, but for those that P names -/
def hcs (s : Sg) (P : Nat → Option AC) (m u : Nat) : AH := (m, u, fun k => match P k with | some c => some c | none => if 512 ≤ k ∧ k < 512 + m then some (fx s k) else s.b.g k)
def upP (P : Nat → Option AC) (o : Nat) (c : AC) : Nat → Option AC := fun k => if k = o then some c else P k
def nP : Nat → Option AC := fun _ => none
section HCS
variable {s : Sg} {P : Nat → Option AC} {m u N K o a : Nat} {c c0 : AC}
theorem upP_eq : upP P o c o = some c := if_pos rfl
theorem upP_ne (h : a ≠ o) : upP P o c a = P a := if_neg h
theorem hc_new {w : Nat} : (hcs s P m u).push c w = hcs s (upP P (512 + m) c) (m + 1) (u + w) := by
  refine congrArg (fun z => (m + 1, u + w, z)) (funext fun k => ?_)
  show (if k = 512 + m then some c else match P k with | some c => some c | none => if 512 ≤ k ∧ k < 512 + m then some (fx s k) else s.b.g k) = match upP P (512 + m) c k with | some c => some c | none => if 512 ≤ k ∧ k < 512 + (m + 1) then some (fx s k) else s.b.g k
  by_cases e : k = 512 + m
  · subst e; rw [if_pos rfl, upP_eq]
  · rw [if_neg e, upP_ne e]
    cases P k with
    | some c => rfl
    | none =>
      show (if _ then _ else _) = if _ then _ else _
      by_cases h : 512 ≤ k ∧ k < 512 + m
      · rw [if_pos h, if_pos (by omega)]
      · rw [if_neg h, if_neg (by omega)]
theorem hc_done (hP : P o = none) (h1 : 512 ≤ o) (h2 : o < 512 + m) (hc : fx s o = c) : hcs s (upP P o c) m u = hcs s P m u := by
  refine congrArg (fun z => (m, u, z)) (funext fun k => ?_)
  show (match upP P o c k with | some c => some c | none => if 512 ≤ k ∧ k < 512 + m then some (fx s k) else s.b.g k) = match P k with | some c => some c | none => if 512 ≤ k ∧ k < 512 + m then some (fx s k) else s.b.g k
  by_cases e : k = o
  · subst e; rw [upP_eq, hP]
    show some c = if _ then _ else _
    rw [if_pos ⟨h1, h2⟩, hc]
  · rw [upP_ne e]
theorem hc_push {w : Nat} (hP : P (512 + m) = none) (hc : fx s (512 + m) = c) : (hcs s P m u).push c w = hcs s P (m + 1) (u + w) := hc_new.trans (hc_done hP (by omega) (by omega) hc)
theorem hc_set : (hcs s (upP P o c0) m u).set o c = hcs s (upP P o c) m u := by
  refine congrArg (fun z => (m, u, z)) (funext fun k => ?_)
  show (if k = o then some c else match upP P o c0 k with | some c => some c | none => if 512 ≤ k ∧ k < 512 + m then some (fx s k) else s.b.g k) = match upP P o c k with | some c => some c | none => if 512 ≤ k ∧ k < 512 + m then some (fx s k) else s.b.g k
  by_cases e : k = o
  · subst e; rw [if_pos rfl, upP_eq]
  · rw [if_neg e, upP_ne e, upP_ne e]
theorem hc_at : (hcs s (upP P o c) m u).g o = some c := by
  show (match upP P o c o with | some c => some c | none => if 512 ≤ o ∧ o < 512 + m then some (fx s o) else s.b.g o) = some c
  rw [upP_eq]
theorem hc_fx (hP : P a = none) (h1 : 512 ≤ a) (h2 : a < 512 + m) : (hcs s P m u).g a = some (fx s a) := by
  show (match P a with | some c => some c | none => if 512 ≤ a ∧ a < 512 + m then some (fx s a) else s.b.g a) = _
  rw [hP]
  exact if_pos ⟨h1, h2⟩
theorem hc_gI (hI : isI a = true) (hP : P a = none) (h1 : 512 ≤ a) (h2 : a < 512 + m) : (hcs s P m u).g a = some (ia (ln a) (s.A a)) := by rw [hc_fx hP h1 h2, fx_I hI]
theorem hc_sI {f : Nat → Int32} (hI : isI a = true) (hP : P a = none) (h1 : 512 ≤ a) (h2 : a < 512 + m) : (hcs s P m u).set a (ia (ln a) f) = hcs (s.setA a f) P m u := by
  refine congrArg (fun z => (m, u, z)) (funext fun k => ?_)
  show (if k = a then some (ia (ln a) f) else match P k with | some c => some c | none => if 512 ≤ k ∧ k < 512 + m then some (fx s k) else s.b.g k) = match P k with | some c => some c | none => if 512 ≤ k ∧ k < 512 + m then some (fx (s.setA a f) k) else s.b.g k
  by_cases e : k = a
  · subst e; rw [if_pos rfl, hP]
    show _ = if _ then _ else _
    rw [if_pos ⟨h1, h2⟩, fx_I hI, setA_at]
  · rw [if_neg e, fx_setA e]
theorem hc_pushI {w : Nat} (hP : P (512 + m) = none) (hI : isI (512 + m) = true) (hl : ln (512 + m) = N) (hz : s.A (512 + m) = fun _ => 0) : (hcs s P m u).push (.inl (0, N, fun _ => .int 0)) w = hcs s P (m + 1) (u + w) := hc_push hP (by rw [fx_I hI, hl, hz]; rfl)
theorem hc_grid (hP : ∀ j, j ≤ N → P (512 + m + j) = none) (ho : fx s (512 + m) = .inl (4, N, fun i => .ref (513 + m + i))) (hi : ∀ j, j < N → isI (513 + m + j) = true ∧ ln (513 + m + j) = K) (hz : ∀ j, j < N → s.A (513 + m + j) = fun _ => 0) : (hcs s P m u).grid N K = hcs s P (m + (1 + N)) (u + (N + N * K)) := by
  refine congrArg (fun z => (m + (1 + N), u + (N + N * K), z)) (funext fun k => ?_)
  show (if k = 512 + m then some (Sum.inl (4, N, fun i => Value.ref (513 + m + i)) : AC) else if 512 + m < k ∧ k ≤ 512 + m + N then some (Sum.inl (0, K, fun _ => Value.int 0) : AC) else match P k with | some c => some c | none => if 512 ≤ k ∧ k < 512 + m then some (fx s k) else s.b.g k) = match P k with | some c => some c | none => if 512 ≤ k ∧ k < 512 + (m + (1 + N)) then some (fx s k) else s.b.g k
  by_cases e : k = 512 + m
  · subst e
    rw [if_pos rfl, (show P (512 + m) = none from hP 0 (Nat.zero_le _))]
    show _ = if _ then _ else _
    rw [if_pos (by omega), ho]
  · rw [if_neg e]
    by_cases h : 512 + m < k ∧ k ≤ 512 + m + N
    · obtain ⟨j, rfl⟩ : ∃ j, k = 513 + m + j := ⟨k - (513 + m), by omega⟩
      obtain ⟨i1, i2⟩ := hi j (by omega)
      have hp0 := hP (1 + j) (by omega)
      rw [show 512 + m + (1 + j) = 513 + m + j by omega] at hp0
      rw [if_pos h, hp0]
      show _ = if _ then _ else _
      rw [if_pos (by omega), fx_I i1, i2, hz j (by omega)]
      rfl
    · rw [if_neg h]
      cases P k with
      | some c => rfl
      | none =>
        show (if _ then _ else _) = if _ then _ else _
        by_cases h2 : 512 ≤ k ∧ k < 512 + m
        · rw [if_pos h2, if_pos (by omega)]
        · rw [if_neg h2, if_neg (by omega)]
theorem hc_end (hb : s.b.n = 128) (hu : s.b.u = u) (hs : ∀ k, 512 ≤ k → s.b.g k = none) : hcs s nP 128 u = hp s := by
  subst hu
  show (128, s.b.u, _) = (s.b.n, s.b.u, _)
  rw [hb]
  refine congrArg (fun z => (128, s.b.u, z)) (funext fun k => ?_)
  show (if 512 ≤ k ∧ k < 512 + 128 then some (fx s k) else s.b.g k) = if isFx k = true then some (fx s k) else s.b.g k
  by_cases h : 512 ≤ k ∧ k < 512 + 128
  · rw [if_pos h, if_pos (by unfold isFx; rw [decide_eq_true h.1, decide_eq_true (by omega)]; rfl)]
  · rw [if_neg h, if_neg (fun q => h (by unfold isFx at q; rw [Bool.and_eq_true, decide_eq_true_eq, decide_eq_true_eq] at q; omega))]
end HCS
def Z0 (s : Sg) (lo hi : Nat) : Prop := ∀ k, lo ≤ k → k < hi → s.A k = fun _ => 0
theorem r_X1_init_513 {s : Sg} {P : Nat → Option AC} {u : Nat} (hP : ∀ k, 513 ≤ k → P k = none) (hz : Z0 s 513 566) (hT : ∀ j, s.T j = .null) : Run 3 mX1_init [.ref 513] (hcs s (upP P 513 (.inr (1, [.null, .null, .null, .null, .null, .null]))) 2 u) (.inl none) (hcs ((s.setA 514 (up (s.A 514) 2 (-1))).setA 515 (up (s.A 515) 1 131)) P 54 (u + 4591)) := by
  refine Run.of rfl (Nat.le_of_ble_eq_true rfl) rfl ?_
  refine AW.aload_n dX1_init_0 rfl rfl ?_
  refine AW.obj dX1_init_1 q185 q178 q179 (by decide) rfl (by decide) rfl ?_
  refine AW.aload_n dX1_init_4 rfl rfl ?_
  refine AW.bipush (v := 6) dX1_init_5 (by decide) rfl ?_
  refine AW.newa (t := 0) (ty := .int) (dv := .int 0) (N := 6) dX1_init_7 rfl (fun _ => rfl) (fun _ _ q => q) rfl (fun _ => rfl) q215 (by decide) (by decide) (by decide) (hc_pushI ((upP_ne (by decide)).trans (hP 514 (by decide))) rfl rfl (hz _ (by decide) (by decide))) rfl ?_
  refine AW.putF ci1 0 (by decide) q190 dX1_init_9 (Nat.le_of_ble_eq_true rfl) hc_at rfl rfl rfl (fun _ => rfl) (fun _ => rfl) (Nat.le_of_ble_eq_true rfl) hc_set rfl ?_
  refine AW.aload_n dX1_init_12 rfl rfl ?_
  refine AW.sipush (v := 145) dX1_init_13 (by decide) rfl ?_
  refine AW.newa (t := 0) (ty := .int) (dv := .int 0) (N := 145) dX1_init_16 rfl (fun _ => rfl) (fun _ _ q => q) rfl (fun _ => rfl) q215 (by decide) (by decide) (by decide) (hc_pushI ((upP_ne (by decide)).trans (hP 515 (by decide))) rfl rfl (hz _ (by decide) (by decide))) rfl ?_
  refine AW.putF ci1 1 (by decide) q192 dX1_init_18 (Nat.le_of_ble_eq_true rfl) hc_at rfl rfl rfl (fun _ => rfl) (fun _ => rfl) (Nat.le_of_ble_eq_true rfl) hc_set rfl ?_
  refine AW.aload_n dX1_init_21 rfl rfl ?_
  refine AW.bipush (v := 8) dX1_init_22 (by decide) rfl ?_
  refine AW.iconst (v := 3) dX1_init_24 (by decide) rfl ?_
  refine AW.grid (N := 8) (K := 3) dX1_init_25 q186 q215 (by decide) (by decide) (by decide) (by decide) (by decide) (by decide) (hc_grid (fun j hj => (upP_ne (by omega)).trans (hP _ (by omega))) rfl (by decide) (fun j hj => hz _ (by omega) (by omega))) rfl ?_
  refine AW.putF ci1 2 (by decide) q194 dX1_init_29 (Nat.le_of_ble_eq_true rfl) hc_at rfl rfl rfl (fun _ => rfl) (fun _ => rfl) (Nat.le_of_ble_eq_true rfl) hc_set rfl ?_
  refine AW.aload_n dX1_init_32 rfl rfl ?_
  refine AW.bipush (v := 8) dX1_init_33 (by decide) rfl ?_
  refine AW.iconst (v := 2) dX1_init_35 (by decide) rfl ?_
  refine AW.grid (N := 8) (K := 2) dX1_init_36 q186 q215 (by decide) (by decide) (by decide) (by decide) (by decide) (by decide) (hc_grid (fun j hj => (upP_ne (by omega)).trans (hP _ (by omega))) rfl (by decide) (fun j hj => hz _ (by omega) (by omega))) rfl ?_
  refine AW.putF ci1 3 (by decide) q196 dX1_init_40 (Nat.le_of_ble_eq_true rfl) hc_at rfl rfl rfl (fun _ => rfl) (fun _ => rfl) (Nat.le_of_ble_eq_true rfl) hc_set rfl ?_
  refine AW.aload_n dX1_init_43 rfl rfl ?_
  refine AW.bipush (v := 30) dX1_init_44 (by decide) rfl ?_
  refine AW.sipush (v := 145) dX1_init_46 (by decide) rfl ?_
  refine AW.grid (N := 30) (K := 145) dX1_init_49 q186 q215 (by decide) (by decide) (by decide) (by decide) (by decide) (by decide) (hc_grid (fun j hj => (upP_ne (by omega)).trans (hP _ (by omega))) rfl (by decide) (fun j hj => hz _ (by omega) (by omega))) rfl ?_
  refine AW.putF ci1 4 (by decide) q198 dX1_init_53 (Nat.le_of_ble_eq_true rfl) hc_at rfl rfl rfl (fun _ => rfl) (fun _ => rfl) (Nat.le_of_ble_eq_true rfl) hc_set rfl ?_
  refine AW.aload_n dX1_init_56 rfl rfl ?_
  refine AW.iconst (v := 4) dX1_init_57 (by decide) rfl ?_
  refine AW.anew (t := 5) dX1_init_58 q188 q189 (fun _ => rfl) (N := 4) (by decide) (by decide) (by decide) (hc_push ((upP_ne (by decide)).trans (hP 565 (by decide))) (show (Sum.inl (5, 4, fun j => s.T (2 * j)) : AC) = _ from congrArg (fun f => (Sum.inl (5, 4, f) : AC)) (funext fun j => hT _))) rfl ?_
  refine AW.putF ci1 5 (by decide) q200 dX1_init_61 (Nat.le_of_ble_eq_true rfl) hc_at rfl rfl rfl (fun _ => rfl) (fun _ => rfl) (Nat.le_of_ble_eq_true rfl) hc_set rfl ?_
  refine AW.aload_n dX1_init_64 rfl rfl ?_
  refine AW.get ci1 0 (by decide) q190 dX1_init_65 hc_at rfl rfl ?_
  refine AW.iconst (v := 2) dX1_init_68 (by decide) rfl ?_
  refine AW.iconst (v := (-1)) dX1_init_69 (by decide) rfl ?_
  refine AW.iast dX1_init_70 (Nat.le_of_ble_eq_true rfl) (hc_gI (a := 514) rfl ((upP_ne (by decide)).trans (hP 514 (by decide))) (by decide) (by decide)) (vp_in_iff.mpr ⟨by decide, by decide⟩) rfl (hc_sI (a := 514) rfl ((upP_ne (by decide)).trans (hP 514 (by decide))) (by decide) (by decide)) rfl ?_
  refine AW.aload_n dX1_init_71 rfl rfl ?_
  refine AW.get ci1 1 (by decide) q192 dX1_init_72 hc_at rfl rfl ?_
  refine AW.iconst (v := 1) dX1_init_75 (by decide) rfl ?_
  refine AW.sipush (v := 131) dX1_init_76 (by decide) rfl ?_
  refine AW.iast dX1_init_79 (Nat.le_of_ble_eq_true rfl) (hc_gI (a := 515) rfl ((upP_ne (by decide)).trans (hP 515 (by decide))) (by decide) (by decide)) (vp_in_iff.mpr ⟨by decide, by decide⟩) rfl (hc_sI (a := 515) rfl ((upP_ne (by decide)).trans (hP 515 (by decide))) (by decide) (by decide)) rfl ?_
  exact AW.vretE dX1_init_80 rfl rfl (hc_done (hP _ (by decide)) (by decide) (by decide) rfl)
theorem r_X1_init_566 {s : Sg} {P : Nat → Option AC} {u : Nat} (hP : ∀ k, 566 ≤ k → P k = none) (hz : Z0 s 566 619) (hT : ∀ j, s.T j = .null) : Run 3 mX1_init [.ref 566] (hcs s (upP P 566 (.inr (1, [.null, .null, .null, .null, .null, .null]))) 55 u) (.inl none) (hcs ((s.setA 567 (up (s.A 567) 2 (-1))).setA 568 (up (s.A 568) 1 131)) P 107 (u + 4591)) := by
  refine Run.of rfl (Nat.le_of_ble_eq_true rfl) rfl ?_
  refine AW.aload_n dX1_init_0 rfl rfl ?_
  refine AW.obj dX1_init_1 q185 q178 q179 (by decide) rfl (by decide) rfl ?_
  refine AW.aload_n dX1_init_4 rfl rfl ?_
  refine AW.bipush (v := 6) dX1_init_5 (by decide) rfl ?_
  refine AW.newa (t := 0) (ty := .int) (dv := .int 0) (N := 6) dX1_init_7 rfl (fun _ => rfl) (fun _ _ q => q) rfl (fun _ => rfl) q215 (by decide) (by decide) (by decide) (hc_pushI ((upP_ne (by decide)).trans (hP 567 (by decide))) rfl rfl (hz _ (by decide) (by decide))) rfl ?_
  refine AW.putF ci1 0 (by decide) q190 dX1_init_9 (Nat.le_of_ble_eq_true rfl) hc_at rfl rfl rfl (fun _ => rfl) (fun _ => rfl) (Nat.le_of_ble_eq_true rfl) hc_set rfl ?_
  refine AW.aload_n dX1_init_12 rfl rfl ?_
  refine AW.sipush (v := 145) dX1_init_13 (by decide) rfl ?_
  refine AW.newa (t := 0) (ty := .int) (dv := .int 0) (N := 145) dX1_init_16 rfl (fun _ => rfl) (fun _ _ q => q) rfl (fun _ => rfl) q215 (by decide) (by decide) (by decide) (hc_pushI ((upP_ne (by decide)).trans (hP 568 (by decide))) rfl rfl (hz _ (by decide) (by decide))) rfl ?_
  refine AW.putF ci1 1 (by decide) q192 dX1_init_18 (Nat.le_of_ble_eq_true rfl) hc_at rfl rfl rfl (fun _ => rfl) (fun _ => rfl) (Nat.le_of_ble_eq_true rfl) hc_set rfl ?_
  refine AW.aload_n dX1_init_21 rfl rfl ?_
  refine AW.bipush (v := 8) dX1_init_22 (by decide) rfl ?_
  refine AW.iconst (v := 3) dX1_init_24 (by decide) rfl ?_
  refine AW.grid (N := 8) (K := 3) dX1_init_25 q186 q215 (by decide) (by decide) (by decide) (by decide) (by decide) (by decide) (hc_grid (fun j hj => (upP_ne (by omega)).trans (hP _ (by omega))) rfl (by decide) (fun j hj => hz _ (by omega) (by omega))) rfl ?_
  refine AW.putF ci1 2 (by decide) q194 dX1_init_29 (Nat.le_of_ble_eq_true rfl) hc_at rfl rfl rfl (fun _ => rfl) (fun _ => rfl) (Nat.le_of_ble_eq_true rfl) hc_set rfl ?_
  refine AW.aload_n dX1_init_32 rfl rfl ?_
  refine AW.bipush (v := 8) dX1_init_33 (by decide) rfl ?_
  refine AW.iconst (v := 2) dX1_init_35 (by decide) rfl ?_
  refine AW.grid (N := 8) (K := 2) dX1_init_36 q186 q215 (by decide) (by decide) (by decide) (by decide) (by decide) (by decide) (hc_grid (fun j hj => (upP_ne (by omega)).trans (hP _ (by omega))) rfl (by decide) (fun j hj => hz _ (by omega) (by omega))) rfl ?_
  refine AW.putF ci1 3 (by decide) q196 dX1_init_40 (Nat.le_of_ble_eq_true rfl) hc_at rfl rfl rfl (fun _ => rfl) (fun _ => rfl) (Nat.le_of_ble_eq_true rfl) hc_set rfl ?_
  refine AW.aload_n dX1_init_43 rfl rfl ?_
  refine AW.bipush (v := 30) dX1_init_44 (by decide) rfl ?_
  refine AW.sipush (v := 145) dX1_init_46 (by decide) rfl ?_
  refine AW.grid (N := 30) (K := 145) dX1_init_49 q186 q215 (by decide) (by decide) (by decide) (by decide) (by decide) (by decide) (hc_grid (fun j hj => (upP_ne (by omega)).trans (hP _ (by omega))) rfl (by decide) (fun j hj => hz _ (by omega) (by omega))) rfl ?_
  refine AW.putF ci1 4 (by decide) q198 dX1_init_53 (Nat.le_of_ble_eq_true rfl) hc_at rfl rfl rfl (fun _ => rfl) (fun _ => rfl) (Nat.le_of_ble_eq_true rfl) hc_set rfl ?_
  refine AW.aload_n dX1_init_56 rfl rfl ?_
  refine AW.iconst (v := 4) dX1_init_57 (by decide) rfl ?_
  refine AW.anew (t := 5) dX1_init_58 q188 q189 (fun _ => rfl) (N := 4) (by decide) (by decide) (by decide) (hc_push ((upP_ne (by decide)).trans (hP 618 (by decide))) (show (Sum.inl (5, 4, fun j => s.T (2 * j + 1)) : AC) = _ from congrArg (fun f => (Sum.inl (5, 4, f) : AC)) (funext fun j => hT _))) rfl ?_
  refine AW.putF ci1 5 (by decide) q200 dX1_init_61 (Nat.le_of_ble_eq_true rfl) hc_at rfl rfl rfl (fun _ => rfl) (fun _ => rfl) (Nat.le_of_ble_eq_true rfl) hc_set rfl ?_
  refine AW.aload_n dX1_init_64 rfl rfl ?_
  refine AW.get ci1 0 (by decide) q190 dX1_init_65 hc_at rfl rfl ?_
  refine AW.iconst (v := 2) dX1_init_68 (by decide) rfl ?_
  refine AW.iconst (v := (-1)) dX1_init_69 (by decide) rfl ?_
  refine AW.iast dX1_init_70 (Nat.le_of_ble_eq_true rfl) (hc_gI (a := 567) rfl ((upP_ne (by decide)).trans (hP 567 (by decide))) (by decide) (by decide)) (vp_in_iff.mpr ⟨by decide, by decide⟩) rfl (hc_sI (a := 567) rfl ((upP_ne (by decide)).trans (hP 567 (by decide))) (by decide) (by decide)) rfl ?_
  refine AW.aload_n dX1_init_71 rfl rfl ?_
  refine AW.get ci1 1 (by decide) q192 dX1_init_72 hc_at rfl rfl ?_
  refine AW.iconst (v := 1) dX1_init_75 (by decide) rfl ?_
  refine AW.sipush (v := 131) dX1_init_76 (by decide) rfl ?_
  refine AW.iast dX1_init_79 (Nat.le_of_ble_eq_true rfl) (hc_gI (a := 568) rfl ((upP_ne (by decide)).trans (hP 568 (by decide))) (by decide) (by decide)) (vp_in_iff.mpr ⟨by decide, by decide⟩) rfl (hc_sI (a := 568) rfl ((upP_ne (by decide)).trans (hP 568 (by decide))) (by decide) (by decide)) rfl ?_
  exact AW.vretE dX1_init_80 rfl rfl (hc_done (hP _ (by decide)) (by decide) (by decide) rfl)
