/-! SYSTEM 36: a knock, days, doings, years, by the model's row (printed by tools/x36.py) -/
set_option maxRecDepth 100000
theorem q_knock_f {N nt c e g : Nat} {a : Nat → Int32} {s : Sg} (h : RelX N nt c e g a s.A) (y : Int32) (hh : (vwM a).her y = false) : Run 4 mX0_knock [.ref 512, .int y] (hp s) (.inl (some (.int (-1)))) (hp s) := by
  rw [h.vw] at hh
  refine Run.of rfl (Nat.le_of_ble_eq_true rfl) rfl ?_
  refine AW.aload_n dX0_knock_0 rfl rfl ?_
  refine AW.iload_n dX0_knock_1 rfl rfl ?_
  refine AW.callV (Y := mX0_isThere) (n := 1) (r_X0_isThere _) (by decide) (by decide) rfl gX q980 q982 qs33 q138 q983 dX0_knock_2 (by decide +kernel) rfl rfl (Nat.le_of_ble_eq_true rfl) rfl ?_
  refine AW.if_neB (tgt := 10) dX0_knock_5 (by decide) rfl (fun c_ => by first | exact absurd c_ hh | exact absurd hh c_ | exact Bool.noConfusion (c_.symm.trans hh)) (fun _ => ?_)
  refine AW.iconst (v := (-1)) dX0_knock_8 (by decide) rfl ?_
  exact AW.iretE dX0_knock_9 rfl rfl rfl rfl
theorem her_k {N : Nat} {a : Nat → Int32} (h0 : a 0 = nI N) (h7 : N ≤ 7) {y : Int32} (h : (vwM a).her y = true) : ∃ k, k < N ∧ y = nI k := hou_V h0 h7 (Vw.her_hou h)
theorem q_knock_k {N nt c e g x : Nat} {a : Nat → Int32} {s : Sg} {L : Lw} (hb : 128 ≤ s.b.n) (h : RelX N nt c e g a s.A) (hR : Rl s x L) {k : Nat} (hk : k < N) (hh : (vwM a).her (nI k) = true) : RX (QF s (knockM (keepI a) L (nI k)) 1 3) 65 mX0_knock [.ref 512, .int (nI k)] (hp s) (some (.int (b2i (hasI (gtM (keepI a) (nI k) 0) (keepI a 8 % 20))))) := by
  rw [h.vw] at hh
  obtain ⟨c2, hk2⟩ := keep_rel h
  have h3 := h.n3
  obtain ⟨_, ⟨t, ft, rt, rfl⟩, run⟩ := q_knocking (s := keepS s c) (by rw [keepS_b]; exact hb) hk2 (hR.keep h3.2.1) hk
  rw [← h.kI] at rt run
  refine RX.of rfl (Nat.le_of_ble_eq_true rfl) rfl ?_
  refine AX.map (fun _ k_ => AW.aload_n dX0_knock_0 rfl rfl k_) ?_
  refine AX.map (fun _ k_ => AW.iload_n dX0_knock_1 rfl rfl k_) ?_
  refine AX.map (fun _ k_ => AW.callV (Y := mX0_isThere) (n := 1) (r_X0_isThere _) (by decide) (by decide) rfl gX q980 q982 qs33 q138 q983 dX0_knock_2 (by decide +kernel) rfl rfl (Nat.le_of_ble_eq_true rfl) rfl k_) ?_
  refine AX.map (fun _ k_ => AW.if_neB (tgt := 10) dX0_knock_5 (by decide) rfl (fun _ => k_) (fun c_ => by first | exact absurd c_ hh | exact absurd hh c_ | exact absurd c_ (not_not_intro hh) | exact Bool.noConfusion (c_.symm.trans hh))) ?_
  refine AX.map (fun _ k_ => AW.aload_n dX0_knock_10 rfl rfl k_) ?_
  refine AX.map (fun _ k_ => AW.get ci0 0 (by decide) q229 dX0_knock_11 gX rfl rfl k_) ?_
  refine AX.map (fun _ k_ => AW.callV (Y := mX1_keeps) (n := 0) (r_X1_keeps h3.1 h3.2.1) (by decide) (by decide) rfl gN q850 q851 q852 q139 q853 dX0_knock_14 (by decide +kernel) rfl rfl (Nat.le_of_ble_eq_true rfl) rfl k_) ?_
  refine AX.map (fun _ k_ => AW.aload_n dX0_knock_17 rfl rfl k_) ?_
  refine AX.map (fun _ k_ => AW.iload_n dX0_knock_18 rfl rfl k_) ?_
  refine AX.map (fun _ k_ => AW.callV (Y := mX0_knocking) (n := 1) (run) (by decide) (by decide) rfl gX q984 q986 qs34 q138 q987 dX0_knock_19 (by decide +kernel) rfl rfl (Nat.le_of_ble_eq_true rfl) rfl k_) ?_
  exact ⟨_, ⟨t, (Fr.keep h3.2.1).tr0 ft, rt, rfl⟩, AW.iretE dX0_knock_22 rfl rfl rfl rfl⟩
theorem q_day_f {N nt c e g : Nat} {a : Nat → Int32} {s : Sg} (h : RelX N nt c e g a s.A) (n : Int32) (hc : (inI n 1 60 && decide (a 8 + n ≤ 9999)) = false) : Run 3 mX0_day [.ref 512, .int n] (hp s) (.inl (some (.int (-1)))) (hp s) := by
  have e8 := (h.cr.at8).1
  refine Run.of rfl (Nat.le_of_ble_eq_true rfl) rfl ?_
  refine AW.iload_n dX0_day_0 rfl rfl ?_
  refine AW.iconst (v := 1) dX0_day_1 (by decide) rfl ?_
  refine AW.bipush (v := 60) dX0_day_2 (by decide) rfl ?_
  refine AW.callS (Y := mX0_in) (n := 3) (r_X0_in _ _ _) (by decide) (by decide) q271 q272 q138 q273 dX0_day_4 (by decide +kernel) rfl rfl (Nat.le_of_ble_eq_true rfl) rfl ?_
  refine AW.if_eqB (tgt := 27) dX0_day_7 (by decide) rfl (fun c7 => ?_) (fun c7 => ?_)
  · refine AW.iconst (v := (-1)) dX0_day_27 (by decide) rfl ?_
    exact AW.iretE dX0_day_28 rfl rfl rfl rfl
  · refine AW.aload_n dX0_day_10 rfl rfl ?_
    refine AW.get ci0 0 (by decide) q229 dX0_day_11 gX rfl rfl ?_
    refine AW.getN ci1 1 (by decide) q193 dX0_day_14 gN rfl rfl ?_
    refine AW.iconst (v := 0) dX0_day_17 (by decide) rfl ?_
    refine AW.iald dX0_day_18 g515 (vp_in_iff.mpr (by decide)) (j := 0) (by decide) rfl ?_
    refine AW.iload_n dX0_day_19 rfl rfl ?_
    refine AW.iadd dX0_day_20 rfl ?_
    refine AW.sipush (v := 9999) dX0_day_21 (by decide) rfl ?_
    refine AW.icmp_le (tgt := 29) dX0_day_24 (by decide) rfl (fun c24 => ?_) (fun c24 => ?_)
    · rw [c7, ← e8, dec_t c24] at hc
      exact absurd hc (by decide)
    · refine AW.iconst (v := (-1)) dX0_day_27 (by decide) rfl ?_
      exact AW.iretE dX0_day_28 rfl rfl rfl rfl
theorem keepsM_8 {N nt c e g x : Nat} {a : Nat → Int32} {s : Sg} {L : Lw} (h : RelX N nt c e g a s.A) (hR : Rl s x L) {d : Nat} (hd : a 8 = nI d) : ∀ k, d + k ≤ 9999 → keepsM a L k 8 = nI (d + k) ∧ keepsM a L k 2 = a 2
  | 0, _ => ⟨hd, rfl⟩
  | k + 1, hk => by
    obtain ⟨i1, i2⟩ := keepsM_8 h hR hd k (by omega)
    have hm : MI (keepsM a L k) := (keepsM_ok h.mi k).1
    have e : keepsM a L (k + 1) = if keepsM a L k 8 = 9999 then keepsM a L k else passM (keepI (keepsM a L k)) L := rfl
    rw [e, if_neg (by rw [i1]; exact nI_ne (b := 9999) (by omega) (by decide) (by omega))]
    have q := passM_same (L := L) (MI_keep hm).1
    refine ⟨?_, q.2.1.trans ((keepI_lo hm (by decide) (by decide)).trans i2)⟩
    show up _ 8 _ 8 = _
    rw [up_eq, keepI_lo hm (by decide) (by decide), i1, nI_1]
    rfl
theorem q_day_t {N nt c e g x : Nat} {a : Nat → Int32} {s : Sg} {L : Lw} (hb : 128 ≤ s.b.n) (h : RelX N nt c e g a s.A) (hR : Rl s x L) {d m : Nat} (hd : a 8 = nI d) (hm : 1 ≤ m) (hm6 : m ≤ 60) (hdm : d + m ≤ 9999) : RX (QF s (keepsM a L m) 0 0) 66 mX0_day [.ref 512, .int (nI m)] (hp s) (some (.int (keepsM a L m 8 % 20))) := by
  have e8 := (h.cr.at8).1
  have hi : inI (nI m) 1 60 = true := inI_iff.mpr ⟨by rw [nI_t (by omega)]; show (1 : Int) ≤ m; omega, by rw [nI_t (by omega)]; show (m : Int) ≤ 60; omega⟩
  have h24 : s.A 515 0 + nI m ≤ 9999 := by rw [e8, hd, nI_add]; exact nI_le hdm (by decide)
  refine RX.of rfl (Nat.le_of_ble_eq_true rfl) rfl ?_
  refine AX.map (fun _ k_ => AW.iload_n dX0_day_0 rfl rfl k_) ?_
  refine AX.map (fun _ k_ => AW.iconst (v := 1) dX0_day_1 (by decide) rfl k_) ?_
  refine AX.map (fun _ k_ => AW.bipush (v := 60) dX0_day_2 (by decide) rfl k_) ?_
  refine AX.map (fun _ k_ => AW.callS (Y := mX0_in) (n := 3) (r_X0_in _ _ _) (by decide) (by decide) q271 q272 q138 q273 dX0_day_4 (by decide +kernel) rfl rfl (Nat.le_of_ble_eq_true rfl) rfl k_) ?_
  refine AX.map (fun _ k_ => AW.if_eqB (tgt := 27) dX0_day_7 (by decide) rfl (fun c_ => by first | exact absurd c_ hi | exact absurd hi c_ | exact Bool.noConfusion (c_.symm.trans hi)) (fun _ => k_)) ?_
  refine AX.map (fun _ k_ => AW.aload_n dX0_day_10 rfl rfl k_) ?_
  refine AX.map (fun _ k_ => AW.get ci0 0 (by decide) q229 dX0_day_11 gX rfl rfl k_) ?_
  refine AX.map (fun _ k_ => AW.getN ci1 1 (by decide) q193 dX0_day_14 gN rfl rfl k_) ?_
  refine AX.map (fun _ k_ => AW.iconst (v := 0) dX0_day_17 (by decide) rfl k_) ?_
  refine AX.map (fun _ k_ => AW.iald dX0_day_18 g515 (vp_in_iff.mpr (by decide)) (j := 0) (by decide) rfl k_) ?_
  refine AX.map (fun _ k_ => AW.iload_n dX0_day_19 rfl rfl k_) ?_
  refine AX.map (fun _ k_ => AW.iadd dX0_day_20 rfl k_) ?_
  refine AX.map (fun _ k_ => AW.sipush (v := 9999) dX0_day_21 (by decide) rfl k_) ?_
  refine AX.map (fun _ k_ => AW.icmp_le (tgt := 29) dX0_day_24 (by decide) rfl (fun _ => k_) (fun c_ => by first | exact absurd c_ h24 | exact absurd h24 c_ | exact absurd c_ (not_not_intro h24) | exact Bool.noConfusion (c_.symm.trans h24))) ?_
  refine AX.map (fun _ k_ => AW.iconst (v := 0) dX0_day_29 (by decide) rfl k_) ?_
  refine AX.map (fun _ k_ => AW.istore_n (i := 2) dX0_day_30 rfl rfl (Nat.le_of_ble_eq_true rfl) rfl rfl k_) ?_
  refine loopUp (P := fun k => ∀ t : Sg, Fr 0 0 s t → Rel (keepsM a L k) t.A → AX (QF s (keepsM a L m) 0 0) 66 mX0_day (hp t) 31 [some (.ref 512), some (.int (nI m)), some (.int (nI k))] [] (.inl (some (.int (keepsM a L m 8 % 20))))) m ?_ ?_ 0 (by first | exact Nat.zero_le _ | omega) s (Fr.refl _) h.rel
  · intro t ft rt
    refine AX.map (fun _ k_ => AW.iload_n dX0_day_31 rfl rfl k_) ?_
    refine AX.map (fun _ k_ => AW.iload_n dX0_day_32 rfl rfl k_) ?_
    refine AX.map (fun _ k_ => AW.icmp_ge (tgt := 64) dX0_day_33 (by decide) rfl (fun _ => k_) (fun c_ => by first | exact absurd c_ (Int32.le_refl _) | exact absurd (Int32.le_refl _) c_ | exact absurd c_ (not_not_intro (Int32.le_refl _)) | exact Bool.noConfusion (c_.symm.trans (Int32.le_refl _)))) ?_
    refine AX.map (fun _ k_ => AW.aload_n dX0_day_64 rfl rfl k_) ?_
    refine AX.map (fun _ k_ => AW.get ci0 0 (by decide) q229 dX0_day_65 gX rfl rfl k_) ?_
    refine AX.map (fun _ k_ => AW.getN ci1 1 (by decide) q193 dX0_day_68 gN rfl rfl k_) ?_
    refine AX.map (fun _ k_ => AW.callS (Y := mX0_date) (n := 1) (r_X0_date) (by decide) (by decide) q870 q871 q138 q872 dX0_day_71 (by decide +kernel) rfl rfl (Nat.le_of_ble_eq_true rfl) rfl k_) ?_
    obtain ⟨_, _, _, _, _, rt2⟩ := rt
    exact ⟨_, ⟨t, ft, rt2.rel, rfl⟩, AW.iretE dX0_day_74 rfl rfl (by rw [rt2.cr.at8.1]) rfl⟩
  · intro k hk ihk
    intro t ft rt0
    obtain ⟨N1, nt1, c1, e1, g1, rt⟩ := rt0
    obtain ⟨q8, q2⟩ := keepsM_8 h hR hd k (by omega)
    have kR := hR.rel h.rel ft rt.rel q2
    obtain ⟨kok, kRl, p8, p2, kt⟩ := day_step rt kR q8 (by omega)
    have es : keepsM a L (k + 1) = if keepsM a L k 8 = 9999 then keepsM a L k else passM (keepI (keepsM a L k)) L := rfl
    rw [if_neg (by rw [q8]; exact nI_ne (b := 9999) (by omega) (by decide) (by omega))] at es
    refine AX.map (fun _ k_ => AW.iload_n dX0_day_31 rfl rfl k_) ?_
    refine AX.map (fun _ k_ => AW.iload_n dX0_day_32 rfl rfl k_) ?_
    refine AX.map (fun _ k_ => AW.icmp_ge (tgt := 64) dX0_day_33 (by decide) rfl (fun c_ => by first | exact absurd c_ (nI_ge hk (by omega)) | exact absurd (nI_ge hk (by omega)) c_ | exact Bool.noConfusion (c_.symm.trans (nI_ge hk (by omega)))) (fun _ => k_)) ?_
    refine AX.map (fun _ k_ => AW.aload_n dX0_day_36 rfl rfl k_) ?_
    refine AX.map (fun _ k_ => AW.get ci0 0 (by decide) q229 dX0_day_37 gX rfl rfl k_) ?_
    refine AX.map (fun _ k_ => AW.callV (Y := mX1_keeps) (n := 0) (r_X1_keeps rt.n3.1 rt.n3.2.1) (by decide) (by decide) rfl gN q850 q851 q852 q139 q853 dX0_day_40 (by decide +kernel) rfl rfl (Nat.le_of_ble_eq_true rfl) rfl k_) ?_
    refine AX.map (fun _ k_ => AW.aload_n dX0_day_43 rfl rfl k_) ?_
    refine AX.map (fun _ k_ => AW.aload_n dX0_day_44 rfl rfl k_) ?_
    refine AX.map (fun _ k_ => AW.callV (Y := mX0_rules) (n := 0) (r_X0_rules kRl.1) (by decide) (by decide) rfl gX q854 q856 qs24 q138 q857 dX0_day_45 (by decide +kernel) rfl rfl (Nat.le_of_ble_eq_true rfl) rfl k_) ?_
    refine AX.map (fun _ k_ => AW.aload_n dX0_day_48 rfl rfl k_) ?_
    refine AX.map (fun _ k_ => AW.get ci0 0 (by decide) q229 dX0_day_49 gX rfl rfl k_) ?_
    refine AX.map (fun _ k_ => AW.getN ci1 1 (by decide) q193 dX0_day_52 gN rfl rfl k_) ?_
    obtain ⟨_, ⟨t2, et2, xt2, rfl⟩, run⟩ := q_passes kok kRl.2.1 kRl.2.2
    refine AX.map (fun _ k_ => AW.callV (Y := mX0_passes) (n := 2) (run) (by decide) (by decide) rfl gX q860 q862 qs25 q138 q863 dX0_day_55 (by decide +kernel) rfl rfl (Nat.le_of_ble_eq_true rfl) rfl k_) ?_
    refine AX.map (fun _ k_ => AW.iinc (v := 1) dX0_day_58 rfl (by decide) rfl rfl rfl k_) ?_
    refine AX.map (fun _ k_ => AW.goto (tgt := 31) dX0_day_61 (by decide) k_) ?_
    obtain ⟨f2, r2⟩ := kt t2 et2 xt2
    exact AX.lsE (by rw [nI_succ k]; rfl) (ihk t2 (ft.tr0 f2) (by rw [es]; exact r2))
theorem nI1 : (1 : Int32) = nI 1 := rfl
theorem keepsM_2 {a : Nat → Int32} {L : Lw} (hm : MI a) (k : Nat) : keepsM a L k 2 = a 2 := (keepsM_ok hm k).2.2
theorem day1 {a : Nat → Int32} {L : Lw} {k : Nat} {A : Nat → Nat → Int32} (hz : ¬ keepsM a L k 8 = 9999) (h : Rel (keepsM (keepsM a L k) L 1) A) : Rel (passM (keepI (keepsM a L k)) L) A := by
  have e : keepsM (keepsM a L k) L 1 = if keepsM a L k 8 = 9999 then keepsM a L k else passM (keepI (keepsM a L k)) L := rfl
  rw [e, if_neg hz] at h
  exact h
theorem date_nm1 {b : Nat → Int32} {A : Nat → Nat → Int32} (h : Rel b A) : ¬ b 8 % 20 = -1 := by
  obtain ⟨_, _, _, _, _, -, -, ⟨w, -, ⟨-, d, d1, d2⟩, -⟩, -⟩ := h
  rw [d2, day_date (by omega)]
  exact nI_nm1 (by omega)
theorem AX.o9E {Q : AH → Prop} {d : Nat} {M : Mt} {h : AH} {pc : Nat} {ls : List (Option Value)} {st : List Value} {r r2 : Int32} (e : r = r2) (k : AX Q d M h pc ls st (.inl (some (.int r2)))) : AX Q d M h pc ls st (.inl (some (.int r))) := e ▸ k
theorem q_passesAll {N nt c e g x : Nat} {a : Nat → Int32} {s : Sg} {L : Lw} (hb : 128 ≤ s.b.n) (h : RelX N nt c e g a s.A) (hR : Rl s x L) {m : Nat} (hm : m ≤ 1000) : RX (QF s (keepsM a L m) 0 0) 67 mX0_passesAll [.ref 512, .int (nI m)] (hp s) (some (.int (b2i (arePF a L (m - 0) 0)))) := by
  obtain ⟨d, d1, d2⟩ := (h.cr.at8).2
  refine RX.of rfl (Nat.le_of_ble_eq_true rfl) rfl ?_
  refine AX.map (fun _ k_ => AW.iconst (v := 0) dX0_passesAll_0 (by decide) rfl k_) ?_
  refine AX.map (fun _ k_ => AW.istore_n (i := 2) dX0_passesAll_1 rfl rfl (Nat.le_of_ble_eq_true rfl) rfl rfl k_) ?_
  refine loopUp (P := fun k => ∀ t : Sg, Fr 0 0 s t → Rel (keepsM a L k) t.A → AX (QF s (keepsM a L m) 0 0) 67 mX0_passesAll (hp t) 2 [some (.ref 512), some (.int (nI m)), some (.int (nI k))] [] (.inl (some (.int (b2i (arePF a L (m - k) k)))))) m ?_ ?_ 0 (by first | exact Nat.zero_le _ | omega) s (Fr.refl _) h.rel
  · intro t ft rt
    refine AX.map (fun _ k_ => AW.iload_n dX0_passesAll_2 rfl rfl k_) ?_
    refine AX.map (fun _ k_ => AW.iload_n dX0_passesAll_3 rfl rfl k_) ?_
    refine AX.map (fun _ k_ => AW.icmp_ge (tgt := 24) dX0_passesAll_4 (by decide) rfl (fun _ => k_) (fun c_ => by first | exact absurd c_ (Int32.le_refl _) | exact absurd (Int32.le_refl _) c_ | exact absurd c_ (not_not_intro (Int32.le_refl _)) | exact Bool.noConfusion (c_.symm.trans (Int32.le_refl _)))) ?_
    refine AX.map (fun _ k_ => AW.iconst (v := 1) dX0_passesAll_24 (by decide) rfl k_) ?_
    exact ⟨_, ⟨t, ft, rt, rfl⟩, AW.bretE dX0_passesAll_25 rfl rfl (by rw [Nat.sub_self]; rfl) rfl⟩
  · intro k hk ihk
    intro t ft rt0
    obtain ⟨N1, nt1, c1, e1, g1, rt⟩ := rt0
    obtain ⟨z, z1, z2⟩ := (rt.cr.at8).2
    have kR := hR.rel h.rel ft rt.rel (keepsM_2 h.mi k)
    obtain ⟨j, hj⟩ := Nat.exists_eq_add_of_lt hk
    have ea : arePF a L (m - k) k = if keepsM a L k 8 = 9999 then false else arePF a L (m - (k + 1)) (k + 1) := by rw [show m - k = (m - (k + 1)) + 1 by omega]; rfl
    have es : keepsM a L (k + 1) = if keepsM a L k 8 = 9999 then keepsM a L k else passM (keepI (keepsM a L k)) L := rfl
    by_cases hz : keepsM a L k 8 = 9999
    · rw [if_pos hz] at ea
      have run := q_day_f rt 1 (by rw [hz]; rfl)
      refine AX.map (fun _ k_ => AW.iload_n dX0_passesAll_2 rfl rfl k_) ?_
      refine AX.map (fun _ k_ => AW.iload_n dX0_passesAll_3 rfl rfl k_) ?_
      refine AX.map (fun _ k_ => AW.icmp_ge (tgt := 24) dX0_passesAll_4 (by decide) rfl (fun c_ => by first | exact absurd c_ (nI_ge hk (by omega)) | exact absurd (nI_ge hk (by omega)) c_ | exact Bool.noConfusion (c_.symm.trans (nI_ge hk (by omega)))) (fun _ => k_)) ?_
      refine AX.map (fun _ k_ => AW.aload_n dX0_passesAll_7 rfl rfl k_) ?_
      refine AX.map (fun _ k_ => AW.iconst (v := 1) dX0_passesAll_8 (by decide) rfl k_) ?_
      refine AX.map (fun _ k_ => AW.callV (Y := mX0_day) (n := 1) (run) (by decide) (by decide) rfl gX q1107 q847 q848 q138 q849 dX0_passesAll_9 (by decide +kernel) rfl rfl (Nat.le_of_ble_eq_true rfl) rfl k_) ?_
      refine AX.map (fun _ k_ => AW.iconst (v := (-1)) dX0_passesAll_12 (by decide) rfl k_) ?_
      refine AX.map (fun _ k_ => AW.icmp_ne (tgt := 18) dX0_passesAll_13 (by decide) rfl (fun c_ => by first | exact absurd c_ rfl | exact absurd rfl c_ | exact Bool.noConfusion (c_.symm.trans rfl)) (fun _ => k_)) ?_
      refine AX.map (fun _ k_ => AW.iconst (v := 0) dX0_passesAll_16 (by decide) rfl k_) ?_
      exact ⟨_, ⟨t, ft, by have z := keepsM_stay hz (m - k); rw [show k + (m - k) = m by omega] at z; rw [z]; exact rt.rel, rfl⟩, AW.bretE dX0_passesAll_17 rfl rfl (by rw [ea]; rfl) rfl⟩
    · rw [if_neg hz] at ea
      have hz2 : ¬ z = 9999 := fun q => hz (by rw [z2, q]; rfl)
      obtain ⟨_, ⟨t2, f2, r2, rfl⟩, run⟩ := q_day_t (m := 1) (by have := ft.x.1; omega) rt kR z2 (by decide) (by decide) (by omega)
      refine AX.map (fun _ k_ => AW.iload_n dX0_passesAll_2 rfl rfl k_) ?_
      refine AX.map (fun _ k_ => AW.iload_n dX0_passesAll_3 rfl rfl k_) ?_
      refine AX.map (fun _ k_ => AW.icmp_ge (tgt := 24) dX0_passesAll_4 (by decide) rfl (fun c_ => by first | exact absurd c_ (nI_ge hk (by omega)) | exact absurd (nI_ge hk (by omega)) c_ | exact Bool.noConfusion (c_.symm.trans (nI_ge hk (by omega)))) (fun _ => k_)) ?_
      refine AX.map (fun _ k_ => AW.aload_n dX0_passesAll_7 rfl rfl k_) ?_
      refine AX.map (fun _ k_ => AW.iconst (v := 1) dX0_passesAll_8 (by decide) rfl k_) ?_
      refine AX.map (fun _ k_ => AW.callV (Y := mX0_day) (n := 1) (run) (by decide) (by decide) rfl gX q1107 q847 q848 q138 q849 dX0_passesAll_9 (by decide +kernel) rfl rfl (Nat.le_of_ble_eq_true rfl) rfl k_) ?_
      refine AX.map (fun _ k_ => AW.iconst (v := (-1)) dX0_passesAll_12 (by decide) rfl k_) ?_
      refine AX.map (fun _ k_ => AW.icmp_ne (tgt := 18) dX0_passesAll_13 (by decide) rfl (fun _ => k_) (fun c_ => by first | exact absurd c_ (date_nm1 r2) | exact absurd (date_nm1 r2) c_ | exact absurd c_ (not_not_intro (date_nm1 r2)) | exact Bool.noConfusion (c_.symm.trans (date_nm1 r2)))) ?_
      refine AX.map (fun _ k_ => AW.iinc (v := 1) dX0_passesAll_18 rfl (by decide) rfl rfl rfl k_) ?_
      refine AX.map (fun _ k_ => AW.goto (tgt := 2) dX0_passesAll_21 (by decide) k_) ?_
      refine AX.o9E (by rw [ea]) ?_
      exact AX.lsE (by rw [nI_succ k]; rfl) (ihk t2 (ft.tr0 f2) (by rw [es, if_neg hz]; exact day1 hz r2))
