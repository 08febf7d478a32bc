/-! MODEL 23: thieves (printed by tools/m23.py) -/
set_option maxRecDepth 100000
/-- the state while loot is laid down -/
def st2 (s : Sg) (q : Int32 × Int32) : Sg := (s.A, up (up s.S 30 q.1) 31 q.2, s.2.2)
section STT
variable {s : Sg} {q : Int32 × Int32}
theorem st2_30 : (st2 s q).S 30 = q.1 := by show up (up s.S 30 q.1) 31 q.2 30 = q.1; rw [up_ne (by decide), up_eq]
theorem st2_31 : (st2 s q).S 31 = q.2 := up_eq (f := up s.S 30 q.1) (k := 31) (x := q.2)
theorem st2_st2 {r : Int32 × Int32} : st2 (st2 s q) r = st2 s r := by
  show (s.A, up (up (up (up s.S 30 q.1) 31 q.2) 30 r.1) 31 r.2, s.2.2) = (s.A, up (up s.S 30 r.1) 31 r.2, s.2.2)
  rw [up_com (j := 31) (k := 30) (by decide), up_up, up_up]
theorem st2_id : st2 s (s.S 30, s.S 31) = s := by
  show (s.A, up (up s.S 30 (s.S 30)) 31 (s.S 31), s.2.2) = s
  rw [up_self, up_self]; rfl
theorem st30 {x : Int32} : (hp (st2 s q)).set 625 (.inr (2, (mfl (st2 s q)).set 30 (.int x))) = hp (st2 s (x, q.2)) := by
  rw [sM30]
  show hp (s.A, up (up (up s.S 30 q.1) 31 q.2) 30 x, s.2.2) = hp (s.A, up (up s.S 30 x) 31 q.2, s.2.2)
  rw [up_com (j := 31) (k := 30) (by decide), up_up]
theorem st31 {x : Int32} : (hp (st2 s q)).set 625 (.inr (2, (mfl (st2 s q)).set 31 (.int x))) = hp (st2 s (q.1, x)) := by
  rw [sM31]
  show hp (s.A, up (up (up s.S 30 q.1) 31 q.2) 31 x, s.2.2) = hp (s.A, up (up s.S 30 q.1) 31 x, s.2.2)
  rw [up_up]
theorem gt626 : (hp (st2 s q)).g 626 = some (ia 2308 (s.A 626)) := g626
theorem r_tX2_isHere (hn : (vwM (s.A 626)).ok) (h : Int32) : Run 3 mX2_isHere [.ref 625, .int h] (hp (st2 s q)) (.inl (some (.int (b2i ((vwM (s.A 626)).her h))))) (hp (st2 s q)) := r_X2_isHere (s := st2 s q) hn h
theorem r_tX2_isOpen (hn : (vwM (s.A 626)).ok) (h dt : Int32) : Run 4 mX2_isOpen [.ref 625, .int h, .int dt] (hp (st2 s q)) (.inl (some (.int (b2i ((vwM (s.A 626)).opn h dt))))) (hp (st2 s q)) := r_X2_isOpen (s := st2 s q) hn h dt
theorem r_tX2_get (h w : Int32) (hi : vp_in (12 + 8 * h + w) 2308) : Run 1 mX2_get [.ref 625, .int h, .int w] (hp (st2 s q)) (.inl (some (.int (gtM (s.A 626) h w)))) (hp (st2 s q)) := r_X2_get (s := st2 s q) h w hi
end STT
/-- the loot of a row that begins with first -/
def thIn (v : Vw) (dt k first : Int32) : Nat → Nat → Int32 → Int32 → Int32 × Int32 → Int32 × Int32
  | 0, _, _, _, q => q
  | m + 1, h, sum, n, q => if v.her first = false then q else if v.opn (nI h) dt = true then q else if k ≤ n then q else if v.her (nI h) = false then thIn v dt k first m (h + 1) sum n q
      else if q.2 = -1 ∨ q.1 < sum + v.pu (nI h) then thIn v dt k first m (h + 1) (sum + v.pu (nI h)) (n + 1) (sum + v.pu (nI h), first) else thIn v dt k first m (h + 1) (sum + v.pu (nI h)) (n + 1) q
def layT (v : Vw) (dt k : Int32) : Nat → Int32 × Int32
  | 0 => (0, -1)
  | m + 1 => thIn v dt k (nI m) (v.n - m) m 0 0 (layT v dt k m)
section THI
variable {v : Vw} {dt k first sum c : Int32} {n h : Nat} {q : Int32 × Int32}
theorem thI_e : thIn v dt k first (n - n) n sum c q = q := by rw [Nat.sub_self]; rfl
theorem thI_u (hk : h < n) : thIn v dt k first (n - h) h sum c q = if v.her first = false then q else if v.opn (nI h) dt = true then q else if k ≤ c then q else if v.her (nI h) = false then thIn v dt k first (n - (h + 1)) (h + 1) sum c q
      else if q.2 = -1 ∨ q.1 < sum + v.pu (nI h) then thIn v dt k first (n - (h + 1)) (h + 1) (sum + v.pu (nI h)) (c + 1) (sum + v.pu (nI h), first) else thIn v dt k first (n - (h + 1)) (h + 1) (sum + v.pu (nI h)) (c + 1) q := by
  obtain ⟨j, rfl⟩ := Nat.exists_eq_add_of_lt hk
  rw [show h + j + 1 - h = j + 1 by omega, show h + j + 1 - (h + 1) = j by omega]
  rfl
end THI
theorem r_X2_layThieves {s : Sg} (hn : (vwM (s.A 626)).ok) (dt k : Int32) : Run 5 mX2_layThieves [.ref 625, .int dt, .int k] (hp s) (.inl none) (hp (st2 s (layT (vwM (s.A 626)) dt k (vwM (s.A 626)).n))) := by
  refine Run.of rfl (Nat.le_of_ble_eq_true rfl) rfl ?_
  refine AW.hp (h2 := hp (st2 s (s.S 30, s.S 31))) (by rw [st2_id]) ?_
  refine AW.aload_n dX2_layThieves_0 rfl rfl ?_
  refine AW.iconst (v := 0) dX2_layThieves_1 (by decide) rfl ?_
  refine AW.put ci2 30 (by decide) q1381 dX2_layThieves_2 (by decide) gM rfl (fun _ => rfl) (fun _ => rfl) (Nat.le_of_ble_eq_true rfl) st30 rfl ?_
  refine AW.aload_n dX2_layThieves_5 rfl rfl ?_
  refine AW.iconst (v := (-1)) dX2_layThieves_6 (by decide) rfl ?_
  refine AW.put ci2 31 (by decide) q1382 dX2_layThieves_7 (by decide) gM rfl (fun _ => rfl) (fun _ => rfl) (Nat.le_of_ble_eq_true rfl) st31 rfl ?_
  refine AW.iconst (v := 0) dX2_layThieves_10 (by decide) rfl ?_
  refine AW.istore_n (i := 3) dX2_layThieves_11 rfl rfl (Nat.le_of_ble_eq_true rfl) rfl rfl ?_
  refine loopUp (P := fun m => AW 5 mX2_layThieves (hp (st2 s (layT (vwM (s.A 626)) dt k m))) 12 [some (.ref 625), some (.int (dt)), some (.int (k)), some (.int (nI m)), none, none, none] [] (.inl none) (hp (st2 s (layT (vwM (s.A 626)) dt k (vwM (s.A 626)).n)))) (vwM (s.A 626)).n ?_ ?_ 0 (by first | exact Nat.zero_le _ | omega)
  · refine AW.iload_n dX2_layThieves_12 rfl rfl ?_
    refine AW.aload_n dX2_layThieves_13 rfl rfl ?_
    refine AW.get ci2 0 (by decide) q1351 dX2_layThieves_14 gM rfl rfl ?_
    refine AW.iconst (v := 0) dX2_layThieves_17 (by decide) rfl ?_
    refine AW.iald dX2_layThieves_18 gt626 (vp_in_iff.mpr (by decide)) (j := 0) (by decide) rfl ?_
    refine AW.icmp_ge (tgt := 136) dX2_layThieves_19 (by decide) rfl (fun _ => ?_) (fun c_ => by first | exact absurd c_ (loop_end (by have := Vw.n7 hn; omega) (Vw.nN hn)) | exact absurd (loop_end (by have := Vw.n7 hn; omega) (Vw.nN hn)) c_ | exact absurd c_ (not_not_intro (loop_end (by have := Vw.n7 hn; omega) (Vw.nN hn))) | exact Bool.noConfusion (c_.symm.trans (loop_end (by have := Vw.n7 hn; omega) (Vw.nN hn))))
    exact AW.vretE dX2_layThieves_136 rfl rfl rfl
  · intro m hm ihm
    have es : layT (vwM (s.A 626)) dt k (m + 1) = thIn (vwM (s.A 626)) dt k (nI m) ((vwM (s.A 626)).n - m) m 0 0 (layT (vwM (s.A 626)) dt k m) := rfl
    rw [es] at ihm
    generalize hR0 : thIn (vwM (s.A 626)) dt k (nI m) ((vwM (s.A 626)).n - m) m 0 0 (layT (vwM (s.A 626)) dt k m) = R at ihm
    refine AW.iload_n dX2_layThieves_12 rfl rfl ?_
    refine AW.aload_n dX2_layThieves_13 rfl rfl ?_
    refine AW.get ci2 0 (by decide) q1351 dX2_layThieves_14 gM rfl rfl ?_
    refine AW.iconst (v := 0) dX2_layThieves_17 (by decide) rfl ?_
    refine AW.iald dX2_layThieves_18 gt626 (vp_in_iff.mpr (by decide)) (j := 0) (by decide) rfl ?_
    refine AW.icmp_ge (tgt := 136) dX2_layThieves_19 (by decide) rfl (fun c_ => by first | exact absurd c_ (loop_in hm (by have := Vw.n7 hn; omega) (Vw.nN hn)) | exact absurd (loop_in hm (by have := Vw.n7 hn; omega) (Vw.nN hn)) c_ | exact Bool.noConfusion (c_.symm.trans (loop_in hm (by have := Vw.n7 hn; omega) (Vw.nN hn)))) (fun _ => ?_)
    refine AW.iconst (v := 0) dX2_layThieves_22 (by decide) rfl ?_
    refine AW.istore dX2_layThieves_23 rfl (Nat.le_of_ble_eq_true rfl) rfl rfl ?_
    refine AW.iconst (v := 0) dX2_layThieves_25 (by decide) rfl ?_
    refine AW.istore dX2_layThieves_26 rfl (Nat.le_of_ble_eq_true rfl) rfl rfl ?_
    refine AW.iload_n dX2_layThieves_28 rfl rfl ?_
    refine AW.istore dX2_layThieves_29 rfl (Nat.le_of_ble_eq_true rfl) rfl rfl ?_
    refine loopUp (P := fun i => ∀ (sum c : Int32) (q : Int32 × Int32), thIn (vwM (s.A 626)) dt k (nI m) ((vwM (s.A 626)).n - i) i sum c q = R → AW 5 mX2_layThieves (hp (st2 s (q))) 31 [some (.ref 625), some (.int (dt)), some (.int (k)), some (.int (nI m)), some (.int (sum)), some (.int (c)), some (.int (nI i))] [] (.inl none) (hp (st2 s (layT (vwM (s.A 626)) dt k (vwM (s.A 626)).n)))) (vwM (s.A 626)).n ?_ ?_ m (by omega) _ _ _ hR0
    · intro sum c q hR
      refine AW.aload_n dX2_layThieves_31 rfl rfl ?_
      refine AW.iload_n dX2_layThieves_32 rfl rfl ?_
      refine AW.callV (Y := mX2_isHere) (n := 1) (r_tX2_isHere hn _) (by decide) (by decide) rfl gM q1649 q1651 qs91 q141 q1652 dX2_layThieves_33 (by decide +kernel) rfl rfl (Nat.le_of_ble_eq_true rfl) rfl ?_
      refine AW.if_eqB (tgt := 130) dX2_layThieves_36 (by decide) rfl (fun c36 => ?_) (fun c36 => ?_)
      · refine AW.iinc (v := 1) dX2_layThieves_130 rfl (by decide) rfl rfl rfl ?_
        refine AW.goto (tgt := 12) dX2_layThieves_133 (by decide) ?_
        have eR : q = R := by first | (rw [thI_u hi, if_pos c36] at hR; exact hR) | (rw [thI_e] at hR; exact hR)
        exact AW.fg 4 rfl (AW.fg 5 rfl (AW.fg 6 rfl (AW.ls (by rw [nI_succ m]; rfl) (AW.hp (by rw [eR]) ihm))))
      · refine AW.iload dX2_layThieves_39 rfl rfl ?_
        refine AW.aload_n dX2_layThieves_41 rfl rfl ?_
        refine AW.get ci2 0 (by decide) q1351 dX2_layThieves_42 gM rfl rfl ?_
        refine AW.iconst (v := 0) dX2_layThieves_45 (by decide) rfl ?_
        refine AW.iald dX2_layThieves_46 gt626 (vp_in_iff.mpr (by decide)) (j := 0) (by decide) rfl ?_
        refine AW.icmp_ge (tgt := 130) dX2_layThieves_47 (by decide) rfl (fun _ => ?_) (fun c_ => by first | exact absurd c_ (loop_end (by have := Vw.n7 hn; omega) (Vw.nN hn)) | exact absurd (loop_end (by have := Vw.n7 hn; omega) (Vw.nN hn)) c_ | exact absurd c_ (not_not_intro (loop_end (by have := Vw.n7 hn; omega) (Vw.nN hn))) | exact Bool.noConfusion (c_.symm.trans (loop_end (by have := Vw.n7 hn; omega) (Vw.nN hn))))
        refine AW.iinc (v := 1) dX2_layThieves_130 rfl (by decide) rfl rfl rfl ?_
        refine AW.goto (tgt := 12) dX2_layThieves_133 (by decide) ?_
        have eR : q = R := by rw [thI_e] at hR; exact hR
        exact AW.fg 4 rfl (AW.fg 5 rfl (AW.fg 6 rfl (AW.ls (by rw [nI_succ m]; rfl) (AW.hp (by rw [eR]) ihm))))
    · intro i hi ihi
      intro sum c q hR
      refine AW.aload_n dX2_layThieves_31 rfl rfl ?_
      refine AW.iload_n dX2_layThieves_32 rfl rfl ?_
      refine AW.callV (Y := mX2_isHere) (n := 1) (r_tX2_isHere hn _) (by decide) (by decide) rfl gM q1649 q1651 qs91 q141 q1652 dX2_layThieves_33 (by decide +kernel) rfl rfl (Nat.le_of_ble_eq_true rfl) rfl ?_
      refine AW.if_eqB (tgt := 130) dX2_layThieves_36 (by decide) rfl (fun c36 => ?_) (fun c36 => ?_)
      · refine AW.iinc (v := 1) dX2_layThieves_130 rfl (by decide) rfl rfl rfl ?_
        refine AW.goto (tgt := 12) dX2_layThieves_133 (by decide) ?_
        have eR : q = R := by first | (rw [thI_u hi, if_pos c36] at hR; exact hR) | (rw [thI_e] at hR; exact hR)
        exact AW.fg 4 rfl (AW.fg 5 rfl (AW.fg 6 rfl (AW.ls (by rw [nI_succ m]; rfl) (AW.hp (by rw [eR]) ihm))))
      · refine AW.iload dX2_layThieves_39 rfl rfl ?_
        refine AW.aload_n dX2_layThieves_41 rfl rfl ?_
        refine AW.get ci2 0 (by decide) q1351 dX2_layThieves_42 gM rfl rfl ?_
        refine AW.iconst (v := 0) dX2_layThieves_45 (by decide) rfl ?_
        refine AW.iald dX2_layThieves_46 gt626 (vp_in_iff.mpr (by decide)) (j := 0) (by decide) rfl ?_
        refine AW.icmp_ge (tgt := 130) dX2_layThieves_47 (by decide) rfl (fun c_ => by first | exact absurd c_ (loop_in hi (by have := Vw.n7 hn; omega) (Vw.nN hn)) | exact absurd (loop_in hi (by have := Vw.n7 hn; omega) (Vw.nN hn)) c_ | exact Bool.noConfusion (c_.symm.trans (loop_in hi (by have := Vw.n7 hn; omega) (Vw.nN hn)))) (fun _ => ?_)
        refine AW.aload_n dX2_layThieves_50 rfl rfl ?_
        refine AW.iload dX2_layThieves_51 rfl rfl ?_
        refine AW.iload_n dX2_layThieves_53 rfl rfl ?_
        refine AW.callV (Y := mX2_isOpen) (n := 2) (r_tX2_isOpen hn _ _) (by decide) (by decide) rfl gM q1692 q1694 qs101 q141 q1695 dX2_layThieves_54 (by decide +kernel) rfl rfl (Nat.le_of_ble_eq_true rfl) rfl ?_
        refine AW.if_neB (tgt := 130) dX2_layThieves_57 (by decide) rfl (fun c57 => ?_) (fun c57 => ?_)
        · refine AW.iinc (v := 1) dX2_layThieves_130 rfl (by decide) rfl rfl rfl ?_
          refine AW.goto (tgt := 12) dX2_layThieves_133 (by decide) ?_
          have eR : q = R := by rw [thI_u hi, if_neg (by rw [c36]; decide), if_pos c57] at hR; exact hR
          exact AW.fg 4 rfl (AW.fg 5 rfl (AW.fg 6 rfl (AW.ls (by rw [nI_succ m]; rfl) (AW.hp (by rw [eR]) ihm))))
        · refine AW.iload dX2_layThieves_60 rfl rfl ?_
          refine AW.iload_n dX2_layThieves_62 rfl rfl ?_
          refine AW.icmp_ge (tgt := 130) dX2_layThieves_63 (by decide) rfl (fun c63 => ?_) (fun c63 => ?_)
          · refine AW.iinc (v := 1) dX2_layThieves_130 rfl (by decide) rfl rfl rfl ?_
            refine AW.goto (tgt := 12) dX2_layThieves_133 (by decide) ?_
            have eR : q = R := by rw [thI_u hi, if_neg (by rw [c36]; decide), if_neg (by rw [c57]; decide), if_pos c63] at hR; exact hR
            exact AW.fg 4 rfl (AW.fg 5 rfl (AW.fg 6 rfl (AW.ls (by rw [nI_succ m]; rfl) (AW.hp (by rw [eR]) ihm))))
          · refine AW.aload_n dX2_layThieves_66 rfl rfl ?_
            refine AW.iload dX2_layThieves_67 rfl rfl ?_
            refine AW.callV (Y := mX2_isHere) (n := 1) (r_tX2_isHere hn _) (by decide) (by decide) rfl gM q1649 q1651 qs91 q141 q1652 dX2_layThieves_69 (by decide +kernel) rfl rfl (Nat.le_of_ble_eq_true rfl) rfl ?_
            refine AW.if_neB (tgt := 78) dX2_layThieves_72 (by decide) rfl (fun c72 => ?_) (fun c72 => ?_)
            · refine AW.iinc (v := 1) dX2_layThieves_78 rfl (by decide) rfl rfl rfl ?_
              refine AW.iload dX2_layThieves_81 rfl rfl ?_
              refine AW.aload_n dX2_layThieves_83 rfl rfl ?_
              refine AW.iload dX2_layThieves_84 rfl rfl ?_
              refine AW.iconst (v := 1) dX2_layThieves_86 (by decide) rfl ?_
              refine AW.callV (Y := mX2_get) (n := 2) (r_tX2_get _ 1 (in_get hn (Vw.her_hou c72) (by decide) (by decide))) (by decide) (by decide) rfl gM q1477 q1479 qs63 q141 q1480 dX2_layThieves_87 (by decide +kernel) rfl rfl (Nat.le_of_ble_eq_true rfl) rfl ?_
              refine AW.iadd dX2_layThieves_90 rfl ?_
              refine AW.istore dX2_layThieves_91 rfl (Nat.le_of_ble_eq_true rfl) rfl rfl ?_
              refine AW.aload_n dX2_layThieves_93 rfl rfl ?_
              refine AW.get ci2 31 (by decide) q1382 dX2_layThieves_94 gM rfl rfl ?_
              refine AW.iconst (v := (-1)) dX2_layThieves_97 (by decide) rfl ?_
              refine AW.icmp_eq (tgt := 113) dX2_layThieves_98 (by decide) rfl (fun c98 => ?_) (fun c98 => ?_)
              · refine AW.aload_n dX2_layThieves_113 rfl rfl ?_
                refine AW.iload dX2_layThieves_114 rfl rfl ?_
                refine AW.put ci2 30 (by decide) q1381 dX2_layThieves_116 (by decide) gM rfl (fun _ => rfl) (fun _ => rfl) (Nat.le_of_ble_eq_true rfl) st30 rfl ?_
                refine AW.aload_n dX2_layThieves_119 rfl rfl ?_
                refine AW.iload_n dX2_layThieves_120 rfl rfl ?_
                refine AW.put ci2 31 (by decide) q1382 dX2_layThieves_121 (by decide) gM rfl (fun _ => rfl) (fun _ => rfl) (Nat.le_of_ble_eq_true rfl) st31 rfl ?_
                refine AW.iinc (v := 1) dX2_layThieves_124 rfl (by decide) rfl rfl rfl ?_
                refine AW.goto (tgt := 31) dX2_layThieves_127 (by decide) ?_
                rw [thI_u hi, if_neg (by rw [c36]; decide), if_neg (by rw [c57]; decide), if_neg c63, if_neg (by rw [c72]; decide), vwM_pu (Vw.her_hou c72)] at hR
                rw [if_pos (Or.inl (by rw [st2_31] at c98; exact c98))] at hR
                exact AW.ls (by rw [nI_succ i]; rfl) (ihi _ _ _ hR)
              · refine AW.iload dX2_layThieves_101 rfl rfl ?_
                refine AW.aload_n dX2_layThieves_103 rfl rfl ?_
                refine AW.get ci2 30 (by decide) q1381 dX2_layThieves_104 gM rfl rfl ?_
                refine AW.icmp_gt (tgt := 113) dX2_layThieves_107 (by decide) rfl (fun c107 => ?_) (fun c107 => ?_)
                · refine AW.aload_n dX2_layThieves_113 rfl rfl ?_
                  refine AW.iload dX2_layThieves_114 rfl rfl ?_
                  refine AW.put ci2 30 (by decide) q1381 dX2_layThieves_116 (by decide) gM rfl (fun _ => rfl) (fun _ => rfl) (Nat.le_of_ble_eq_true rfl) st30 rfl ?_
                  refine AW.aload_n dX2_layThieves_119 rfl rfl ?_
                  refine AW.iload_n dX2_layThieves_120 rfl rfl ?_
                  refine AW.put ci2 31 (by decide) q1382 dX2_layThieves_121 (by decide) gM rfl (fun _ => rfl) (fun _ => rfl) (Nat.le_of_ble_eq_true rfl) st31 rfl ?_
                  refine AW.iinc (v := 1) dX2_layThieves_124 rfl (by decide) rfl rfl rfl ?_
                  refine AW.goto (tgt := 31) dX2_layThieves_127 (by decide) ?_
                  rw [thI_u hi, if_neg (by rw [c36]; decide), if_neg (by rw [c57]; decide), if_neg c63, if_neg (by rw [c72]; decide), vwM_pu (Vw.her_hou c72)] at hR
                  rw [if_pos (Or.inr (by rw [st2_30] at c107; exact c107))] at hR
                  exact AW.ls (by rw [nI_succ i]; rfl) (ihi _ _ _ hR)
                · refine AW.goto (tgt := 124) dX2_layThieves_110 (by decide) ?_
                  refine AW.iinc (v := 1) dX2_layThieves_124 rfl (by decide) rfl rfl rfl ?_
                  refine AW.goto (tgt := 31) dX2_layThieves_127 (by decide) ?_
                  rw [thI_u hi, if_neg (by rw [c36]; decide), if_neg (by rw [c57]; decide), if_neg c63, if_neg (by rw [c72]; decide), vwM_pu (Vw.her_hou c72)] at hR
                  rw [if_neg (fun z => by rcases z with z | z; exact c98 (by rw [st2_31]; exact z); exact c107 (by rw [st2_30]; exact z))] at hR
                  exact AW.ls (by rw [nI_succ i]; rfl) (ihi _ _ _ hR)
            · refine AW.goto (tgt := 124) dX2_layThieves_75 (by decide) ?_
              refine AW.iinc (v := 1) dX2_layThieves_124 rfl (by decide) rfl rfl rfl ?_
              refine AW.goto (tgt := 31) dX2_layThieves_127 (by decide) ?_
              rw [thI_u hi, if_neg (by rw [c36]; decide), if_neg (by rw [c57]; decide), if_neg (Int32.not_le.mpr (Int32.not_le.mp c63)), if_pos c72] at hR
              exact AW.ls (by rw [nI_succ i]; rfl) (ihi _ _ _ hR)
theorem r_X2_thieves_f {s : Sg} (dt k : Int32) (p : Bool) (hc : (inI dt 0 19 && inI k 1 7) = false) : Run 3 mX2_thieves [.ref 625, .int dt, .int k, .int (b2i p)] (hp s) (.inl (some (.int (-2)))) (hp s) := by
  refine Run.of rfl (Nat.le_of_ble_eq_true rfl) rfl ?_
  refine AW.iload_n dX2_thieves_0 rfl rfl ?_
  refine AW.iconst (v := 0) dX2_thieves_1 (by decide) rfl ?_
  refine AW.bipush (v := 19) dX2_thieves_2 (by decide) rfl ?_
  refine AW.callS (Y := mX2_isIn) (n := 3) (r_X2_isIn _ _ _) (by decide) (by decide) q1466 q1467 q141 q1468 dX2_thieves_4 (by decide +kernel) rfl rfl (Nat.le_of_ble_eq_true rfl) rfl ?_
  refine AW.if_eqB (tgt := 20) dX2_thieves_7 (by decide) rfl (fun c7 => ?_) (fun c7 => ?_)
  · refine AW.bipush (v := (-2)) dX2_thieves_20 (by decide) rfl ?_
    exact AW.iretE dX2_thieves_22 rfl rfl rfl rfl
  · refine AW.iload_n dX2_thieves_10 rfl rfl ?_
    refine AW.iconst (v := 1) dX2_thieves_11 (by decide) rfl ?_
    refine AW.bipush (v := 7) dX2_thieves_12 (by decide) rfl ?_
    refine AW.callS (Y := mX2_isIn) (n := 3) (r_X2_isIn _ _ _) (by decide) (by decide) q1466 q1467 q141 q1468 dX2_thieves_14 (by decide +kernel) rfl rfl (Nat.le_of_ble_eq_true rfl) rfl ?_
    refine AW.if_neB (tgt := 23) dX2_thieves_17 (by decide) rfl (fun c17 => ?_) (fun c17 => ?_)
    · exact absurd hc (by rw [c7, c17]; decide)
    · refine AW.bipush (v := (-2)) dX2_thieves_20 (by decide) rfl ?_
      exact AW.iretE dX2_thieves_22 rfl rfl rfl rfl
theorem r_X2_thieves_t {s : Sg} (hn : (vwM (s.A 626)).ok) (dt k : Int32) (p : Bool) (hc : (inI dt 0 19 && inI k 1 7) = true) : Run 6 mX2_thieves [.ref 625, .int dt, .int k, .int (b2i p)] (hp s) (.inl (some (.int (if p = true then (layT (vwM (s.A 626)) dt k (vwM (s.A 626)).n).2 else (layT (vwM (s.A 626)) dt k (vwM (s.A 626)).n).1)))) (hp (st2 s (layT (vwM (s.A 626)) dt k (vwM (s.A 626)).n))) := by
  have hc2 := Bool.and_eq_true_iff.mp hc
  refine Run.of rfl (Nat.le_of_ble_eq_true rfl) rfl ?_
  refine AW.iload_n dX2_thieves_0 rfl rfl ?_
  refine AW.iconst (v := 0) dX2_thieves_1 (by decide) rfl ?_
  refine AW.bipush (v := 19) dX2_thieves_2 (by decide) rfl ?_
  refine AW.callS (Y := mX2_isIn) (n := 3) (r_X2_isIn _ _ _) (by decide) (by decide) q1466 q1467 q141 q1468 dX2_thieves_4 (by decide +kernel) rfl rfl (Nat.le_of_ble_eq_true rfl) rfl ?_
  refine AW.if_eqB (tgt := 20) dX2_thieves_7 (by decide) rfl (fun c_ => by first | exact absurd c_ hc2.1 | exact absurd hc2.1 c_ | exact Bool.noConfusion (c_.symm.trans hc2.1)) (fun _ => ?_)
  refine AW.iload_n dX2_thieves_10 rfl rfl ?_
  refine AW.iconst (v := 1) dX2_thieves_11 (by decide) rfl ?_
  refine AW.bipush (v := 7) dX2_thieves_12 (by decide) rfl ?_
  refine AW.callS (Y := mX2_isIn) (n := 3) (r_X2_isIn _ _ _) (by decide) (by decide) q1466 q1467 q141 q1468 dX2_thieves_14 (by decide +kernel) rfl rfl (Nat.le_of_ble_eq_true rfl) rfl ?_
  refine AW.if_neB (tgt := 23) dX2_thieves_17 (by decide) rfl (fun _ => ?_) (fun c_ => by first | exact absurd c_ hc2.2 | exact absurd hc2.2 c_ | exact absurd c_ (not_not_intro hc2.2) | exact Bool.noConfusion (c_.symm.trans hc2.2))
  refine AW.aload_n dX2_thieves_23 rfl rfl ?_
  refine AW.iload_n dX2_thieves_24 rfl rfl ?_
  refine AW.iload_n dX2_thieves_25 rfl rfl ?_
  refine AW.callV (Y := mX2_layThieves) (n := 2) (r_X2_layThieves hn dt k) (by decide) (by decide) rfl gM q1926 q1928 qs126 q141 q1929 dX2_thieves_26 (by decide +kernel) rfl rfl (Nat.le_of_ble_eq_true rfl) rfl ?_
  refine AW.iload_n dX2_thieves_29 rfl rfl ?_
  refine AW.if_eqB (tgt := 40) dX2_thieves_30 (by decide) rfl (fun c30 => ?_) (fun c30 => ?_)
  · refine AW.aload_n dX2_thieves_40 rfl rfl ?_
    refine AW.get ci2 30 (by decide) q1381 dX2_thieves_41 gM rfl rfl ?_
    exact AW.iretE dX2_thieves_44 rfl rfl (by first | (rw [if_pos c30, st2_31]; done) | (rw [if_neg (by rw [c30]; decide), st2_30]; done)) rfl
  · refine AW.aload_n dX2_thieves_33 rfl rfl ?_
    refine AW.get ci2 31 (by decide) q1382 dX2_thieves_34 gM rfl rfl ?_
    refine AW.goto (tgt := 44) dX2_thieves_37 (by decide) ?_
    exact AW.iretE dX2_thieves_44 rfl rfl (by first | (rw [if_pos c30, st2_31]; done) | (rw [if_neg (by rw [c30]; decide), st2_30]; done)) rfl
theorem r_tX2_layThieves {s : Sg} {q : Int32 × Int32} (hn : (vwM (s.A 626)).ok) (dt k : Int32) : Run 5 mX2_layThieves [.ref 625, .int dt, .int k] (hp (st2 s q)) (.inl none) (hp (st2 s (layT (vwM (s.A 626)) dt k (vwM (s.A 626)).n))) := by
  have h := r_X2_layThieves (s := st2 s q) hn dt k
  rw [st2_st2] at h
  exact h
/-- the night of the most loot -/
def nightF (v : Vw) (k : Int32) : Nat → Int32 × Int32
  | 0 => (0, 0)
  | m + 1 => if (layT v (nI m) k v.n).1 ≤ (nightF v k m).2 then nightF v k m else (nI m, (layT v (nI m) k v.n).1)
theorem r_X2_night_f {s : Sg} (k : Int32) (hc : inI k 1 7 = false) : Run 3 mX2_night [.ref 625, .int k] (hp s) (.inl (some (.int (-1)))) (hp s) := by
  refine Run.of rfl (Nat.le_of_ble_eq_true rfl) rfl ?_
  refine AW.iload_n dX2_night_0 rfl rfl ?_
  refine AW.iconst (v := 1) dX2_night_1 (by decide) rfl ?_
  refine AW.bipush (v := 7) dX2_night_2 (by decide) rfl ?_
  refine AW.callS (Y := mX2_isIn) (n := 3) (r_X2_isIn _ _ _) (by decide) (by decide) q1466 q1467 q141 q1468 dX2_night_4 (by decide +kernel) rfl rfl (Nat.le_of_ble_eq_true rfl) rfl ?_
  refine AW.if_neB (tgt := 12) dX2_night_7 (by decide) rfl (fun c_ => by first | exact absurd c_ hc | exact absurd hc c_ | exact Bool.noConfusion (c_.symm.trans hc)) (fun _ => ?_)
  refine AW.iconst (v := (-1)) dX2_night_10 (by decide) rfl ?_
  exact AW.iretE dX2_night_11 rfl rfl rfl rfl
theorem r_X2_night_t {s : Sg} (hn : (vwM (s.A 626)).ok) (k : Int32) (hc : inI k 1 7 = true) : Run 6 mX2_night [.ref 625, .int k] (hp s) (.inl (some (.int ((nightF (vwM (s.A 626)) k 20).1)))) (hp (st2 s (layT (vwM (s.A 626)) (nI 19) k (vwM (s.A 626)).n))) := by
  refine Run.of rfl (Nat.le_of_ble_eq_true rfl) rfl ?_
  refine AW.iload_n dX2_night_0 rfl rfl ?_
  refine AW.iconst (v := 1) dX2_night_1 (by decide) rfl ?_
  refine AW.bipush (v := 7) dX2_night_2 (by decide) rfl ?_
  refine AW.callS (Y := mX2_isIn) (n := 3) (r_X2_isIn _ _ _) (by decide) (by decide) q1466 q1467 q141 q1468 dX2_night_4 (by decide +kernel) rfl rfl (Nat.le_of_ble_eq_true rfl) rfl ?_
  refine AW.if_neB (tgt := 12) dX2_night_7 (by decide) rfl (fun _ => ?_) (fun c_ => by first | exact absurd c_ hc | exact absurd hc c_ | exact absurd c_ (not_not_intro hc) | exact Bool.noConfusion (c_.symm.trans hc))
  refine AW.iconst (v := 0) dX2_night_12 (by decide) rfl ?_
  refine AW.istore_n (i := 2) dX2_night_13 rfl rfl (Nat.le_of_ble_eq_true rfl) rfl rfl ?_
  refine AW.iconst (v := 0) dX2_night_14 (by decide) rfl ?_
  refine AW.istore_n (i := 3) dX2_night_15 rfl rfl (Nat.le_of_ble_eq_true rfl) rfl rfl ?_
  refine AW.iconst (v := 0) dX2_night_16 (by decide) rfl ?_
  refine AW.istore dX2_night_17 rfl (Nat.le_of_ble_eq_true rfl) rfl rfl ?_
  refine AW.hp (h2 := hp (st2 s (s.S 30, s.S 31))) (by rw [st2_id]) ?_
  refine loopUp (P := fun m => ∀ q, (m = 20 → q = layT (vwM (s.A 626)) (nI 19) k (vwM (s.A 626)).n) → AW 6 mX2_night (hp (st2 s q)) 19 [some (.ref 625), some (.int (k)), some (.int ((nightF (vwM (s.A 626)) k m).1)), some (.int ((nightF (vwM (s.A 626)) k m).2)), some (.int (nI m))] [] (.inl (some (.int ((nightF (vwM (s.A 626)) k 20).1)))) (hp (st2 s (layT (vwM (s.A 626)) (nI 19) k (vwM (s.A 626)).n)))) 20 ?_ ?_ 0 (by first | exact Nat.zero_le _ | omega) (s.S 30, s.S 31) (fun q => absurd q (by decide))
  · intro q hq
    refine AW.iload dX2_night_19 rfl rfl ?_
    refine AW.bipush (v := 20) dX2_night_21 (by decide) rfl ?_
    refine AW.icmp_ge (tgt := 58) dX2_night_23 (by decide) rfl (fun _ => ?_) (fun c_ => by first | exact absurd c_ (by decide) | exact absurd (by decide) c_ | exact absurd c_ (not_not_intro (by decide)) | exact Bool.noConfusion (c_.symm.trans (by decide)))
    refine AW.iload_n dX2_night_58 rfl rfl ?_
    exact AW.iretE dX2_night_59 rfl rfl rfl (by rw [hq rfl])
  · intro m hm ihm
    intro q hq
    refine AW.iload dX2_night_19 rfl rfl ?_
    refine AW.bipush (v := 20) dX2_night_21 (by decide) rfl ?_
    refine AW.icmp_ge (tgt := 58) dX2_night_23 (by decide) rfl (fun c_ => by first | exact absurd c_ (nI_nle20' hm) | exact absurd (nI_nle20' hm) c_ | exact Bool.noConfusion (c_.symm.trans (nI_nle20' hm))) (fun _ => ?_)
    refine AW.aload_n dX2_night_26 rfl rfl ?_
    refine AW.iload dX2_night_27 rfl rfl ?_
    refine AW.iload_n dX2_night_29 rfl rfl ?_
    refine AW.callV (Y := mX2_layThieves) (n := 2) (r_tX2_layThieves hn (nI m) k) (by decide) (by decide) rfl gM q1926 q1928 qs126 q141 q1929 dX2_night_30 (by decide +kernel) rfl rfl (Nat.le_of_ble_eq_true rfl) rfl ?_
    refine AW.aload_n dX2_night_33 rfl rfl ?_
    refine AW.get ci2 30 (by decide) q1381 dX2_night_34 gM rfl rfl ?_
    refine AW.iload_n dX2_night_37 rfl rfl ?_
    refine AW.icmp_gt (tgt := 44) dX2_night_38 (by decide) rfl (fun c38 => ?_) (fun c38 => ?_)
    · refine AW.aload_n dX2_night_44 rfl rfl ?_
      refine AW.get ci2 30 (by decide) q1381 dX2_night_45 gM rfl rfl ?_
      refine AW.istore_n (i := 3) dX2_night_48 rfl rfl (Nat.le_of_ble_eq_true rfl) rfl rfl ?_
      refine AW.iload dX2_night_49 rfl rfl ?_
      refine AW.istore_n (i := 2) dX2_night_51 rfl rfl (Nat.le_of_ble_eq_true rfl) rfl rfl ?_
      refine AW.iinc (v := 1) dX2_night_52 rfl (by decide) rfl rfl rfl ?_
      refine AW.goto (tgt := 19) dX2_night_55 (by decide) ?_
      have es : nightF (vwM (s.A 626)) k (m + 1) = if (layT (vwM (s.A 626)) (nI m) k (vwM (s.A 626)).n).1 ≤ (nightF (vwM (s.A 626)) k m).2 then nightF (vwM (s.A 626)) k m else (nI m, (layT (vwM (s.A 626)) (nI m) k (vwM (s.A 626)).n).1) := rfl
      rw [st2_30] at c38
      rw [if_neg (Int32.not_le.mpr c38)] at es
      exact AW.ls (by rw [es, nI_succ m, st2_30]; rfl) (AW.hp rfl (ihm _ (fun z => by rw [show m = 19 by omega])))
    · refine AW.goto (tgt := 52) dX2_night_41 (by decide) ?_
      refine AW.iinc (v := 1) dX2_night_52 rfl (by decide) rfl rfl rfl ?_
      refine AW.goto (tgt := 19) dX2_night_55 (by decide) ?_
      have es : nightF (vwM (s.A 626)) k (m + 1) = if (layT (vwM (s.A 626)) (nI m) k (vwM (s.A 626)).n).1 ≤ (nightF (vwM (s.A 626)) k m).2 then nightF (vwM (s.A 626)) k m else (nI m, (layT (vwM (s.A 626)) (nI m) k (vwM (s.A 626)).n).1) := rfl
      rw [st2_30] at c38
      rw [if_pos (Int32.not_lt.mp c38)] at es
      exact AW.ls (by rw [es, nI_succ m]; rfl) (AW.hp rfl (ihm _ (fun z => by rw [show m = 19 by omega])))
