/-! SYSTEM 5: gossip, dates seen, thieves, leap (printed by tools/x5.py) -/
set_option maxRecDepth 100000
def gwS (A : Nat → Nat → Int32) : Gw := (A 514 5, fun i => if i < cI (A 514 5) then A (526 + i) 0 else 0, fun i => if i < cI (A 514 5) then A (526 + i) 1 else 0)
theorem gwS_a {A : Nat → Nat → Int32} {i : Nat} (h : i < (gwS A).n) : (gwS A).a i = A (526 + i) 0 := if_pos h
theorem gwS_b {A : Nat → Nat → Int32} {i : Nat} (h : i < (gwS A).n) : (gwS A).b i = A (526 + i) 1 := if_pos h
def ewS (A : Nat → Nat → Int32) : Ew := (A 514 4, fun i => if i < cI (A 514 4) then A (517 + i) 0 else 0, fun i => if i < cI (A 514 4) then A (517 + i) 1 else 0, fun i => if i < cI (A 514 4) then A (517 + i) 2 else 0)
theorem ewS_h {A : Nat → Nat → Int32} {i : Nat} (h : i < (ewS A).n) : (ewS A).h i = A (517 + i) 0 := if_pos h
theorem ewS_d {A : Nat → Nat → Int32} {i : Nat} (h : i < (ewS A).n) : (ewS A).d i = A (517 + i) 1 := if_pos h
theorem ewS_s {A : Nat → Nat → Int32} {i : Nat} (h : i < (ewS A).n) : (ewS A).s i = A (517 + i) 2 := if_pos h
/-- the dates of a house in the book and among what is seen -/
def bookS (b : Bw) (h z : Int32) : Nat → Int32 := orUp (fun i => if b.h i = h ∧ b.s i = z then bit (b.d i % 20) else 0)
def seenS (e : Ew) (h z x : Int32) : Nat → Int32 := orAcc x (fun i => if e.h i = h ∧ e.s i = z then bit (e.d i) else 0)
def datesS (b : Bw) (e : Ew) (h z : Int32) : Int32 := seenS e h z (bookS b h z b.n) e.n
/-- purses in a row, from the i-th house on -/
def lootL (v : Vw) (dt : Int32) : Nat → Nat → Int32 → Int32 → Int32
  | 0, _, _, sum => sum
  | m + 1, i, left, sum => if 0 < left then (if v.go (nI i) = true then lootL v dt m (i + 1) left sum else if hasI (v.sh (nI i)) dt = true then lootL v dt m (i + 1) (left + -1) (sum + v.pu (nI i)) else sum) else sum
def Vw.loot1 (v : Vw) (first dt k : Int32) : Int32 := if v.her first && hasI (v.sh first) dt then lootL v dt (v.n - cI first) (cI first) k 0 else -1
def Vw.firstL (v : Vw) (dt k : Int32) : Nat → Int32
  | 0 => -1
  | m + 1 => if (if v.firstL dt k m = -1 then -1 else v.loot1 (v.firstL dt k m) dt k) < v.loot1 (nI m) dt k then nI m else v.firstL dt k m
def Vw.lootI (v : Vw) (dt k : Int32) : Int32 := if v.firstL dt k v.n = -1 then 0 else v.loot1 (v.firstL dt k v.n) dt k
def Vw.thievesS (v : Vw) (dt k z : Int32) : Int32 := if inI dt 0 19 && inI k 1 7 then (if z = 0 then v.lootI dt k else v.firstL dt k v.n) else -2
def Vw.lootD (v : Vw) (k d : Int32) : Int32 := v.lootI d k
def Vw.nightS (v : Vw) (k : Int32) : Int32 := if inI k 1 7 then bestUp (v.lootD k) 19 else -1
def turnI (x k : Int32) : Int32 := (x <<< (k &&& 31)) &&& 1048575 ||| (x >>> ((20 - k) &&& 31))
def Vw.leapS (v : Vw) (h e : Int32) : Int32 := if v.hou h && v.hou e then srch (fun k => decide (turnI (v.sh h) (nI k) = v.sh e)) nI (-1) (20 - 0) 0 else -1
def Vw.aloneO (v : Vw) (k : Nat) : Nat → Int32 := orUp (fun q => if ¬ nI q = nI k ∧ v.her (nI q) = true then v.sh (nI q) else 0)
def Vw.aloneS (v : Vw) : Int32 := orUp (fun k => if v.her (nI k) = true ∧ v.aloneO k v.n &&& v.sh (nI k) = 0 then bit (nI k) else 0) v.n
theorem orUp_0 (f : Nat → Int32) : orUp f 0 = 0 := rfl
theorem orUp_s (f : Nat → Int32) (k : Nat) : orUp f (k + 1) = orUp f k ||| f k := rfl
theorem orAcc_s (x : Int32) (f : Nat → Int32) (k : Nat) : orAcc x f (k + 1) = orAcc x f k ||| f k := rfl
theorem r_X0_knowing {s : Sg} (hg : (gwS s.A).ok) (x : Int32) : Run 2 mX0_knowing [.ref 512, .int x] (hp s) (.inl (some (.int ((gwS s.A).spread x)))) (hp s) := by
  refine Run.of rfl (Nat.le_of_ble_eq_true rfl) rfl ?_
  refine AW.iload_n dX0_knowing_0 rfl rfl ?_
  refine AW.istore_n (i := 2) dX0_knowing_1 rfl rfl (Nat.le_of_ble_eq_true rfl) rfl rfl ?_
  refine AW.iconst (v := 0) dX0_knowing_2 (by decide) rfl ?_
  refine AW.istore_n (i := 3) dX0_knowing_3 rfl rfl (Nat.le_of_ble_eq_true rfl) rfl rfl ?_
  refine loopUp (P := fun k => AW 2 mX0_knowing (hp s) 4 [some (.ref 512), some (.int (x)), some (.int (orAcc x (fun k => if hasI x ((gwS s.A).a k) then bit ((gwS s.A).b k) else 0) k)), some (.int (nI k))] [] (.inl (some (.int ((gwS s.A).spread x)))) (hp s)) (gwS s.A).n ?_ ?_ 0 (by first | exact Nat.zero_le _ | omega)
  · refine AW.iload_n dX0_knowing_4 rfl rfl ?_
    refine AW.aload_n dX0_knowing_5 rfl rfl ?_
    refine AW.get ci0 0 (by decide) q229 dX0_knowing_6 gX rfl rfl ?_
    refine AW.getN ci1 0 (by decide) q191 dX0_knowing_9 gN rfl rfl ?_
    refine AW.iconst (v := 5) dX0_knowing_12 (by decide) rfl ?_
    refine AW.iald dX0_knowing_13 g514 (vp_in_iff.mpr (by decide)) (j := 5) (by decide) rfl ?_
    refine AW.icmp_ge (tgt := 61) dX0_knowing_14 (by decide) rfl (fun _ => ?_) (fun c_ => by first | exact absurd c_ (loop_end (by have := Gw.n8 hg; omega) (Gw.nN hg)) | exact absurd (loop_end (by have := Gw.n8 hg; omega) (Gw.nN hg)) c_ | exact absurd c_ (not_not_intro (loop_end (by have := Gw.n8 hg; omega) (Gw.nN hg))) | exact Bool.noConfusion (c_.symm.trans (loop_end (by have := Gw.n8 hg; omega) (Gw.nN hg))))
    refine AW.iload_n dX0_knowing_61 rfl rfl ?_
    exact AW.iretE dX0_knowing_62 rfl rfl rfl rfl
  · intro k hk ihk
    have h8 := Gw.n8 hg
    have e1 := gwS_a hk
    have e2 := gwS_b hk
    refine AW.iload_n dX0_knowing_4 rfl rfl ?_
    refine AW.aload_n dX0_knowing_5 rfl rfl ?_
    refine AW.get ci0 0 (by decide) q229 dX0_knowing_6 gX rfl rfl ?_
    refine AW.getN ci1 0 (by decide) q191 dX0_knowing_9 gN rfl rfl ?_
    refine AW.iconst (v := 5) dX0_knowing_12 (by decide) rfl ?_
    refine AW.iald dX0_knowing_13 g514 (vp_in_iff.mpr (by decide)) (j := 5) (by decide) rfl ?_
    refine AW.icmp_ge (tgt := 61) dX0_knowing_14 (by decide) rfl (fun c_ => by first | exact absurd c_ (loop_in hk (by have := Gw.n8 hg; omega) (Gw.nN hg)) | exact absurd (loop_in hk (by have := Gw.n8 hg; omega) (Gw.nN hg)) c_ | exact Bool.noConfusion (c_.symm.trans (loop_in hk (by have := Gw.n8 hg; omega) (Gw.nN hg)))) (fun _ => ?_)
    refine AW.iload_n dX0_knowing_17 rfl rfl ?_
    refine AW.iload_n dX0_knowing_18 rfl rfl ?_
    refine AW.aload_n dX0_knowing_19 rfl rfl ?_
    refine AW.get ci0 0 (by decide) q229 dX0_knowing_20 gX rfl rfl ?_
    refine AW.getN ci1 3 (by decide) q197 dX0_knowing_23 gN rfl rfl ?_
    refine AW.iload_n dX0_knowing_26 rfl rfl ?_
    refine AW.aald dX0_knowing_27 g525 rfl rfl (xI_in (n := 8) (by omega) (by decide)) (nI_cl (k := k) (by omega)) rfl ?_
    refine AW.iconst (v := 0) dX0_knowing_28 (by decide) rfl ?_
    refine AW.iald dX0_knowing_29 (rowg (r526 k (by omega))) (vp_in_iff.mpr (by decide)) (j := 0) (by decide) rfl ?_
    refine AW.callS (Y := mX0_has) (n := 2) (r_X0_has _ _) (by decide) (by decide) q867 q868 q138 q869 dX0_knowing_30 (by decide +kernel) rfl rfl (Nat.le_of_ble_eq_true rfl) rfl ?_
    refine AW.if_eqB (tgt := 52) dX0_knowing_33 (by decide) rfl (fun c => ?_) (fun c => ?_)
    · refine AW.iconst (v := 0) dX0_knowing_52 (by decide) rfl ?_
      refine AW.ior dX0_knowing_53 rfl ?_
      refine AW.istore_n (i := 2) dX0_knowing_54 rfl rfl (Nat.le_of_ble_eq_true rfl) rfl rfl ?_
      refine AW.iinc (v := 1) dX0_knowing_55 rfl (by decide) rfl rfl rfl ?_
      refine AW.goto (tgt := 4) dX0_knowing_58 (by decide) ?_
      exact AW.ls (by first | (rw [orAcc_s, nI_succ, if_neg (by rw [e1, c]; decide)]; rfl) | (rw [orAcc_s, nI_succ, if_pos (by rw [e1, c]), e2]; rfl)) ihk
    · refine AW.iconst (v := 1) dX0_knowing_36 (by decide) rfl ?_
      refine AW.aload_n dX0_knowing_37 rfl rfl ?_
      refine AW.get ci0 0 (by decide) q229 dX0_knowing_38 gX rfl rfl ?_
      refine AW.getN ci1 3 (by decide) q197 dX0_knowing_41 gN rfl rfl ?_
      refine AW.iload_n dX0_knowing_44 rfl rfl ?_
      refine AW.aald dX0_knowing_45 g525 rfl rfl (xI_in (n := 8) (by omega) (by decide)) (nI_cl (k := k) (by omega)) rfl ?_
      refine AW.iconst (v := 1) dX0_knowing_46 (by decide) rfl ?_
      refine AW.iald dX0_knowing_47 (rowg (r526 k (by omega))) (vp_in_iff.mpr (by decide)) (j := 1) (by decide) rfl ?_
      refine AW.ishl dX0_knowing_48 rfl ?_
      refine AW.goto (tgt := 53) dX0_knowing_49 (by decide) ?_
      refine AW.ior dX0_knowing_53 rfl ?_
      refine AW.istore_n (i := 2) dX0_knowing_54 rfl rfl (Nat.le_of_ble_eq_true rfl) rfl rfl ?_
      refine AW.iinc (v := 1) dX0_knowing_55 rfl (by decide) rfl rfl rfl ?_
      refine AW.goto (tgt := 4) dX0_knowing_58 (by decide) ?_
      exact AW.ls (by first | (rw [orAcc_s, nI_succ, if_neg (by rw [e1, c]; decide)]; rfl) | (rw [orAcc_s, nI_succ, if_pos (by rw [e1, c]), e2]; rfl)) ihk
theorem r_X0_knows {s : Sg} (hg : (gwS s.A).ok) (h e : Int32) : Run 3 mX0_knows [.ref 512, .int h, .int e] (hp s) (.inl (some (.int ((gwS s.A).knows (vwS (s.A 514) (s.A 515)) 7 h e)))) (hp s) := by
  refine Run.of rfl (Nat.le_of_ble_eq_true rfl) rfl ?_
  refine AW.aload_n dX0_knows_0 rfl rfl ?_
  refine AW.iload_n dX0_knows_1 rfl rfl ?_
  refine AW.callV (Y := mX0_isHouse) (n := 1) (r_X0_isHouse (r := s.A 515) _) (by decide) (by decide) rfl gX q895 q897 qs30 q138 q898 dX0_knows_2 (by decide +kernel) rfl rfl (Nat.le_of_ble_eq_true rfl) rfl ?_
  refine AW.if_eqB (tgt := 16) dX0_knows_5 (by decide) rfl (fun c5 => ?_) (fun c5 => ?_)
  · refine AW.iconst (v := (-1)) dX0_knows_16 (by decide) rfl ?_
    exact AW.iretE dX0_knows_17 rfl rfl (by simp [Gw.knows, *]) rfl
  · refine AW.aload_n dX0_knows_8 rfl rfl ?_
    refine AW.iload_n dX0_knows_9 rfl rfl ?_
    refine AW.callV (Y := mX0_isHouse) (n := 1) (r_X0_isHouse (r := s.A 515) _) (by decide) (by decide) rfl gX q895 q897 qs30 q138 q898 dX0_knows_10 (by decide +kernel) rfl rfl (Nat.le_of_ble_eq_true rfl) rfl ?_
    refine AW.if_neB (tgt := 18) dX0_knows_13 (by decide) rfl (fun c13 => ?_) (fun c13 => ?_)
    · refine AW.iconst (v := 1) dX0_knows_18 (by decide) rfl ?_
      refine AW.iload_n dX0_knows_19 rfl rfl ?_
      refine AW.ishl dX0_knows_20 rfl ?_
      refine AW.istore_n (i := 3) dX0_knows_21 rfl rfl (Nat.le_of_ble_eq_true rfl) rfl rfl ?_
      refine AW.iconst (v := 0) dX0_knows_22 (by decide) rfl ?_
      refine AW.istore dX0_knows_23 rfl (Nat.le_of_ble_eq_true rfl) rfl rfl ?_
      refine AW.oo (o2 := .inl (some (.int (srch (fun k => hasI (iter (gwS s.A).spread k (bit e)) h) nI (-1) (7 - 0) 0)))) (by unfold Gw.knows; rw [c5, c13]; rfl) ?_
      refine loopUp (P := fun k => AW 3 mX0_knows (hp s) 25 [some (.ref 512), some (.int (h)), some (.int (e)), some (.int (iter (gwS s.A).spread k (bit e))), some (.int (nI k))] [] (.inl (some (.int (srch (fun k => hasI (iter (gwS s.A).spread k (bit e)) h) nI (-1) (7 - k) k)))) (hp s)) 7 ?_ ?_ 0 (by first | exact Nat.zero_le _ | omega)
      · refine AW.iload dX0_knows_25 rfl rfl ?_
        refine AW.bipush (v := 7) dX0_knows_27 (by decide) rfl ?_
        refine AW.icmp_ge (tgt := 55) dX0_knows_29 (by decide) rfl (fun _ => ?_) (fun c_ => by first | exact absurd c_ (by decide) | exact absurd (by decide) c_ | exact absurd c_ (not_not_intro (by decide)) | exact Bool.noConfusion (c_.symm.trans (by decide)))
        refine AW.iconst (v := (-1)) dX0_knows_55 (by decide) rfl ?_
        exact AW.iretE dX0_knows_56 rfl rfl (srch_e.symm) rfl
      · intro k hk ihk
        refine AW.iload dX0_knows_25 rfl rfl ?_
        refine AW.bipush (v := 7) dX0_knows_27 (by decide) rfl ?_
        refine AW.icmp_ge (tgt := 55) dX0_knows_29 (by decide) rfl (fun c_ => by first | exact absurd c_ (nle_lit 7 rfl hk (by decide)) | exact absurd (nle_lit 7 rfl hk (by decide)) c_ | exact Bool.noConfusion (c_.symm.trans (nle_lit 7 rfl hk (by decide)))) (fun _ => ?_)
        refine AW.iload_n dX0_knows_32 rfl rfl ?_
        refine AW.iload_n dX0_knows_33 rfl rfl ?_
        refine AW.callS (Y := mX0_has) (n := 2) (r_X0_has _ _) (by decide) (by decide) q867 q868 q138 q869 dX0_knows_34 (by decide +kernel) rfl rfl (Nat.le_of_ble_eq_true rfl) rfl ?_
        refine AW.if_eqB (tgt := 43) dX0_knows_37 (by decide) rfl (fun c => ?_) (fun c => ?_)
        · refine AW.aload_n dX0_knows_43 rfl rfl ?_
          refine AW.iload_n dX0_knows_44 rfl rfl ?_
          refine AW.callV (Y := mX0_knowing) (n := 1) (r_X0_knowing hg _) (by decide) (by decide) rfl gX q1289 q1291 qs57 q138 q1292 dX0_knows_45 (by decide +kernel) rfl rfl (Nat.le_of_ble_eq_true rfl) rfl ?_
          refine AW.istore_n (i := 3) dX0_knows_48 rfl rfl (Nat.le_of_ble_eq_true rfl) rfl rfl ?_
          refine AW.iinc (v := 1) dX0_knows_49 rfl (by decide) rfl rfl rfl ?_
          refine AW.goto (tgt := 25) dX0_knows_52 (by decide) ?_
          exact AW.ls (by rw [nI_succ]; rfl) (AW.oo (by rw [srch_f hk c]) ihk)
        · refine AW.iload dX0_knows_40 rfl rfl ?_
          exact AW.iretE dX0_knows_42 rfl rfl (srch_t hk c).symm rfl
    · refine AW.iconst (v := (-1)) dX0_knows_16 (by decide) rfl ?_
      exact AW.iretE dX0_knows_17 rfl rfl (by simp [Gw.knows, *]) rfl
theorem r_X0_never {s : Sg} (hg : (gwS s.A).ok) (h : Int32) : Run 3 mX0_never [.ref 512, .int h] (hp s) (.inl (some (.int ((gwS s.A).never (vwS (s.A 514) (s.A 515)) 7 h)))) (hp s) := by
  refine Run.of rfl (Nat.le_of_ble_eq_true rfl) rfl ?_
  refine AW.aload_n dX0_never_0 rfl rfl ?_
  refine AW.iload_n dX0_never_1 rfl rfl ?_
  refine AW.callV (Y := mX0_isHouse) (n := 1) (r_X0_isHouse (r := s.A 515) _) (by decide) (by decide) rfl gX q895 q897 qs30 q138 q898 dX0_never_2 (by decide +kernel) rfl rfl (Nat.le_of_ble_eq_true rfl) rfl ?_
  refine AW.if_neB (tgt := 10) dX0_never_5 (by decide) rfl (fun c5 => ?_) (fun c5 => ?_)
  · refine AW.iconst (v := 1) dX0_never_10 (by decide) rfl ?_
    refine AW.iload_n dX0_never_11 rfl rfl ?_
    refine AW.ishl dX0_never_12 rfl ?_
    refine AW.istore_n (i := 2) dX0_never_13 rfl rfl (Nat.le_of_ble_eq_true rfl) rfl rfl ?_
    refine AW.iconst (v := 0) dX0_never_14 (by decide) rfl ?_
    refine AW.istore_n (i := 3) dX0_never_15 rfl rfl (Nat.le_of_ble_eq_true rfl) rfl rfl ?_
    refine loopUp (P := fun k => AW 3 mX0_never (hp s) 16 [some (.ref 512), some (.int (h)), some (.int (iter (gwS s.A).spread k (bit h))), some (.int (nI k))] [] (.inl (some (.int ((gwS s.A).never (vwS (s.A 514) (s.A 515)) 7 h)))) (hp s)) 7 ?_ ?_ 0 (by first | exact Nat.zero_le _ | omega)
    · refine AW.iload_n dX0_never_16 rfl rfl ?_
      refine AW.bipush (v := 7) dX0_never_17 (by decide) rfl ?_
      refine AW.icmp_ge (tgt := 34) dX0_never_19 (by decide) rfl (fun _ => ?_) (fun c_ => by first | exact absurd c_ (by decide) | exact absurd (by decide) c_ | exact absurd c_ (not_not_intro (by decide)) | exact Bool.noConfusion (c_.symm.trans (by decide)))
      refine AW.iconst (v := 1) dX0_never_34 (by decide) rfl ?_
      refine AW.aload_n dX0_never_35 rfl rfl ?_
      refine AW.get ci0 0 (by decide) q229 dX0_never_36 gX rfl rfl ?_
      refine AW.getN ci1 0 (by decide) q191 dX0_never_39 gN rfl rfl ?_
      refine AW.iconst (v := 0) dX0_never_42 (by decide) rfl ?_
      refine AW.iald dX0_never_43 g514 (vp_in_iff.mpr (by decide)) (j := 0) (by decide) rfl ?_
      refine AW.ishl dX0_never_44 rfl ?_
      refine AW.iconst (v := 1) dX0_never_45 (by decide) rfl ?_
      refine AW.isub dX0_never_46 rfl ?_
      refine AW.iload_n dX0_never_47 rfl rfl ?_
      refine AW.iconst (v := (-1)) dX0_never_48 (by decide) rfl ?_
      refine AW.ixor dX0_never_49 rfl ?_
      refine AW.iand dX0_never_50 rfl ?_
      exact AW.iretE dX0_never_51 rfl rfl (by unfold Gw.never; rw [c5]; rfl) rfl
    · intro k hk ihk
      refine AW.iload_n dX0_never_16 rfl rfl ?_
      refine AW.bipush (v := 7) dX0_never_17 (by decide) rfl ?_
      refine AW.icmp_ge (tgt := 34) dX0_never_19 (by decide) rfl (fun c_ => by first | exact absurd c_ (nle_lit 7 rfl hk (by decide)) | exact absurd (nle_lit 7 rfl hk (by decide)) c_ | exact Bool.noConfusion (c_.symm.trans (nle_lit 7 rfl hk (by decide)))) (fun _ => ?_)
      refine AW.aload_n dX0_never_22 rfl rfl ?_
      refine AW.iload_n dX0_never_23 rfl rfl ?_
      refine AW.callV (Y := mX0_knowing) (n := 1) (r_X0_knowing hg _) (by decide) (by decide) rfl gX q1289 q1291 qs57 q138 q1292 dX0_never_24 (by decide +kernel) rfl rfl (Nat.le_of_ble_eq_true rfl) rfl ?_
      refine AW.istore_n (i := 2) dX0_never_27 rfl rfl (Nat.le_of_ble_eq_true rfl) rfl rfl ?_
      refine AW.iinc (v := 1) dX0_never_28 rfl (by decide) rfl rfl rfl ?_
      refine AW.goto (tgt := 16) dX0_never_31 (by decide) ?_
      exact AW.ls (by rw [nI_succ]; rfl) ihk
  · refine AW.iconst (v := (-1)) dX0_never_8 (by decide) rfl ?_
    exact AW.iretE dX0_never_9 rfl rfl (by simp [Gw.never, *]) rfl
theorem r_X0_datesSeen {s : Sg} (hb : (bkS (s.A 515)).ok) (he : (ewS s.A).ok) (h z : Int32) : Run 1 mX0_datesSeen [.ref 512, .int h, .int z] (hp s) (.inl (some (.int (datesS (bkS (s.A 515)) (ewS s.A) h z)))) (hp s) := by
  refine Run.of rfl (Nat.le_of_ble_eq_true rfl) rfl ?_
  refine AW.iconst (v := 0) dX0_datesSeen_0 (by decide) rfl ?_
  refine AW.istore_n (i := 3) dX0_datesSeen_1 rfl rfl (Nat.le_of_ble_eq_true rfl) rfl rfl ?_
  refine AW.iconst (v := 0) dX0_datesSeen_2 (by decide) rfl ?_
  refine AW.istore dX0_datesSeen_3 rfl (Nat.le_of_ble_eq_true rfl) rfl rfl ?_
  refine loopUp (P := fun k => AW 1 mX0_datesSeen (hp s) 5 [some (.ref 512), some (.int (h)), some (.int (z)), some (.int (bookS (bkS (s.A 515)) h z k)), some (.int (nI k)), none] [] (.inl (some (.int (datesS (bkS (s.A 515)) (ewS s.A) h z)))) (hp s)) (bkS (s.A 515)).n ?_ ?_ 0 (by first | exact Nat.zero_le _ | omega)
  · refine AW.iload dX0_datesSeen_5 rfl rfl ?_
    refine AW.aload_n dX0_datesSeen_7 rfl rfl ?_
    refine AW.get ci0 0 (by decide) q229 dX0_datesSeen_8 gX rfl rfl ?_
    refine AW.getN ci1 1 (by decide) q193 dX0_datesSeen_11 gN rfl rfl ?_
    refine AW.bipush (v := 24) dX0_datesSeen_14 (by decide) rfl ?_
    refine AW.iald dX0_datesSeen_16 g515 (vp_in_iff.mpr (by decide)) (j := 24) (by decide) rfl ?_
    refine AW.icmp_ge (tgt := 89) dX0_datesSeen_17 (by decide) rfl (fun _ => ?_) (fun c_ => by first | exact absurd c_ (loop_end (by have := Bw.n40 hb; omega) (Bw.nN hb)) | exact absurd (loop_end (by have := Bw.n40 hb; omega) (Bw.nN hb)) c_ | exact absurd c_ (not_not_intro (loop_end (by have := Bw.n40 hb; omega) (Bw.nN hb))) | exact Bool.noConfusion (c_.symm.trans (loop_end (by have := Bw.n40 hb; omega) (Bw.nN hb))))
    refine AW.iconst (v := 0) dX0_datesSeen_89 (by decide) rfl ?_
    refine AW.istore dX0_datesSeen_90 rfl (Nat.le_of_ble_eq_true rfl) rfl rfl ?_
    refine loopUp (P := fun k => AW 1 mX0_datesSeen (hp s) 92 [some (.ref 512), some (.int (h)), some (.int (z)), some (.int (seenS (ewS s.A) h z (bookS (bkS (s.A 515)) h z (bkS (s.A 515)).n) k)), some (.int (nI k)), none] [] (.inl (some (.int (datesS (bkS (s.A 515)) (ewS s.A) h z)))) (hp s)) (ewS s.A).n ?_ ?_ 0 (by first | exact Nat.zero_le _ | omega)
    · refine AW.iload dX0_datesSeen_92 rfl rfl ?_
      refine AW.aload_n dX0_datesSeen_94 rfl rfl ?_
      refine AW.get ci0 0 (by decide) q229 dX0_datesSeen_95 gX rfl rfl ?_
      refine AW.getN ci1 0 (by decide) q191 dX0_datesSeen_98 gN rfl rfl ?_
      refine AW.iconst (v := 4) dX0_datesSeen_101 (by decide) rfl ?_
      refine AW.iald dX0_datesSeen_102 g514 (vp_in_iff.mpr (by decide)) (j := 4) (by decide) rfl ?_
      refine AW.icmp_ge (tgt := 165) dX0_datesSeen_103 (by decide) rfl (fun _ => ?_) (fun c_ => by first | exact absurd c_ (loop_end (by have := Ew.n8 he; omega) (Ew.nN he)) | exact absurd (loop_end (by have := Ew.n8 he; omega) (Ew.nN he)) c_ | exact absurd c_ (not_not_intro (loop_end (by have := Ew.n8 he; omega) (Ew.nN he))) | exact Bool.noConfusion (c_.symm.trans (loop_end (by have := Ew.n8 he; omega) (Ew.nN he))))
      refine AW.iload_n dX0_datesSeen_165 rfl rfl ?_
      exact AW.iretE dX0_datesSeen_166 rfl rfl rfl rfl
    · intro k hk ihk
      have h8 := Ew.n8 he
      have e0 := ewS_d hk
      have e1 := ewS_h hk
      have e2 := ewS_s hk
      refine AW.iload dX0_datesSeen_92 rfl rfl ?_
      refine AW.aload_n dX0_datesSeen_94 rfl rfl ?_
      refine AW.get ci0 0 (by decide) q229 dX0_datesSeen_95 gX rfl rfl ?_
      refine AW.getN ci1 0 (by decide) q191 dX0_datesSeen_98 gN rfl rfl ?_
      refine AW.iconst (v := 4) dX0_datesSeen_101 (by decide) rfl ?_
      refine AW.iald dX0_datesSeen_102 g514 (vp_in_iff.mpr (by decide)) (j := 4) (by decide) rfl ?_
      refine AW.icmp_ge (tgt := 165) dX0_datesSeen_103 (by decide) rfl (fun c_ => by first | exact absurd c_ (loop_in hk (by have := Ew.n8 he; omega) (Ew.nN he)) | exact absurd (loop_in hk (by have := Ew.n8 he; omega) (Ew.nN he)) c_ | exact Bool.noConfusion (c_.symm.trans (loop_in hk (by have := Ew.n8 he; omega) (Ew.nN he)))) (fun _ => ?_)
      refine AW.iload_n dX0_datesSeen_106 rfl rfl ?_
      refine AW.aload_n dX0_datesSeen_107 rfl rfl ?_
      refine AW.get ci0 0 (by decide) q229 dX0_datesSeen_108 gX rfl rfl ?_
      refine AW.getN ci1 2 (by decide) q195 dX0_datesSeen_111 gN rfl rfl ?_
      refine AW.iload dX0_datesSeen_114 rfl rfl ?_
      refine AW.aald dX0_datesSeen_116 g516 rfl rfl (xI_in (n := 8) (by omega) (by decide)) (nI_cl (k := k) (by omega)) rfl ?_
      refine AW.iconst (v := 0) dX0_datesSeen_117 (by decide) rfl ?_
      refine AW.iald dX0_datesSeen_118 (rowg (r517 k (by omega))) (vp_in_iff.mpr (by decide)) (j := 0) (by decide) rfl ?_
      refine AW.iload_n dX0_datesSeen_119 rfl rfl ?_
      refine AW.icmp_ne (tgt := 156) dX0_datesSeen_120 (by decide) rfl (fun c1 => ?_) (fun c1 => ?_)
      · refine AW.iconst (v := 0) dX0_datesSeen_156 (by decide) rfl ?_
        refine AW.ior dX0_datesSeen_157 rfl ?_
        refine AW.istore_n (i := 3) dX0_datesSeen_158 rfl rfl (Nat.le_of_ble_eq_true rfl) rfl rfl ?_
        refine AW.iinc (v := 1) dX0_datesSeen_159 rfl (by decide) rfl rfl rfl ?_
        refine AW.goto (tgt := 92) dX0_datesSeen_162 (by decide) ?_
        exact AW.ls (by unfold seenS; rw [orAcc_s, nI_succ]; first | (rw [if_pos ⟨e1.trans c1, e2.trans c2⟩, e0]; rfl) | (rw [if_neg (fun q => c1 (e1.symm.trans q.1))]; rfl) | (rw [if_neg (fun q => c2 (e2.symm.trans q.2))]; rfl)) ihk
      · refine AW.aload_n dX0_datesSeen_123 rfl rfl ?_
        refine AW.get ci0 0 (by decide) q229 dX0_datesSeen_124 gX rfl rfl ?_
        refine AW.getN ci1 2 (by decide) q195 dX0_datesSeen_127 gN rfl rfl ?_
        refine AW.iload dX0_datesSeen_130 rfl rfl ?_
        refine AW.aald dX0_datesSeen_132 g516 rfl rfl (xI_in (n := 8) (by omega) (by decide)) (nI_cl (k := k) (by omega)) rfl ?_
        refine AW.iconst (v := 2) dX0_datesSeen_133 (by decide) rfl ?_
        refine AW.iald dX0_datesSeen_134 (rowg (r517 k (by omega))) (vp_in_iff.mpr (by decide)) (j := 2) (by decide) rfl ?_
        refine AW.iload_n dX0_datesSeen_135 rfl rfl ?_
        refine AW.icmp_ne (tgt := 156) dX0_datesSeen_136 (by decide) rfl (fun c2 => ?_) (fun c2 => ?_)
        · refine AW.iconst (v := 0) dX0_datesSeen_156 (by decide) rfl ?_
          refine AW.ior dX0_datesSeen_157 rfl ?_
          refine AW.istore_n (i := 3) dX0_datesSeen_158 rfl rfl (Nat.le_of_ble_eq_true rfl) rfl rfl ?_
          refine AW.iinc (v := 1) dX0_datesSeen_159 rfl (by decide) rfl rfl rfl ?_
          refine AW.goto (tgt := 92) dX0_datesSeen_162 (by decide) ?_
          exact AW.ls (by unfold seenS; rw [orAcc_s, nI_succ]; first | (rw [if_pos ⟨e1.trans c1, e2.trans c2⟩, e0]; rfl) | (rw [if_neg (fun q => c1 (e1.symm.trans q.1))]; rfl) | (rw [if_neg (fun q => c2 (e2.symm.trans q.2))]; rfl)) ihk
        · refine AW.iconst (v := 1) dX0_datesSeen_139 (by decide) rfl ?_
          refine AW.aload_n dX0_datesSeen_140 rfl rfl ?_
          refine AW.get ci0 0 (by decide) q229 dX0_datesSeen_141 gX rfl rfl ?_
          refine AW.getN ci1 2 (by decide) q195 dX0_datesSeen_144 gN rfl rfl ?_
          refine AW.iload dX0_datesSeen_147 rfl rfl ?_
          refine AW.aald dX0_datesSeen_149 g516 rfl rfl (xI_in (n := 8) (by omega) (by decide)) (nI_cl (k := k) (by omega)) rfl ?_
          refine AW.iconst (v := 1) dX0_datesSeen_150 (by decide) rfl ?_
          refine AW.iald dX0_datesSeen_151 (rowg (r517 k (by omega))) (vp_in_iff.mpr (by decide)) (j := 1) (by decide) rfl ?_
          refine AW.ishl dX0_datesSeen_152 rfl ?_
          refine AW.goto (tgt := 157) dX0_datesSeen_153 (by decide) ?_
          refine AW.ior dX0_datesSeen_157 rfl ?_
          refine AW.istore_n (i := 3) dX0_datesSeen_158 rfl rfl (Nat.le_of_ble_eq_true rfl) rfl rfl ?_
          refine AW.iinc (v := 1) dX0_datesSeen_159 rfl (by decide) rfl rfl rfl ?_
          refine AW.goto (tgt := 92) dX0_datesSeen_162 (by decide) ?_
          exact AW.ls (by unfold seenS; rw [orAcc_s, nI_succ]; first | (rw [if_pos ⟨e1.trans c1, e2.trans c2⟩, e0]; rfl) | (rw [if_neg (fun q => c1 (e1.symm.trans q.1))]; rfl) | (rw [if_neg (fun q => c2 (e2.symm.trans q.2))]; rfl)) ihk
  · intro k hk ihk
    have h40 : k < 40 := Nat.lt_of_lt_of_le hk (Bw.n40 hb)
    have e0 := bkS_d hk
    have e1 := bkS_h hk
    have e2 := bkS_s hk
    refine AW.iload dX0_datesSeen_5 rfl rfl ?_
    refine AW.aload_n dX0_datesSeen_7 rfl rfl ?_
    refine AW.get ci0 0 (by decide) q229 dX0_datesSeen_8 gX rfl rfl ?_
    refine AW.getN ci1 1 (by decide) q193 dX0_datesSeen_11 gN rfl rfl ?_
    refine AW.bipush (v := 24) dX0_datesSeen_14 (by decide) rfl ?_
    refine AW.iald dX0_datesSeen_16 g515 (vp_in_iff.mpr (by decide)) (j := 24) (by decide) rfl ?_
    refine AW.icmp_ge (tgt := 89) dX0_datesSeen_17 (by decide) rfl (fun c_ => by first | exact absurd c_ (loop_in hk (by have := Bw.n40 hb; omega) (Bw.nN hb)) | exact absurd (loop_in hk (by have := Bw.n40 hb; omega) (Bw.nN hb)) c_ | exact Bool.noConfusion (c_.symm.trans (loop_in hk (by have := Bw.n40 hb; omega) (Bw.nN hb)))) (fun _ => ?_)
    refine AW.bipush (v := 25) dX0_datesSeen_20 (by decide) rfl ?_
    refine AW.iconst (v := 3) dX0_datesSeen_22 (by decide) rfl ?_
    refine AW.iload dX0_datesSeen_23 rfl rfl ?_
    refine AW.imul dX0_datesSeen_25 rfl ?_
    refine AW.iadd dX0_datesSeen_26 rfl ?_
    refine AW.istore dX0_datesSeen_27 rfl (Nat.le_of_ble_eq_true rfl) rfl rfl ?_
    refine AW.iload_n dX0_datesSeen_29 rfl rfl ?_
    refine AW.aload_n dX0_datesSeen_30 rfl rfl ?_
    refine AW.get ci0 0 (by decide) q229 dX0_datesSeen_31 gX rfl rfl ?_
    refine AW.getN ci1 1 (by decide) q193 dX0_datesSeen_34 gN rfl rfl ?_
    refine AW.iload dX0_datesSeen_37 rfl rfl ?_
    refine AW.iconst (v := 1) dX0_datesSeen_39 (by decide) rfl ?_
    refine AW.iadd dX0_datesSeen_40 rfl ?_
    refine AW.iald dX0_datesSeen_41 g515 (by rw [pg]; exact pg_in (w := 1) h40 (by decide)) (j := 26 + 3 * k) (by rw [pg]; exact pg_at (w := 1) h40 (by decide)) rfl ?_
    refine AW.iload_n dX0_datesSeen_42 rfl rfl ?_
    refine AW.icmp_ne (tgt := 80) dX0_datesSeen_43 (by decide) rfl (fun c1 => ?_) (fun c1 => ?_)
    · refine AW.iconst (v := 0) dX0_datesSeen_80 (by decide) rfl ?_
      refine AW.ior dX0_datesSeen_81 rfl ?_
      refine AW.istore_n (i := 3) dX0_datesSeen_82 rfl rfl (Nat.le_of_ble_eq_true rfl) rfl rfl ?_
      refine AW.iinc (v := 1) dX0_datesSeen_83 rfl (by decide) rfl rfl rfl ?_
      refine AW.goto (tgt := 5) dX0_datesSeen_86 (by decide) ?_
      exact AW.fg 5 rfl (AW.ls (by unfold bookS; rw [orUp_s, nI_succ]; first | (rw [if_pos ⟨e1.trans c1, e2.trans c2⟩, e0]; rfl) | (rw [if_neg (fun q => c1 (e1.symm.trans q.1))]; rfl) | (rw [if_neg (fun q => c2 (e2.symm.trans q.2))]; rfl)) ihk)
    · refine AW.aload_n dX0_datesSeen_46 rfl rfl ?_
      refine AW.get ci0 0 (by decide) q229 dX0_datesSeen_47 gX rfl rfl ?_
      refine AW.getN ci1 1 (by decide) q193 dX0_datesSeen_50 gN rfl rfl ?_
      refine AW.iload dX0_datesSeen_53 rfl rfl ?_
      refine AW.iconst (v := 2) dX0_datesSeen_55 (by decide) rfl ?_
      refine AW.iadd dX0_datesSeen_56 rfl ?_
      refine AW.iald dX0_datesSeen_57 g515 (by rw [pg]; exact pg_in (w := 2) h40 (by decide)) (j := 27 + 3 * k) (by rw [pg]; exact pg_at (w := 2) h40 (by decide)) rfl ?_
      refine AW.iload_n dX0_datesSeen_58 rfl rfl ?_
      refine AW.icmp_ne (tgt := 80) dX0_datesSeen_59 (by decide) rfl (fun c2 => ?_) (fun c2 => ?_)
      · refine AW.iconst (v := 0) dX0_datesSeen_80 (by decide) rfl ?_
        refine AW.ior dX0_datesSeen_81 rfl ?_
        refine AW.istore_n (i := 3) dX0_datesSeen_82 rfl rfl (Nat.le_of_ble_eq_true rfl) rfl rfl ?_
        refine AW.iinc (v := 1) dX0_datesSeen_83 rfl (by decide) rfl rfl rfl ?_
        refine AW.goto (tgt := 5) dX0_datesSeen_86 (by decide) ?_
        exact AW.fg 5 rfl (AW.ls (by unfold bookS; rw [orUp_s, nI_succ]; first | (rw [if_pos ⟨e1.trans c1, e2.trans c2⟩, e0]; rfl) | (rw [if_neg (fun q => c1 (e1.symm.trans q.1))]; rfl) | (rw [if_neg (fun q => c2 (e2.symm.trans q.2))]; rfl)) ihk)
      · refine AW.iconst (v := 1) dX0_datesSeen_62 (by decide) rfl ?_
        refine AW.aload_n dX0_datesSeen_63 rfl rfl ?_
        refine AW.get ci0 0 (by decide) q229 dX0_datesSeen_64 gX rfl rfl ?_
        refine AW.getN ci1 1 (by decide) q193 dX0_datesSeen_67 gN rfl rfl ?_
        refine AW.iload dX0_datesSeen_70 rfl rfl ?_
        refine AW.iald dX0_datesSeen_72 g515 (by rw [show (25 : Int32) + 3 * nI k = nI (25 + 3 * k) + nI 0 by rw [pg, nI_0, Int32.add_zero]]; exact pg_in (w := 0) h40 (by decide)) (j := 25 + 3 * k) (by rw [show (25 : Int32) + 3 * nI k = nI (25 + 3 * k) + nI 0 by rw [pg, nI_0, Int32.add_zero]]; exact pg_at (w := 0) h40 (by decide)) rfl ?_
        refine AW.bipush (v := 20) dX0_datesSeen_73 (by decide) rfl ?_
        refine AW.irem dX0_datesSeen_75 (by decide) rfl ?_
        refine AW.ishl dX0_datesSeen_76 rfl ?_
        refine AW.goto (tgt := 81) dX0_datesSeen_77 (by decide) ?_
        refine AW.ior dX0_datesSeen_81 rfl ?_
        refine AW.istore_n (i := 3) dX0_datesSeen_82 rfl rfl (Nat.le_of_ble_eq_true rfl) rfl rfl ?_
        refine AW.iinc (v := 1) dX0_datesSeen_83 rfl (by decide) rfl rfl rfl ?_
        refine AW.goto (tgt := 5) dX0_datesSeen_86 (by decide) ?_
        exact AW.fg 5 rfl (AW.ls (by unfold bookS; rw [orUp_s, nI_succ]; first | (rw [if_pos ⟨e1.trans c1, e2.trans c2⟩, e0]; rfl) | (rw [if_neg (fun q => c1 (e1.symm.trans q.1))]; rfl) | (rw [if_neg (fun q => c2 (e2.symm.trans q.2))]; rfl)) ihk)
theorem r_X0_leap {s : Sg} (hn : (vwS (s.A 514) (s.A 515)).ok) (h e : Int32) : Run 3 mX0_leap [.ref 512, .int h, .int e] (hp s) (.inl (some (.int ((vwS (s.A 514) (s.A 515)).leapS h e)))) (hp s) := by
  refine Run.of rfl (Nat.le_of_ble_eq_true rfl) rfl ?_
  refine AW.aload_n dX0_leap_0 rfl rfl ?_
  refine AW.iload_n dX0_leap_1 rfl rfl ?_
  refine AW.callV (Y := mX0_isHouse) (n := 1) (r_X0_isHouse (r := s.A 515) _) (by decide) (by decide) rfl gX q895 q897 qs30 q138 q898 dX0_leap_2 (by decide +kernel) rfl rfl (Nat.le_of_ble_eq_true rfl) rfl ?_
  refine AW.if_eqB (tgt := 16) dX0_leap_5 (by decide) rfl (fun c5 => ?_) (fun c5 => ?_)
  · refine AW.iconst (v := (-1)) dX0_leap_16 (by decide) rfl ?_
    exact AW.iretE dX0_leap_17 rfl rfl (by simp [Vw.leapS, *]) rfl
  · refine AW.aload_n dX0_leap_8 rfl rfl ?_
    refine AW.iload_n dX0_leap_9 rfl rfl ?_
    refine AW.callV (Y := mX0_isHouse) (n := 1) (r_X0_isHouse (r := s.A 515) _) (by decide) (by decide) rfl gX q895 q897 qs30 q138 q898 dX0_leap_10 (by decide +kernel) rfl rfl (Nat.le_of_ble_eq_true rfl) rfl ?_
    refine AW.if_neB (tgt := 18) dX0_leap_13 (by decide) rfl (fun c13 => ?_) (fun c13 => ?_)
    · refine AW.ldcw dX0_leap_18 q1329 rfl ?_
      refine AW.istore_n (i := 3) dX0_leap_21 rfl rfl (Nat.le_of_ble_eq_true rfl) rfl rfl ?_
      refine AW.aload_n dX0_leap_22 rfl rfl ?_
      refine AW.get ci0 0 (by decide) q229 dX0_leap_23 gX rfl rfl ?_
      refine AW.getN ci1 1 (by decide) q193 dX0_leap_26 gN rfl rfl ?_
      refine AW.iconst (v := 3) dX0_leap_29 (by decide) rfl ?_
      refine AW.iload_n dX0_leap_30 rfl rfl ?_
      refine AW.iadd dX0_leap_31 rfl ?_
      refine AW.iald dX0_leap_32 g515 (in_row hn c5 (by decide) (by decide)) rfl rfl ?_
      refine AW.istore dX0_leap_33 rfl (Nat.le_of_ble_eq_true rfl) rfl rfl ?_
      refine AW.iconst (v := 0) dX0_leap_35 (by decide) rfl ?_
      refine AW.istore dX0_leap_36 rfl (Nat.le_of_ble_eq_true rfl) rfl rfl ?_
      have e1 := vwS_sh c5
      have e2 := vwS_sh c13
      refine AW.oo (o2 := .inl (some (.int (srch (fun k => decide (turnI ((vwS (s.A 514) (s.A 515)).sh h) (nI k) = (vwS (s.A 514) (s.A 515)).sh e)) nI (-1) (20 - 0) 0)))) (by unfold Vw.leapS; rw [c5, c13]; rfl) ?_
      refine loopUp (P := fun k => AW 3 mX0_leap (hp s) 38 [some (.ref 512), some (.int (h)), some (.int (e)), some (.int (1048575)), some (.int (s.A 515 (cI (3 + h)))), some (.int (nI k))] [] (.inl (some (.int (srch (fun k => decide (turnI ((vwS (s.A 514) (s.A 515)).sh h) (nI k) = (vwS (s.A 514) (s.A 515)).sh e)) nI (-1) (20 - k) k)))) (hp s)) 20 ?_ ?_ 0 (by first | exact Nat.zero_le _ | omega)
      · refine AW.iload dX0_leap_38 rfl rfl ?_
        refine AW.bipush (v := 20) dX0_leap_40 (by decide) rfl ?_
        refine AW.icmp_ge (tgt := 84) dX0_leap_42 (by decide) rfl (fun _ => ?_) (fun c_ => by first | exact absurd c_ (by decide) | exact absurd (by decide) c_ | exact absurd c_ (not_not_intro (by decide)) | exact Bool.noConfusion (c_.symm.trans (by decide)))
        refine AW.iconst (v := (-1)) dX0_leap_84 (by decide) rfl ?_
        exact AW.iretE dX0_leap_85 rfl rfl (srch_e.symm) rfl
      · intro k hk ihk
        refine AW.iload dX0_leap_38 rfl rfl ?_
        refine AW.bipush (v := 20) dX0_leap_40 (by decide) rfl ?_
        refine AW.icmp_ge (tgt := 84) dX0_leap_42 (by decide) rfl (fun c_ => by first | exact absurd c_ (nI_nle20' hk) | exact absurd (nI_nle20' hk) c_ | exact Bool.noConfusion (c_.symm.trans (nI_nle20' hk))) (fun _ => ?_)
        refine AW.iload dX0_leap_45 rfl rfl ?_
        refine AW.iload dX0_leap_47 rfl rfl ?_
        refine AW.ishl dX0_leap_49 rfl ?_
        refine AW.iload_n dX0_leap_50 rfl rfl ?_
        refine AW.iand dX0_leap_51 rfl ?_
        refine AW.iload dX0_leap_52 rfl rfl ?_
        refine AW.bipush (v := 20) dX0_leap_54 (by decide) rfl ?_
        refine AW.iload dX0_leap_56 rfl rfl ?_
        refine AW.isub dX0_leap_58 rfl ?_
        refine AW.ishr dX0_leap_59 rfl ?_
        refine AW.ior dX0_leap_60 rfl ?_
        refine AW.aload_n dX0_leap_61 rfl rfl ?_
        refine AW.get ci0 0 (by decide) q229 dX0_leap_62 gX rfl rfl ?_
        refine AW.getN ci1 1 (by decide) q193 dX0_leap_65 gN rfl rfl ?_
        refine AW.iconst (v := 3) dX0_leap_68 (by decide) rfl ?_
        refine AW.iload_n dX0_leap_69 rfl rfl ?_
        refine AW.iadd dX0_leap_70 rfl ?_
        refine AW.iald dX0_leap_71 g515 (in_row hn c13 (by decide) (by decide)) rfl rfl ?_
        refine AW.icmp_ne (tgt := 78) dX0_leap_72 (by decide) rfl (fun c => ?_) (fun c => ?_)
        · refine AW.iinc (v := 1) dX0_leap_78 rfl (by decide) rfl rfl rfl ?_
          refine AW.goto (tgt := 38) dX0_leap_81 (by decide) ?_
          exact AW.ls (by rw [nI_succ]; rfl) (AW.oo (by rw [srch_f hk (dec_f (by rw [e1, e2]; exact c))]) ihk)
        · refine AW.iload dX0_leap_75 rfl rfl ?_
          exact AW.iretE dX0_leap_77 rfl rfl (srch_t hk (dec_t (by rw [e1, e2]; exact c))).symm rfl
    · refine AW.iconst (v := (-1)) dX0_leap_16 (by decide) rfl ?_
      exact AW.iretE dX0_leap_17 rfl rfl (by simp [Vw.leapS, *]) rfl
theorem r_X0_lootFrom {s : Sg} (hn : (vwS (s.A 514) (s.A 515)).ok) (first dt n : Int32) : Run 4 mX0_lootFrom [.ref 512, .int first, .int dt, .int n] (hp s) (.inl (some (.int ((vwS (s.A 514) (s.A 515)).loot1 first dt n)))) (hp s) := by
  refine Run.of rfl (Nat.le_of_ble_eq_true rfl) rfl ?_
  refine AW.aload_n dX0_lootFrom_0 rfl rfl ?_
  refine AW.iload_n dX0_lootFrom_1 rfl rfl ?_
  refine AW.callV (Y := mX0_isThere) (n := 1) (r_X0_isThere _) (by decide) (by decide) rfl gX q980 q982 qs33 q138 q983 dX0_lootFrom_2 (by decide +kernel) rfl rfl (Nat.le_of_ble_eq_true rfl) rfl ?_
  refine AW.if_eqB (tgt := 26) dX0_lootFrom_5 (by decide) rfl (fun c5 => ?_) (fun c5 => ?_)
  · refine AW.iconst (v := (-1)) dX0_lootFrom_26 (by decide) rfl ?_
    exact AW.iretE dX0_lootFrom_27 rfl rfl (by unfold Vw.loot1; first | (rw [c5]; rfl) | (rw [c5, vwS_sh (Vw.her_hou c5), c23]; rfl)) rfl
  · refine AW.aload_n dX0_lootFrom_8 rfl rfl ?_
    refine AW.get ci0 0 (by decide) q229 dX0_lootFrom_9 gX rfl rfl ?_
    refine AW.getN ci1 1 (by decide) q193 dX0_lootFrom_12 gN rfl rfl ?_
    refine AW.iconst (v := 3) dX0_lootFrom_15 (by decide) rfl ?_
    refine AW.iload_n dX0_lootFrom_16 rfl rfl ?_
    refine AW.iadd dX0_lootFrom_17 rfl ?_
    refine AW.iald dX0_lootFrom_18 g515 (in_row hn (Vw.her_hou c5) (by decide) (by decide)) rfl rfl ?_
    refine AW.iload_n dX0_lootFrom_19 rfl rfl ?_
    refine AW.callS (Y := mX0_has) (n := 2) (r_X0_has _ _) (by decide) (by decide) q867 q868 q138 q869 dX0_lootFrom_20 (by decide +kernel) rfl rfl (Nat.le_of_ble_eq_true rfl) rfl ?_
    refine AW.if_neB (tgt := 28) dX0_lootFrom_23 (by decide) rfl (fun c23 => ?_) (fun c23 => ?_)
    · refine AW.iconst (v := 0) dX0_lootFrom_28 (by decide) rfl ?_
      refine AW.istore dX0_lootFrom_29 rfl (Nat.le_of_ble_eq_true rfl) rfl rfl ?_
      refine AW.iload_n dX0_lootFrom_31 rfl rfl ?_
      refine AW.istore dX0_lootFrom_32 rfl (Nat.le_of_ble_eq_true rfl) rfl rfl ?_
      refine AW.iload_n dX0_lootFrom_34 rfl rfl ?_
      refine AW.istore dX0_lootFrom_35 rfl (Nat.le_of_ble_eq_true rfl) rfl rfl ?_
      have e0 := vwS_sh (Vw.her_hou c5)
      have hb5 := Vw.hou_b hn (Vw.her_hou c5)
      have en : ((vwS (s.A 514) (s.A 515)).n : Int) = (vwS (s.A 514) (s.A 515)).N.toInt := cI_of hn.1
      have ef : (cI first : Int) = first.toInt := cI_of hb5.1
      refine AW.oo (o2 := .inl (some (.int (lootL (vwS (s.A 514) (s.A 515)) dt ((vwS (s.A 514) (s.A 515)).n - cI first) (cI first) n 0)))) (by unfold Vw.loot1; rw [c5, e0, c23]; rfl) ?_
      refine AW.ls (ls' := [some (.ref 512), some (.int (first)), some (.int (dt)), some (.int (n)), some (.int (0)), some (.int (n)), some (.int (nI (cI first)))]) (by rw [nI_cI hb5.1]; rfl) ?_
      refine loopUp (P := fun k => ∀ (left sum : Int32), AW 4 mX0_lootFrom (hp s) 37 [some (.ref 512), some (.int (first)), some (.int (dt)), some (.int (n)), some (.int (sum)), some (.int (left)), some (.int (nI k))] [] (.inl (some (.int (lootL (vwS (s.A 514) (s.A 515)) dt ((vwS (s.A 514) (s.A 515)).n - k) k left sum)))) (hp s)) (vwS (s.A 514) (s.A 515)).n ?_ ?_ (cI first) (by omega) n 0
      · intro left sum
        refine AW.iload dX0_lootFrom_37 rfl rfl ?_
        refine AW.aload_n dX0_lootFrom_39 rfl rfl ?_
        refine AW.get ci0 0 (by decide) q229 dX0_lootFrom_40 gX rfl rfl ?_
        refine AW.getN ci1 0 (by decide) q191 dX0_lootFrom_43 gN rfl rfl ?_
        refine AW.iconst (v := 0) dX0_lootFrom_46 (by decide) rfl ?_
        refine AW.iald dX0_lootFrom_47 g514 (vp_in_iff.mpr (by decide)) (j := 0) (by decide) rfl ?_
        refine AW.icmp_ge (tgt := 123) dX0_lootFrom_48 (by decide) rfl (fun _ => ?_) (fun c_ => by first | exact absurd c_ (loop_end (by have := Vw.n7 hn; omega) (Vw.nN hn)) | exact absurd (loop_end (by have := Vw.n7 hn; omega) (Vw.nN hn)) c_ | exact absurd c_ (not_not_intro (loop_end (by have := Vw.n7 hn; omega) (Vw.nN hn))) | exact Bool.noConfusion (c_.symm.trans (loop_end (by have := Vw.n7 hn; omega) (Vw.nN hn))))
        refine AW.iload dX0_lootFrom_123 rfl rfl ?_
        exact AW.iretE dX0_lootFrom_125 rfl rfl (by rw [Nat.sub_self]; rfl) rfl
      · intro k hk ihk
        intro left sum
        have e1 := vwS_sh (Vw.hou_k hn hk)
        have e2 := vwS_go (Vw.hou_k hn hk)
        have e3 := vwS_pu (Vw.hou_k hn hk)
        have ek : (vwS (s.A 514) (s.A 515)).n - k = ((vwS (s.A 514) (s.A 515)).n - (k + 1)) + 1 := by omega
        refine AW.iload dX0_lootFrom_37 rfl rfl ?_
        refine AW.aload_n dX0_lootFrom_39 rfl rfl ?_
        refine AW.get ci0 0 (by decide) q229 dX0_lootFrom_40 gX rfl rfl ?_
        refine AW.getN ci1 0 (by decide) q191 dX0_lootFrom_43 gN rfl rfl ?_
        refine AW.iconst (v := 0) dX0_lootFrom_46 (by decide) rfl ?_
        refine AW.iald dX0_lootFrom_47 g514 (vp_in_iff.mpr (by decide)) (j := 0) (by decide) rfl ?_
        refine AW.icmp_ge (tgt := 123) dX0_lootFrom_48 (by decide) rfl (fun c_ => by first | exact absurd c_ (loop_in hk (by have := Vw.n7 hn; omega) (Vw.nN hn)) | exact absurd (loop_in hk (by have := Vw.n7 hn; omega) (Vw.nN hn)) c_ | exact Bool.noConfusion (c_.symm.trans (loop_in hk (by have := Vw.n7 hn; omega) (Vw.nN hn)))) (fun _ => ?_)
        refine AW.iload dX0_lootFrom_51 rfl rfl ?_
        refine AW.if_le (tgt := 123) dX0_lootFrom_53 (by decide) rfl (fun c1 => ?_) (fun c1 => ?_)
        · refine AW.iload dX0_lootFrom_123 rfl rfl ?_
          exact AW.iretE dX0_lootFrom_125 rfl rfl (by rw [show (vwS (s.A 514) (s.A 515)).n - k = ((vwS (s.A 514) (s.A 515)).n - (k + 1)) + 1 by omega]; unfold lootL; rw [if_neg (Int32.not_lt.mpr c1)]) rfl
        · refine AW.aload_n dX0_lootFrom_56 rfl rfl ?_
          refine AW.get ci0 0 (by decide) q229 dX0_lootFrom_57 gX rfl rfl ?_
          refine AW.getN ci1 1 (by decide) q193 dX0_lootFrom_60 gN rfl rfl ?_
          refine AW.iload dX0_lootFrom_63 rfl rfl ?_
          refine AW.callS (Y := mX0_isGone) (n := 2) (r_X0_isGone _) (by decide) (by decide) q864 q865 q138 q866 dX0_lootFrom_65 (by decide +kernel) rfl rfl (Nat.le_of_ble_eq_true rfl) rfl ?_
          refine AW.if_eqB (tgt := 74) dX0_lootFrom_68 (by decide) rfl (fun c2 => ?_) (fun c2 => ?_)
          · refine AW.aload_n dX0_lootFrom_74 rfl rfl ?_
            refine AW.get ci0 0 (by decide) q229 dX0_lootFrom_75 gX rfl rfl ?_
            refine AW.getN ci1 1 (by decide) q193 dX0_lootFrom_78 gN rfl rfl ?_
            refine AW.iconst (v := 3) dX0_lootFrom_81 (by decide) rfl ?_
            refine AW.iload dX0_lootFrom_82 rfl rfl ?_
            refine AW.iadd dX0_lootFrom_84 rfl ?_
            refine AW.iald dX0_lootFrom_85 g515 (in_row hn (Vw.hou_k hn hk) (by decide) (by decide)) rfl rfl ?_
            refine AW.iload_n dX0_lootFrom_86 rfl rfl ?_
            refine AW.callS (Y := mX0_has) (n := 2) (r_X0_has _ _) (by decide) (by decide) q867 q868 q138 q869 dX0_lootFrom_87 (by decide +kernel) rfl rfl (Nat.le_of_ble_eq_true rfl) rfl ?_
            refine AW.if_neB (tgt := 96) dX0_lootFrom_90 (by decide) rfl (fun c3 => ?_) (fun c3 => ?_)
            · refine AW.iload dX0_lootFrom_96 rfl rfl ?_
              refine AW.aload_n dX0_lootFrom_98 rfl rfl ?_
              refine AW.get ci0 0 (by decide) q229 dX0_lootFrom_99 gX rfl rfl ?_
              refine AW.getN ci1 1 (by decide) q193 dX0_lootFrom_102 gN rfl rfl ?_
              refine AW.bipush (v := 10) dX0_lootFrom_105 (by decide) rfl ?_
              refine AW.iload dX0_lootFrom_107 rfl rfl ?_
              refine AW.iadd dX0_lootFrom_109 rfl ?_
              refine AW.iald dX0_lootFrom_110 g515 (in_row hn (Vw.hou_k hn hk) (by decide) (by decide)) rfl rfl ?_
              refine AW.iadd dX0_lootFrom_111 rfl ?_
              refine AW.istore dX0_lootFrom_112 rfl (Nat.le_of_ble_eq_true rfl) rfl rfl ?_
              refine AW.iinc (v := (-1)) dX0_lootFrom_114 rfl (by decide) rfl rfl rfl ?_
              refine AW.iinc (v := 1) dX0_lootFrom_117 rfl (by decide) rfl rfl rfl ?_
              refine AW.goto (tgt := 37) dX0_lootFrom_120 (by decide) ?_
              refine AW.oo (o2 := .inl (some (.int (lootL (vwS (s.A 514) (s.A 515)) dt ((vwS (s.A 514) (s.A 515)).n - (k + 1)) (k + 1) (left + -1) (sum + (vwS (s.A 514) (s.A 515)).pu (nI k)))))) (congrArg (fun z => (Sum.inl (some (.int z)) : OR)) (by rw [ek]; rw [lootL, if_pos (Int32.not_le.mp c1), if_neg (by rw [e2, c2]; decide), if_pos (by rw [e1, c3])])) ?_
              exact AW.ls (by rw [nI_succ, e3]; rfl) (ihk _ _)
            · refine AW.iload dX0_lootFrom_93 rfl rfl ?_
              exact AW.iretE dX0_lootFrom_95 rfl rfl (by rw [show (vwS (s.A 514) (s.A 515)).n - k = ((vwS (s.A 514) (s.A 515)).n - (k + 1)) + 1 by omega]; unfold lootL; rw [if_pos (Int32.not_le.mp c1), if_neg (by rw [e2, c2]; decide), if_neg (by rw [e1, c3]; decide)]) rfl
          · refine AW.goto (tgt := 117) dX0_lootFrom_71 (by decide) ?_
            refine AW.iinc (v := 1) dX0_lootFrom_117 rfl (by decide) rfl rfl rfl ?_
            refine AW.goto (tgt := 37) dX0_lootFrom_120 (by decide) ?_
            refine AW.oo (o2 := .inl (some (.int (lootL (vwS (s.A 514) (s.A 515)) dt ((vwS (s.A 514) (s.A 515)).n - (k + 1)) (k + 1) (left) (sum))))) (congrArg (fun z => (Sum.inl (some (.int z)) : OR)) (by rw [ek]; rw [lootL, if_pos (Int32.not_le.mp c1), if_pos (by rw [e2, c2])])) ?_
            exact AW.ls (by rw [nI_succ]; rfl) (ihk _ _)
    · refine AW.iconst (v := (-1)) dX0_lootFrom_26 (by decide) rfl ?_
      exact AW.iretE dX0_lootFrom_27 rfl rfl (by unfold Vw.loot1; first | (rw [c5]; rfl) | (rw [c5, vwS_sh (Vw.her_hou c5), c23]; rfl)) rfl
theorem r_X0_firstLooted {s : Sg} (hn : (vwS (s.A 514) (s.A 515)).ok) (dt n : Int32) : Run 5 mX0_firstLooted [.ref 512, .int dt, .int n] (hp s) (.inl (some (.int ((vwS (s.A 514) (s.A 515)).firstL dt n (vwS (s.A 514) (s.A 515)).n)))) (hp s) := by
  refine Run.of rfl (Nat.le_of_ble_eq_true rfl) rfl ?_
  refine AW.iconst (v := (-1)) dX0_firstLooted_0 (by decide) rfl ?_
  refine AW.istore_n (i := 3) dX0_firstLooted_1 rfl rfl (Nat.le_of_ble_eq_true rfl) rfl rfl ?_
  refine AW.iconst (v := 0) dX0_firstLooted_2 (by decide) rfl ?_
  refine AW.istore dX0_firstLooted_3 rfl (Nat.le_of_ble_eq_true rfl) rfl rfl ?_
  refine loopUp (P := fun k => AW 5 mX0_firstLooted (hp s) 5 [some (.ref 512), some (.int (dt)), some (.int (n)), some (.int ((vwS (s.A 514) (s.A 515)).firstL dt n k)), some (.int (nI k))] [] (.inl (some (.int ((vwS (s.A 514) (s.A 515)).firstL dt n (vwS (s.A 514) (s.A 515)).n)))) (hp s)) (vwS (s.A 514) (s.A 515)).n ?_ ?_ 0 (by first | exact Nat.zero_le _ | omega)
  · refine AW.iload dX0_firstLooted_5 rfl rfl ?_
    refine AW.aload_n dX0_firstLooted_7 rfl rfl ?_
    refine AW.get ci0 0 (by decide) q229 dX0_firstLooted_8 gX rfl rfl ?_
    refine AW.getN ci1 0 (by decide) q191 dX0_firstLooted_11 gN rfl rfl ?_
    refine AW.iconst (v := 0) dX0_firstLooted_14 (by decide) rfl ?_
    refine AW.iald dX0_firstLooted_15 g514 (vp_in_iff.mpr (by decide)) (j := 0) (by decide) rfl ?_
    refine AW.icmp_ge (tgt := 55) dX0_firstLooted_16 (by decide) rfl (fun _ => ?_) (fun c_ => by first | exact absurd c_ (loop_end (by have := Vw.n7 hn; omega) (Vw.nN hn)) | exact absurd (loop_end (by have := Vw.n7 hn; omega) (Vw.nN hn)) c_ | exact absurd c_ (not_not_intro (loop_end (by have := Vw.n7 hn; omega) (Vw.nN hn))) | exact Bool.noConfusion (c_.symm.trans (loop_end (by have := Vw.n7 hn; omega) (Vw.nN hn))))
    refine AW.iload_n dX0_firstLooted_55 rfl rfl ?_
    exact AW.iretE dX0_firstLooted_56 rfl rfl rfl rfl
  · intro k hk ihk
    refine AW.iload dX0_firstLooted_5 rfl rfl ?_
    refine AW.aload_n dX0_firstLooted_7 rfl rfl ?_
    refine AW.get ci0 0 (by decide) q229 dX0_firstLooted_8 gX rfl rfl ?_
    refine AW.getN ci1 0 (by decide) q191 dX0_firstLooted_11 gN rfl rfl ?_
    refine AW.iconst (v := 0) dX0_firstLooted_14 (by decide) rfl ?_
    refine AW.iald dX0_firstLooted_15 g514 (vp_in_iff.mpr (by decide)) (j := 0) (by decide) rfl ?_
    refine AW.icmp_ge (tgt := 55) dX0_firstLooted_16 (by decide) rfl (fun c_ => by first | exact absurd c_ (loop_in hk (by have := Vw.n7 hn; omega) (Vw.nN hn)) | exact absurd (loop_in hk (by have := Vw.n7 hn; omega) (Vw.nN hn)) c_ | exact Bool.noConfusion (c_.symm.trans (loop_in hk (by have := Vw.n7 hn; omega) (Vw.nN hn)))) (fun _ => ?_)
    refine AW.aload_n dX0_firstLooted_19 rfl rfl ?_
    refine AW.iload dX0_firstLooted_20 rfl rfl ?_
    refine AW.iload_n dX0_firstLooted_22 rfl rfl ?_
    refine AW.iload_n dX0_firstLooted_23 rfl rfl ?_
    refine AW.callV (Y := mX0_lootFrom) (n := 3) (r_X0_lootFrom hn _ _ _) (by decide) (by decide) rfl gX q1226 q1228 qs51 q138 q1229 dX0_firstLooted_24 (by decide +kernel) rfl rfl (Nat.le_of_ble_eq_true rfl) rfl ?_
    refine AW.iload_n dX0_firstLooted_27 rfl rfl ?_
    refine AW.iconst (v := (-1)) dX0_firstLooted_28 (by decide) rfl ?_
    refine AW.icmp_ne (tgt := 36) dX0_firstLooted_29 (by decide) rfl (fun c1 => ?_) (fun c1 => ?_)
    · refine AW.aload_n dX0_firstLooted_36 rfl rfl ?_
      refine AW.iload_n dX0_firstLooted_37 rfl rfl ?_
      refine AW.iload_n dX0_firstLooted_38 rfl rfl ?_
      refine AW.iload_n dX0_firstLooted_39 rfl rfl ?_
      refine AW.callV (Y := mX0_lootFrom) (n := 3) (r_X0_lootFrom hn _ _ _) (by decide) (by decide) rfl gX q1226 q1228 qs51 q138 q1229 dX0_firstLooted_40 (by decide +kernel) rfl rfl (Nat.le_of_ble_eq_true rfl) rfl ?_
      refine AW.icmp_le (tgt := 49) dX0_firstLooted_43 (by decide) rfl (fun c2 => ?_) (fun c2 => ?_)
      · refine AW.iinc (v := 1) dX0_firstLooted_49 rfl (by decide) rfl rfl rfl ?_
        refine AW.goto (tgt := 5) dX0_firstLooted_52 (by decide) ?_
        exact AW.ls (by first | (rw [nI_succ, Vw.firstL, if_neg c1, if_neg (Int32.not_lt.mpr c2)]; rfl) | (rw [nI_succ, Vw.firstL, if_neg c1, if_pos (Int32.not_le.mp c2)]; rfl) | (rw [nI_succ, Vw.firstL, if_pos c1, if_neg (Int32.not_lt.mpr c2)]; rfl) | (rw [nI_succ, Vw.firstL, if_pos c1, if_pos (Int32.not_le.mp c2)]; rfl)) ihk
      · refine AW.iload dX0_firstLooted_46 rfl rfl ?_
        refine AW.istore_n (i := 3) dX0_firstLooted_48 rfl rfl (Nat.le_of_ble_eq_true rfl) rfl rfl ?_
        refine AW.iinc (v := 1) dX0_firstLooted_49 rfl (by decide) rfl rfl rfl ?_
        refine AW.goto (tgt := 5) dX0_firstLooted_52 (by decide) ?_
        exact AW.ls (by first | (rw [nI_succ, Vw.firstL, if_neg c1, if_neg (Int32.not_lt.mpr c2)]; rfl) | (rw [nI_succ, Vw.firstL, if_neg c1, if_pos (Int32.not_le.mp c2)]; rfl) | (rw [nI_succ, Vw.firstL, if_pos c1, if_neg (Int32.not_lt.mpr c2)]; rfl) | (rw [nI_succ, Vw.firstL, if_pos c1, if_pos (Int32.not_le.mp c2)]; rfl)) ihk
    · refine AW.iconst (v := (-1)) dX0_firstLooted_32 (by decide) rfl ?_
      refine AW.goto (tgt := 43) dX0_firstLooted_33 (by decide) ?_
      refine AW.icmp_le (tgt := 49) dX0_firstLooted_43 (by decide) rfl (fun c2 => ?_) (fun c2 => ?_)
      · refine AW.iinc (v := 1) dX0_firstLooted_49 rfl (by decide) rfl rfl rfl ?_
        refine AW.goto (tgt := 5) dX0_firstLooted_52 (by decide) ?_
        exact AW.ls (by first | (rw [nI_succ, Vw.firstL, if_neg c1, if_neg (Int32.not_lt.mpr c2)]; rfl) | (rw [nI_succ, Vw.firstL, if_neg c1, if_pos (Int32.not_le.mp c2)]; rfl) | (rw [nI_succ, Vw.firstL, if_pos c1, if_neg (Int32.not_lt.mpr c2)]; rfl) | (rw [nI_succ, Vw.firstL, if_pos c1, if_pos (Int32.not_le.mp c2)]; rfl)) ihk
      · refine AW.iload dX0_firstLooted_46 rfl rfl ?_
        refine AW.istore_n (i := 3) dX0_firstLooted_48 rfl rfl (Nat.le_of_ble_eq_true rfl) rfl rfl ?_
        refine AW.iinc (v := 1) dX0_firstLooted_49 rfl (by decide) rfl rfl rfl ?_
        refine AW.goto (tgt := 5) dX0_firstLooted_52 (by decide) ?_
        exact AW.ls (by first | (rw [nI_succ, Vw.firstL, if_neg c1, if_neg (Int32.not_lt.mpr c2)]; rfl) | (rw [nI_succ, Vw.firstL, if_neg c1, if_pos (Int32.not_le.mp c2)]; rfl) | (rw [nI_succ, Vw.firstL, if_pos c1, if_neg (Int32.not_lt.mpr c2)]; rfl) | (rw [nI_succ, Vw.firstL, if_pos c1, if_pos (Int32.not_le.mp c2)]; rfl)) ihk
theorem r_X0_loot {s : Sg} (hn : (vwS (s.A 514) (s.A 515)).ok) (dt n : Int32) : Run 6 mX0_loot [.ref 512, .int dt, .int n] (hp s) (.inl (some (.int ((vwS (s.A 514) (s.A 515)).lootI dt n)))) (hp s) := by
  refine Run.of rfl (Nat.le_of_ble_eq_true rfl) rfl ?_
  refine AW.aload_n dX0_loot_0 rfl rfl ?_
  refine AW.iload_n dX0_loot_1 rfl rfl ?_
  refine AW.iload_n dX0_loot_2 rfl rfl ?_
  refine AW.callV (Y := mX0_firstLooted) (n := 2) (r_X0_firstLooted hn _ _) (by decide) (by decide) rfl gX q1222 q1224 qs50 q138 q1225 dX0_loot_3 (by decide +kernel) rfl rfl (Nat.le_of_ble_eq_true rfl) rfl ?_
  refine AW.istore_n (i := 3) dX0_loot_6 rfl rfl (Nat.le_of_ble_eq_true rfl) rfl rfl ?_
  refine AW.iload_n dX0_loot_7 rfl rfl ?_
  refine AW.iconst (v := (-1)) dX0_loot_8 (by decide) rfl ?_
  refine AW.icmp_ne (tgt := 16) dX0_loot_9 (by decide) rfl (fun c => ?_) (fun c => ?_)
  · refine AW.aload_n dX0_loot_16 rfl rfl ?_
    refine AW.iload_n dX0_loot_17 rfl rfl ?_
    refine AW.iload_n dX0_loot_18 rfl rfl ?_
    refine AW.iload_n dX0_loot_19 rfl rfl ?_
    refine AW.callV (Y := mX0_lootFrom) (n := 3) (r_X0_lootFrom hn _ _ _) (by decide) (by decide) rfl gX q1226 q1228 qs51 q138 q1229 dX0_loot_20 (by decide +kernel) rfl rfl (Nat.le_of_ble_eq_true rfl) rfl ?_
    exact AW.iretE dX0_loot_23 rfl rfl (by unfold Vw.lootI; first | (rw [if_neg c]; done) | (rw [if_pos c]; done)) rfl
  · refine AW.iconst (v := 0) dX0_loot_12 (by decide) rfl ?_
    refine AW.goto (tgt := 23) dX0_loot_13 (by decide) ?_
    exact AW.iretE dX0_loot_23 rfl rfl (by unfold Vw.lootI; first | (rw [if_neg c]; done) | (rw [if_pos c]; done)) rfl
theorem r_X0_thieves {s : Sg} (hn : (vwS (s.A 514) (s.A 515)).ok) (dt n z : Int32) : Run 7 mX0_thieves [.ref 512, .int dt, .int n, .int z] (hp s) (.inl (some (.int ((vwS (s.A 514) (s.A 515)).thievesS dt n z)))) (hp s) := by
  refine Run.of rfl (Nat.le_of_ble_eq_true rfl) rfl ?_
  refine AW.iload_n dX0_thieves_0 rfl rfl ?_
  refine AW.callS (Y := mX0_isDate) (n := 1) (r_X0_isDate _) (by decide) (by decide) q1064 q1065 q138 q1066 dX0_thieves_1 (by decide +kernel) rfl rfl (Nat.le_of_ble_eq_true rfl) rfl ?_
  refine AW.if_eqB (tgt := 17) dX0_thieves_4 (by decide) rfl (fun c4 => ?_) (fun c4 => ?_)
  · refine AW.bipush (v := (-2)) dX0_thieves_17 (by decide) rfl ?_
    exact AW.iretE dX0_thieves_19 rfl rfl (by unfold Vw.thievesS; first | (rw [c4]; rfl) | (rw [c4, c14]; first | rfl | (rw [if_pos c21]; rfl) | (rw [if_neg c21]; rfl))) rfl
  · refine AW.iload_n dX0_thieves_7 rfl rfl ?_
    refine AW.iconst (v := 1) dX0_thieves_8 (by decide) rfl ?_
    refine AW.bipush (v := 7) dX0_thieves_9 (by decide) rfl ?_
    refine AW.callS (Y := mX0_in) (n := 3) (r_X0_in _ _ _) (by decide) (by decide) q271 q272 q138 q273 dX0_thieves_11 (by decide +kernel) rfl rfl (Nat.le_of_ble_eq_true rfl) rfl ?_
    refine AW.if_neB (tgt := 20) dX0_thieves_14 (by decide) rfl (fun c14 => ?_) (fun c14 => ?_)
    · refine AW.iload_n dX0_thieves_20 rfl rfl ?_
      refine AW.if_eq (tgt := 33) dX0_thieves_21 (by decide) rfl (fun c21 => ?_) (fun c21 => ?_)
      · refine AW.aload_n dX0_thieves_33 rfl rfl ?_
        refine AW.iload_n dX0_thieves_34 rfl rfl ?_
        refine AW.iload_n dX0_thieves_35 rfl rfl ?_
        refine AW.callV (Y := mX0_loot) (n := 2) (r_X0_loot hn _ _) (by decide) (by decide) rfl gX q1230 q1232 qs52 q138 q1233 dX0_thieves_36 (by decide +kernel) rfl rfl (Nat.le_of_ble_eq_true rfl) rfl ?_
        exact AW.iretE dX0_thieves_39 rfl rfl (by unfold Vw.thievesS; first | (rw [c4]; rfl) | (rw [c4, c14]; first | rfl | (rw [if_pos c21]; rfl) | (rw [if_neg c21]; rfl))) rfl
      · refine AW.aload_n dX0_thieves_24 rfl rfl ?_
        refine AW.iload_n dX0_thieves_25 rfl rfl ?_
        refine AW.iload_n dX0_thieves_26 rfl rfl ?_
        refine AW.callV (Y := mX0_firstLooted) (n := 2) (r_X0_firstLooted hn _ _) (by decide) (by decide) rfl gX q1222 q1224 qs50 q138 q1225 dX0_thieves_27 (by decide +kernel) rfl rfl (Nat.le_of_ble_eq_true rfl) rfl ?_
        refine AW.goto (tgt := 39) dX0_thieves_30 (by decide) ?_
        exact AW.iretE dX0_thieves_39 rfl rfl (by unfold Vw.thievesS; first | (rw [c4]; rfl) | (rw [c4, c14]; first | rfl | (rw [if_pos c21]; rfl) | (rw [if_neg c21]; rfl))) rfl
    · refine AW.bipush (v := (-2)) dX0_thieves_17 (by decide) rfl ?_
      exact AW.iretE dX0_thieves_19 rfl rfl (by unfold Vw.thievesS; first | (rw [c4]; rfl) | (rw [c4, c14]; first | rfl | (rw [if_pos c21]; rfl) | (rw [if_neg c21]; rfl))) rfl
theorem r_X0_night {s : Sg} (hn : (vwS (s.A 514) (s.A 515)).ok) (n : Int32) : Run 7 mX0_night [.ref 512, .int n] (hp s) (.inl (some (.int ((vwS (s.A 514) (s.A 515)).nightS n)))) (hp s) := by
  refine Run.of rfl (Nat.le_of_ble_eq_true rfl) rfl ?_
  refine AW.iload_n dX0_night_0 rfl rfl ?_
  refine AW.iconst (v := 1) dX0_night_1 (by decide) rfl ?_
  refine AW.bipush (v := 7) dX0_night_2 (by decide) rfl ?_
  refine AW.callS (Y := mX0_in) (n := 3) (r_X0_in _ _ _) (by decide) (by decide) q271 q272 q138 q273 dX0_night_4 (by decide +kernel) rfl rfl (Nat.le_of_ble_eq_true rfl) rfl ?_
  refine AW.if_neB (tgt := 12) dX0_night_7 (by decide) rfl (fun c7 => ?_) (fun c7 => ?_)
  · refine AW.iconst (v := 0) dX0_night_12 (by decide) rfl ?_
    refine AW.istore_n (i := 2) dX0_night_13 rfl rfl (Nat.le_of_ble_eq_true rfl) rfl rfl ?_
    refine AW.iconst (v := 1) dX0_night_14 (by decide) rfl ?_
    refine AW.istore_n (i := 3) dX0_night_15 rfl rfl (Nat.le_of_ble_eq_true rfl) rfl rfl ?_
    refine loopUp (P := fun k => AW 7 mX0_night (hp s) 16 [some (.ref 512), some (.int (n)), some (.int (bestUp ((vwS (s.A 514) (s.A 515)).lootD n) k)), some (.int (nI (k + 1)))] [] (.inl (some (.int ((vwS (s.A 514) (s.A 515)).nightS n)))) (hp s)) 19 ?_ ?_ 0 (by first | exact Nat.zero_le _ | omega)
    · refine AW.iload_n dX0_night_16 rfl rfl ?_
      refine AW.bipush (v := 20) dX0_night_17 (by decide) rfl ?_
      refine AW.icmp_ge (tgt := 45) dX0_night_19 (by decide) rfl (fun _ => ?_) (fun c_ => by first | exact absurd c_ (by decide) | exact absurd (by decide) c_ | exact absurd c_ (not_not_intro (by decide)) | exact Bool.noConfusion (c_.symm.trans (by decide)))
      refine AW.iload_n dX0_night_45 rfl rfl ?_
      exact AW.iretE dX0_night_46 rfl rfl (by unfold Vw.nightS; rw [c7]; rfl) rfl
    · intro k hk ihk
      refine AW.iload_n dX0_night_16 rfl rfl ?_
      refine AW.bipush (v := 20) dX0_night_17 (by decide) rfl ?_
      refine AW.icmp_ge (tgt := 45) dX0_night_19 (by decide) rfl (fun c_ => by first | exact absurd c_ (nI_nle20 hk) | exact absurd (nI_nle20 hk) c_ | exact Bool.noConfusion (c_.symm.trans (nI_nle20 hk))) (fun _ => ?_)
      refine AW.aload_n dX0_night_22 rfl rfl ?_
      refine AW.iload_n dX0_night_23 rfl rfl ?_
      refine AW.iload_n dX0_night_24 rfl rfl ?_
      refine AW.callV (Y := mX0_loot) (n := 2) (r_X0_loot hn _ _) (by decide) (by decide) rfl gX q1230 q1232 qs52 q138 q1233 dX0_night_25 (by decide +kernel) rfl rfl (Nat.le_of_ble_eq_true rfl) rfl ?_
      refine AW.aload_n dX0_night_28 rfl rfl ?_
      refine AW.iload_n dX0_night_29 rfl rfl ?_
      refine AW.iload_n dX0_night_30 rfl rfl ?_
      refine AW.callV (Y := mX0_loot) (n := 2) (r_X0_loot hn _ _) (by decide) (by decide) rfl gX q1230 q1232 qs52 q138 q1233 dX0_night_31 (by decide +kernel) rfl rfl (Nat.le_of_ble_eq_true rfl) rfl ?_
      refine AW.icmp_le (tgt := 39) dX0_night_34 (by decide) rfl (fun c => ?_) (fun c => ?_)
      · refine AW.iinc (v := 1) dX0_night_39 rfl (by decide) rfl rfl rfl ?_
        refine AW.goto (tgt := 16) dX0_night_42 (by decide) ?_
        exact AW.ls (by (first | rw [bst_f (f := (vwS (s.A 514) (s.A 515)).lootD n) c, nI_succ (k + 1)] | rw [bst_t (f := (vwS (s.A 514) (s.A 515)).lootD n) c, nI_succ (k + 1)]); rfl) ihk
      · refine AW.iload_n dX0_night_37 rfl rfl ?_
        refine AW.istore_n (i := 2) dX0_night_38 rfl rfl (Nat.le_of_ble_eq_true rfl) rfl rfl ?_
        refine AW.iinc (v := 1) dX0_night_39 rfl (by decide) rfl rfl rfl ?_
        refine AW.goto (tgt := 16) dX0_night_42 (by decide) ?_
        exact AW.ls (by (first | rw [bst_f (f := (vwS (s.A 514) (s.A 515)).lootD n) c, nI_succ (k + 1)] | rw [bst_t (f := (vwS (s.A 514) (s.A 515)).lootD n) c, nI_succ (k + 1)]); rfl) ihk
  · refine AW.iconst (v := (-1)) dX0_night_10 (by decide) rfl ?_
    exact AW.iretE dX0_night_11 rfl rfl (by unfold Vw.nightS; rw [c7]; rfl) rfl
theorem r_X0_alone {s : Sg} (hn : (vwS (s.A 514) (s.A 515)).ok) : Run 4 mX0_alone [.ref 512] (hp s) (.inl (some (.int ((vwS (s.A 514) (s.A 515)).aloneS)))) (hp s) := by
  refine Run.of rfl (Nat.le_of_ble_eq_true rfl) rfl ?_
  refine AW.iconst (v := 0) dX0_alone_0 (by decide) rfl ?_
  refine AW.istore_n (i := 1) dX0_alone_1 rfl rfl (Nat.le_of_ble_eq_true rfl) rfl rfl ?_
  refine AW.iconst (v := 0) dX0_alone_2 (by decide) rfl ?_
  refine AW.istore_n (i := 2) dX0_alone_3 rfl rfl (Nat.le_of_ble_eq_true rfl) rfl rfl ?_
  refine loopUp (P := fun k => AW 4 mX0_alone (hp s) 4 [some (.ref 512), some (.int (orUp (fun k => if (vwS (s.A 514) (s.A 515)).her (nI k) = true ∧ (vwS (s.A 514) (s.A 515)).aloneO k (vwS (s.A 514) (s.A 515)).n &&& (vwS (s.A 514) (s.A 515)).sh (nI k) = 0 then bit (nI k) else 0) k)), some (.int (nI k)), none, none] [] (.inl (some (.int ((vwS (s.A 514) (s.A 515)).aloneS)))) (hp s)) (vwS (s.A 514) (s.A 515)).n ?_ ?_ 0 (by first | exact Nat.zero_le _ | omega)
  · refine AW.iload_n dX0_alone_4 rfl rfl ?_
    refine AW.aload_n dX0_alone_5 rfl rfl ?_
    refine AW.get ci0 0 (by decide) q229 dX0_alone_6 gX rfl rfl ?_
    refine AW.getN ci1 0 (by decide) q191 dX0_alone_9 gN rfl rfl ?_
    refine AW.iconst (v := 0) dX0_alone_12 (by decide) rfl ?_
    refine AW.iald dX0_alone_13 g514 (vp_in_iff.mpr (by decide)) (j := 0) (by decide) rfl ?_
    refine AW.icmp_ge (tgt := 116) dX0_alone_14 (by decide) rfl (fun _ => ?_) (fun c_ => by first | exact absurd c_ (loop_end (by have := Vw.n7 hn; omega) (Vw.nN hn)) | exact absurd (loop_end (by have := Vw.n7 hn; omega) (Vw.nN hn)) c_ | exact absurd c_ (not_not_intro (loop_end (by have := Vw.n7 hn; omega) (Vw.nN hn))) | exact Bool.noConfusion (c_.symm.trans (loop_end (by have := Vw.n7 hn; omega) (Vw.nN hn))))
    refine AW.iload_n dX0_alone_116 rfl rfl ?_
    exact AW.iretE dX0_alone_117 rfl rfl rfl rfl
  · intro k hk ihk
    have e0 := vwS_sh (Vw.hou_k hn hk)
    refine AW.iload_n dX0_alone_4 rfl rfl ?_
    refine AW.aload_n dX0_alone_5 rfl rfl ?_
    refine AW.get ci0 0 (by decide) q229 dX0_alone_6 gX rfl rfl ?_
    refine AW.getN ci1 0 (by decide) q191 dX0_alone_9 gN rfl rfl ?_
    refine AW.iconst (v := 0) dX0_alone_12 (by decide) rfl ?_
    refine AW.iald dX0_alone_13 g514 (vp_in_iff.mpr (by decide)) (j := 0) (by decide) rfl ?_
    refine AW.icmp_ge (tgt := 116) dX0_alone_14 (by decide) rfl (fun c_ => by first | exact absurd c_ (loop_in hk (by have := Vw.n7 hn; omega) (Vw.nN hn)) | exact absurd (loop_in hk (by have := Vw.n7 hn; omega) (Vw.nN hn)) c_ | exact Bool.noConfusion (c_.symm.trans (loop_in hk (by have := Vw.n7 hn; omega) (Vw.nN hn)))) (fun _ => ?_)
    refine AW.iconst (v := 0) dX0_alone_17 (by decide) rfl ?_
    refine AW.istore_n (i := 3) dX0_alone_18 rfl rfl (Nat.le_of_ble_eq_true rfl) rfl rfl ?_
    refine AW.iconst (v := 0) dX0_alone_19 (by decide) rfl ?_
    refine AW.istore dX0_alone_20 rfl (Nat.le_of_ble_eq_true rfl) rfl rfl ?_
    refine loopUp (P := fun q => AW 4 mX0_alone (hp s) 22 [some (.ref 512), some (.int (orUp (fun k => if (vwS (s.A 514) (s.A 515)).her (nI k) = true ∧ (vwS (s.A 514) (s.A 515)).aloneO k (vwS (s.A 514) (s.A 515)).n &&& (vwS (s.A 514) (s.A 515)).sh (nI k) = 0 then bit (nI k) else 0) k)), some (.int (nI k)), some (.int ((vwS (s.A 514) (s.A 515)).aloneO k q)), some (.int (nI q))] [] (.inl (some (.int ((vwS (s.A 514) (s.A 515)).aloneS)))) (hp s)) (vwS (s.A 514) (s.A 515)).n ?_ ?_ 0 (by first | exact Nat.zero_le _ | omega)
    · refine AW.iload dX0_alone_22 rfl rfl ?_
      refine AW.aload_n dX0_alone_24 rfl rfl ?_
      refine AW.get ci0 0 (by decide) q229 dX0_alone_25 gX rfl rfl ?_
      refine AW.getN ci1 0 (by decide) q191 dX0_alone_28 gN rfl rfl ?_
      refine AW.iconst (v := 0) dX0_alone_31 (by decide) rfl ?_
      refine AW.iald dX0_alone_32 g514 (vp_in_iff.mpr (by decide)) (j := 0) (by decide) rfl ?_
      refine AW.icmp_ge (tgt := 76) dX0_alone_33 (by decide) rfl (fun _ => ?_) (fun c_ => by first | exact absurd c_ (loop_end (by have := Vw.n7 hn; omega) (Vw.nN hn)) | exact absurd (loop_end (by have := Vw.n7 hn; omega) (Vw.nN hn)) c_ | exact absurd c_ (not_not_intro (loop_end (by have := Vw.n7 hn; omega) (Vw.nN hn))) | exact Bool.noConfusion (c_.symm.trans (loop_end (by have := Vw.n7 hn; omega) (Vw.nN hn))))
      refine AW.iload_n dX0_alone_76 rfl rfl ?_
      refine AW.aload_n dX0_alone_77 rfl rfl ?_
      refine AW.iload_n dX0_alone_78 rfl rfl ?_
      refine AW.callV (Y := mX0_isThere) (n := 1) (r_X0_isThere _) (by decide) (by decide) rfl gX q980 q982 qs33 q138 q983 dX0_alone_79 (by decide +kernel) rfl rfl (Nat.le_of_ble_eq_true rfl) rfl ?_
      refine AW.if_eqB (tgt := 107) dX0_alone_82 (by decide) rfl (fun c1 => ?_) (fun c1 => ?_)
      · refine AW.iconst (v := 0) dX0_alone_107 (by decide) rfl ?_
        refine AW.ior dX0_alone_108 rfl ?_
        refine AW.istore_n (i := 1) dX0_alone_109 rfl rfl (Nat.le_of_ble_eq_true rfl) rfl rfl ?_
        refine AW.iinc (v := 1) dX0_alone_110 rfl (by decide) rfl rfl rfl ?_
        refine AW.goto (tgt := 4) dX0_alone_113 (by decide) ?_
        exact AW.fg 3 rfl (AW.fg 4 rfl (AW.ls (by rw [nI_succ, orUp_s]; first | (rw [if_pos ⟨c1, by rw [e0]; exact c2⟩]; rfl) | (rw [if_neg (fun q => c2 (by rw [← e0]; exact q.2))]; rfl) | (rw [if_neg (fun q => by rw [c1] at q; exact Bool.noConfusion q.1)]; rfl)) ihk))
      · refine AW.iload_n dX0_alone_85 rfl rfl ?_
        refine AW.aload_n dX0_alone_86 rfl rfl ?_
        refine AW.get ci0 0 (by decide) q229 dX0_alone_87 gX rfl rfl ?_
        refine AW.getN ci1 1 (by decide) q193 dX0_alone_90 gN rfl rfl ?_
        refine AW.iconst (v := 3) dX0_alone_93 (by decide) rfl ?_
        refine AW.iload_n dX0_alone_94 rfl rfl ?_
        refine AW.iadd dX0_alone_95 rfl ?_
        refine AW.iald dX0_alone_96 g515 (in_row hn (Vw.hou_k hn hk) (by decide) (by decide)) rfl rfl ?_
        refine AW.iand dX0_alone_97 rfl ?_
        refine AW.if_ne (tgt := 107) dX0_alone_98 (by decide) rfl (fun c2 => ?_) (fun c2 => ?_)
        · refine AW.iconst (v := 0) dX0_alone_107 (by decide) rfl ?_
          refine AW.ior dX0_alone_108 rfl ?_
          refine AW.istore_n (i := 1) dX0_alone_109 rfl rfl (Nat.le_of_ble_eq_true rfl) rfl rfl ?_
          refine AW.iinc (v := 1) dX0_alone_110 rfl (by decide) rfl rfl rfl ?_
          refine AW.goto (tgt := 4) dX0_alone_113 (by decide) ?_
          exact AW.fg 3 rfl (AW.fg 4 rfl (AW.ls (by rw [nI_succ, orUp_s]; first | (rw [if_pos ⟨c1, by rw [e0]; exact c2⟩]; rfl) | (rw [if_neg (fun q => c2 (by rw [← e0]; exact q.2))]; rfl) | (rw [if_neg (fun q => by rw [c1] at q; exact Bool.noConfusion q.1)]; rfl)) ihk))
        · refine AW.iconst (v := 1) dX0_alone_101 (by decide) rfl ?_
          refine AW.iload_n dX0_alone_102 rfl rfl ?_
          refine AW.ishl dX0_alone_103 rfl ?_
          refine AW.goto (tgt := 108) dX0_alone_104 (by decide) ?_
          refine AW.ior dX0_alone_108 rfl ?_
          refine AW.istore_n (i := 1) dX0_alone_109 rfl rfl (Nat.le_of_ble_eq_true rfl) rfl rfl ?_
          refine AW.iinc (v := 1) dX0_alone_110 rfl (by decide) rfl rfl rfl ?_
          refine AW.goto (tgt := 4) dX0_alone_113 (by decide) ?_
          exact AW.fg 3 rfl (AW.fg 4 rfl (AW.ls (by rw [nI_succ, orUp_s]; first | (rw [if_pos ⟨c1, by rw [e0]; exact c2⟩]; rfl) | (rw [if_neg (fun q => c2 (by rw [← e0]; exact q.2))]; rfl) | (rw [if_neg (fun q => by rw [c1] at q; exact Bool.noConfusion q.1)]; rfl)) ihk))
    · intro q hq ihq
      have e1 := vwS_sh (Vw.hou_k hn hq)
      refine AW.iload dX0_alone_22 rfl rfl ?_
      refine AW.aload_n dX0_alone_24 rfl rfl ?_
      refine AW.get ci0 0 (by decide) q229 dX0_alone_25 gX rfl rfl ?_
      refine AW.getN ci1 0 (by decide) q191 dX0_alone_28 gN rfl rfl ?_
      refine AW.iconst (v := 0) dX0_alone_31 (by decide) rfl ?_
      refine AW.iald dX0_alone_32 g514 (vp_in_iff.mpr (by decide)) (j := 0) (by decide) rfl ?_
      refine AW.icmp_ge (tgt := 76) dX0_alone_33 (by decide) rfl (fun c_ => by first | exact absurd c_ (loop_in hq (by have := Vw.n7 hn; omega) (Vw.nN hn)) | exact absurd (loop_in hq (by have := Vw.n7 hn; omega) (Vw.nN hn)) c_ | exact Bool.noConfusion (c_.symm.trans (loop_in hq (by have := Vw.n7 hn; omega) (Vw.nN hn)))) (fun _ => ?_)
      refine AW.iload_n dX0_alone_36 rfl rfl ?_
      refine AW.iload dX0_alone_37 rfl rfl ?_
      refine AW.iload_n dX0_alone_39 rfl rfl ?_
      refine AW.icmp_eq (tgt := 67) dX0_alone_40 (by decide) rfl (fun c1 => ?_) (fun c1 => ?_)
      · refine AW.iconst (v := 0) dX0_alone_67 (by decide) rfl ?_
        refine AW.ior dX0_alone_68 rfl ?_
        refine AW.istore_n (i := 3) dX0_alone_69 rfl rfl (Nat.le_of_ble_eq_true rfl) rfl rfl ?_
        refine AW.iinc (v := 1) dX0_alone_70 rfl (by decide) rfl rfl rfl ?_
        refine AW.goto (tgt := 22) dX0_alone_73 (by decide) ?_
        exact AW.ls (by unfold Vw.aloneO; rw [nI_succ, orUp_s]; first | (rw [if_pos ⟨c1, c2⟩, e1]; rfl) | (rw [if_neg (fun z => absurd z.2 (by rw [c2]; decide))]; rfl) | (rw [if_neg (fun z => z.1 c1)]; rfl)) ihq
      · refine AW.aload_n dX0_alone_43 rfl rfl ?_
        refine AW.iload dX0_alone_44 rfl rfl ?_
        refine AW.callV (Y := mX0_isThere) (n := 1) (r_X0_isThere _) (by decide) (by decide) rfl gX q980 q982 qs33 q138 q983 dX0_alone_46 (by decide +kernel) rfl rfl (Nat.le_of_ble_eq_true rfl) rfl ?_
        refine AW.if_eqB (tgt := 67) dX0_alone_49 (by decide) rfl (fun c2 => ?_) (fun c2 => ?_)
        · refine AW.iconst (v := 0) dX0_alone_67 (by decide) rfl ?_
          refine AW.ior dX0_alone_68 rfl ?_
          refine AW.istore_n (i := 3) dX0_alone_69 rfl rfl (Nat.le_of_ble_eq_true rfl) rfl rfl ?_
          refine AW.iinc (v := 1) dX0_alone_70 rfl (by decide) rfl rfl rfl ?_
          refine AW.goto (tgt := 22) dX0_alone_73 (by decide) ?_
          exact AW.ls (by unfold Vw.aloneO; rw [nI_succ, orUp_s]; first | (rw [if_pos ⟨c1, c2⟩, e1]; rfl) | (rw [if_neg (fun z => absurd z.2 (by rw [c2]; decide))]; rfl) | (rw [if_neg (fun z => z.1 c1)]; rfl)) ihq
        · refine AW.aload_n dX0_alone_52 rfl rfl ?_
          refine AW.get ci0 0 (by decide) q229 dX0_alone_53 gX rfl rfl ?_
          refine AW.getN ci1 1 (by decide) q193 dX0_alone_56 gN rfl rfl ?_
          refine AW.iconst (v := 3) dX0_alone_59 (by decide) rfl ?_
          refine AW.iload dX0_alone_60 rfl rfl ?_
          refine AW.iadd dX0_alone_62 rfl ?_
          refine AW.iald dX0_alone_63 g515 (in_row hn (Vw.hou_k hn hq) (by decide) (by decide)) rfl rfl ?_
          refine AW.goto (tgt := 68) dX0_alone_64 (by decide) ?_
          refine AW.ior dX0_alone_68 rfl ?_
          refine AW.istore_n (i := 3) dX0_alone_69 rfl rfl (Nat.le_of_ble_eq_true rfl) rfl rfl ?_
          refine AW.iinc (v := 1) dX0_alone_70 rfl (by decide) rfl rfl rfl ?_
          refine AW.goto (tgt := 22) dX0_alone_73 (by decide) ?_
          exact AW.ls (by unfold Vw.aloneO; rw [nI_succ, orUp_s]; first | (rw [if_pos ⟨c1, c2⟩, e1]; rfl) | (rw [if_neg (fun z => absurd z.2 (by rw [c2]; decide))]; rfl) | (rw [if_neg (fun z => z.1 c1)]; rfl)) ihq
