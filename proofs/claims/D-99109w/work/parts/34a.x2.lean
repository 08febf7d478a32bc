/-! SYSTEM 2: counts, Math, copies (printed by tools/x2.py) -/
set_option maxRecDepth 100000
def shrU (x y : Int32) : Int32 := (x.toUInt32 >>> (y.toUInt32 &&& Int32.toUInt32 31)).toInt32
def bcA (i : Int32) : Int32 := i - (shrU i 1 &&& 1431655765)
def bcB (i : Int32) : Int32 := (i &&& 858993459) + (shrU i 2 &&& 858993459)
def bcC (i : Int32) : Int32 := i + shrU i 4 &&& 252645135
def bcI (i : Int32) : Int32 := (let c := bcC (bcB (bcA i)); let e := c + shrU c 8; e + shrU e 16) &&& 63
theorem r_J12_bitCount {h : AH} (x : Int32) : Run 1 mJ12_bitCount [.int x] h (.inl (some (.int (bcI x)))) h := by
  refine Run.of (by decide +kernel) (Nat.le_of_ble_eq_true rfl) rfl ?_
  refine AW.iload_n dJ12_bitCount_0 rfl rfl ?_
  refine AW.iload_n dJ12_bitCount_1 rfl rfl ?_
  refine AW.iconst (v := 1) dJ12_bitCount_2 (by decide) rfl ?_
  refine AW.iushr dJ12_bitCount_3 rfl ?_
  refine AW.ldcw dJ12_bitCount_4 q884 rfl ?_
  refine AW.iand dJ12_bitCount_7 rfl ?_
  refine AW.isub dJ12_bitCount_8 rfl ?_
  refine AW.istore_n (i := 0) dJ12_bitCount_9 rfl rfl (Nat.le_of_ble_eq_true rfl) rfl rfl ?_
  refine AW.iload_n dJ12_bitCount_10 rfl rfl ?_
  refine AW.ldcw dJ12_bitCount_11 q885 rfl ?_
  refine AW.iand dJ12_bitCount_14 rfl ?_
  refine AW.iload_n dJ12_bitCount_15 rfl rfl ?_
  refine AW.iconst (v := 2) dJ12_bitCount_16 (by decide) rfl ?_
  refine AW.iushr dJ12_bitCount_17 rfl ?_
  refine AW.ldcw dJ12_bitCount_18 q885 rfl ?_
  refine AW.iand dJ12_bitCount_21 rfl ?_
  refine AW.iadd dJ12_bitCount_22 rfl ?_
  refine AW.istore_n (i := 0) dJ12_bitCount_23 rfl rfl (Nat.le_of_ble_eq_true rfl) rfl rfl ?_
  refine AW.iload_n dJ12_bitCount_24 rfl rfl ?_
  refine AW.iload_n dJ12_bitCount_25 rfl rfl ?_
  refine AW.iconst (v := 4) dJ12_bitCount_26 (by decide) rfl ?_
  refine AW.iushr dJ12_bitCount_27 rfl ?_
  refine AW.iadd dJ12_bitCount_28 rfl ?_
  refine AW.ldcw dJ12_bitCount_29 q886 rfl ?_
  refine AW.iand dJ12_bitCount_32 rfl ?_
  refine AW.istore_n (i := 0) dJ12_bitCount_33 rfl rfl (Nat.le_of_ble_eq_true rfl) rfl rfl ?_
  refine AW.iload_n dJ12_bitCount_34 rfl rfl ?_
  refine AW.iload_n dJ12_bitCount_35 rfl rfl ?_
  refine AW.bipush (v := 8) dJ12_bitCount_36 (by decide) rfl ?_
  refine AW.iushr dJ12_bitCount_38 rfl ?_
  refine AW.iadd dJ12_bitCount_39 rfl ?_
  refine AW.istore_n (i := 0) dJ12_bitCount_40 rfl rfl (Nat.le_of_ble_eq_true rfl) rfl rfl ?_
  refine AW.iload_n dJ12_bitCount_41 rfl rfl ?_
  refine AW.iload_n dJ12_bitCount_42 rfl rfl ?_
  refine AW.bipush (v := 16) dJ12_bitCount_43 (by decide) rfl ?_
  refine AW.iushr dJ12_bitCount_45 rfl ?_
  refine AW.iadd dJ12_bitCount_46 rfl ?_
  refine AW.istore_n (i := 0) dJ12_bitCount_47 rfl rfl (Nat.le_of_ble_eq_true rfl) rfl rfl ?_
  refine AW.iload_n dJ12_bitCount_48 rfl rfl ?_
  refine AW.bipush (v := 63) dJ12_bitCount_49 (by decide) rfl ?_
  refine AW.iand dJ12_bitCount_51 rfl ?_
  exact AW.iretE dJ12_bitCount_52 rfl rfl rfl rfl
def tzJ (y : Int32) : Int32 := if 0 < y then (if y ≤ 16 then (if y ≤ 4 then 1 + shrU y 1 else 1 + 2 + shrU (shrU y 2) 1) else (if shrU y 4 ≤ 4 then 1 + 4 + shrU (shrU y 4) 1 else 1 + 4 + 2 + shrU (shrU (shrU y 4) 2) 1)) else y &&& 32
def tzI (x : Int32) : Int32 := tzJ ((x ^^^ -1) &&& (x - 1))
theorem r_J12_numberOfTrailingZeros {h : AH} (x : Int32) (hx : (x ^^^ -1) &&& (x - 1) ≤ 256) : Run 1 mJ12_numberOfTrailingZeros [.int x] h (.inl (some (.int (tzI x)))) h := by
  refine Run.of (by decide +kernel) (Nat.le_of_ble_eq_true rfl) rfl ?_
  refine AW.iload_n dJ12_numberOfTrailingZeros_0 rfl rfl ?_
  refine AW.iconst (v := (-1)) dJ12_numberOfTrailingZeros_1 (by decide) rfl ?_
  refine AW.ixor dJ12_numberOfTrailingZeros_2 rfl ?_
  refine AW.iload_n dJ12_numberOfTrailingZeros_3 rfl rfl ?_
  refine AW.iconst (v := 1) dJ12_numberOfTrailingZeros_4 (by decide) rfl ?_
  refine AW.isub dJ12_numberOfTrailingZeros_5 rfl ?_
  refine AW.iand dJ12_numberOfTrailingZeros_6 rfl ?_
  refine AW.istore_n (i := 0) dJ12_numberOfTrailingZeros_7 rfl rfl (Nat.le_of_ble_eq_true rfl) rfl rfl ?_
  refine AW.iload_n dJ12_numberOfTrailingZeros_8 rfl rfl ?_
  refine AW.if_gt (tgt := 17) dJ12_numberOfTrailingZeros_9 (by decide) rfl (fun c1 => ?_) (fun c1 => ?_)
  · refine AW.iconst (v := 1) dJ12_numberOfTrailingZeros_17 (by decide) rfl ?_
    refine AW.istore_n (i := 1) dJ12_numberOfTrailingZeros_18 rfl rfl (Nat.le_of_ble_eq_true rfl) rfl rfl ?_
    refine AW.iload_n dJ12_numberOfTrailingZeros_19 rfl rfl ?_
    refine AW.ldcw dJ12_numberOfTrailingZeros_20 q1276 rfl ?_
    refine AW.icmp_le (tgt := 34) dJ12_numberOfTrailingZeros_23 (by decide) rfl (fun _ => ?_) (fun c_ => by first | exact absurd c_ (Int32.le_iff_toInt_le.mpr (by have := Int32.le_iff_toInt_le.mp hx; have e1 : (256 : Int32).toInt = 256 := rfl; have e2 : (65536 : Int32).toInt = 65536 := rfl; omega)) | exact absurd (Int32.le_iff_toInt_le.mpr (by have := Int32.le_iff_toInt_le.mp hx; have e1 : (256 : Int32).toInt = 256 := rfl; have e2 : (65536 : Int32).toInt = 65536 := rfl; omega)) c_ | exact absurd c_ (not_not_intro (Int32.le_iff_toInt_le.mpr (by have := Int32.le_iff_toInt_le.mp hx; have e1 : (256 : Int32).toInt = 256 := rfl; have e2 : (65536 : Int32).toInt = 65536 := rfl; omega))) | exact Bool.noConfusion (c_.symm.trans (Int32.le_iff_toInt_le.mpr (by have := Int32.le_iff_toInt_le.mp hx; have e1 : (256 : Int32).toInt = 256 := rfl; have e2 : (65536 : Int32).toInt = 65536 := rfl; omega))))
    refine AW.iload_n dJ12_numberOfTrailingZeros_34 rfl rfl ?_
    refine AW.sipush (v := 256) dJ12_numberOfTrailingZeros_35 (by decide) rfl ?_
    refine AW.icmp_le (tgt := 49) dJ12_numberOfTrailingZeros_38 (by decide) rfl (fun _ => ?_) (fun c_ => by first | exact absurd c_ hx | exact absurd hx c_ | exact absurd c_ (not_not_intro hx) | exact Bool.noConfusion (c_.symm.trans hx))
    refine AW.iload_n dJ12_numberOfTrailingZeros_49 rfl rfl ?_
    refine AW.bipush (v := 16) dJ12_numberOfTrailingZeros_50 (by decide) rfl ?_
    refine AW.icmp_le (tgt := 62) dJ12_numberOfTrailingZeros_52 (by decide) rfl (fun c2 => ?_) (fun c2 => ?_)
    · refine AW.iload_n dJ12_numberOfTrailingZeros_62 rfl rfl ?_
      refine AW.iconst (v := 4) dJ12_numberOfTrailingZeros_63 (by decide) rfl ?_
      refine AW.icmp_le (tgt := 74) dJ12_numberOfTrailingZeros_64 (by decide) rfl (fun c3 => ?_) (fun c3 => ?_)
      · refine AW.iload_n dJ12_numberOfTrailingZeros_74 rfl rfl ?_
        refine AW.iload_n dJ12_numberOfTrailingZeros_75 rfl rfl ?_
        refine AW.iconst (v := 1) dJ12_numberOfTrailingZeros_76 (by decide) rfl ?_
        refine AW.iushr dJ12_numberOfTrailingZeros_77 rfl ?_
        refine AW.iadd dJ12_numberOfTrailingZeros_78 rfl ?_
        exact AW.iretE dJ12_numberOfTrailingZeros_79 rfl rfl (by unfold tzI tzJ; first | (rw [if_neg c1]; done) | (rw [if_pos c1, if_pos c2, if_pos c3]; rfl) | (rw [if_pos c1, if_pos c2, if_neg c3]; rfl) | (rw [if_pos c1, if_neg c2]; first | (rw [if_pos (show shrU _ 4 ≤ 4 from c3)]; rfl) | (rw [if_neg (show ¬ shrU _ 4 ≤ 4 from c3)]; rfl))) rfl
      · refine AW.iinc (v := 2) dJ12_numberOfTrailingZeros_67 rfl (by decide) rfl rfl rfl ?_
        refine AW.iload_n dJ12_numberOfTrailingZeros_70 rfl rfl ?_
        refine AW.iconst (v := 2) dJ12_numberOfTrailingZeros_71 (by decide) rfl ?_
        refine AW.iushr dJ12_numberOfTrailingZeros_72 rfl ?_
        refine AW.istore_n (i := 0) dJ12_numberOfTrailingZeros_73 rfl rfl (Nat.le_of_ble_eq_true rfl) rfl rfl ?_
        refine AW.iload_n dJ12_numberOfTrailingZeros_74 rfl rfl ?_
        refine AW.iload_n dJ12_numberOfTrailingZeros_75 rfl rfl ?_
        refine AW.iconst (v := 1) dJ12_numberOfTrailingZeros_76 (by decide) rfl ?_
        refine AW.iushr dJ12_numberOfTrailingZeros_77 rfl ?_
        refine AW.iadd dJ12_numberOfTrailingZeros_78 rfl ?_
        exact AW.iretE dJ12_numberOfTrailingZeros_79 rfl rfl (by unfold tzI tzJ; first | (rw [if_neg c1]; done) | (rw [if_pos c1, if_pos c2, if_pos c3]; rfl) | (rw [if_pos c1, if_pos c2, if_neg c3]; rfl) | (rw [if_pos c1, if_neg c2]; first | (rw [if_pos (show shrU _ 4 ≤ 4 from c3)]; rfl) | (rw [if_neg (show ¬ shrU _ 4 ≤ 4 from c3)]; rfl))) rfl
    · refine AW.iinc (v := 4) dJ12_numberOfTrailingZeros_55 rfl (by decide) rfl rfl rfl ?_
      refine AW.iload_n dJ12_numberOfTrailingZeros_58 rfl rfl ?_
      refine AW.iconst (v := 4) dJ12_numberOfTrailingZeros_59 (by decide) rfl ?_
      refine AW.iushr dJ12_numberOfTrailingZeros_60 rfl ?_
      refine AW.istore_n (i := 0) dJ12_numberOfTrailingZeros_61 rfl rfl (Nat.le_of_ble_eq_true rfl) rfl rfl ?_
      refine AW.iload_n dJ12_numberOfTrailingZeros_62 rfl rfl ?_
      refine AW.iconst (v := 4) dJ12_numberOfTrailingZeros_63 (by decide) rfl ?_
      refine AW.icmp_le (tgt := 74) dJ12_numberOfTrailingZeros_64 (by decide) rfl (fun c3 => ?_) (fun c3 => ?_)
      · refine AW.iload_n dJ12_numberOfTrailingZeros_74 rfl rfl ?_
        refine AW.iload_n dJ12_numberOfTrailingZeros_75 rfl rfl ?_
        refine AW.iconst (v := 1) dJ12_numberOfTrailingZeros_76 (by decide) rfl ?_
        refine AW.iushr dJ12_numberOfTrailingZeros_77 rfl ?_
        refine AW.iadd dJ12_numberOfTrailingZeros_78 rfl ?_
        exact AW.iretE dJ12_numberOfTrailingZeros_79 rfl rfl (by unfold tzI tzJ; first | (rw [if_neg c1]; done) | (rw [if_pos c1, if_pos c2, if_pos c3]; rfl) | (rw [if_pos c1, if_pos c2, if_neg c3]; rfl) | (rw [if_pos c1, if_neg c2]; first | (rw [if_pos (show shrU _ 4 ≤ 4 from c3)]; rfl) | (rw [if_neg (show ¬ shrU _ 4 ≤ 4 from c3)]; rfl))) rfl
      · refine AW.iinc (v := 2) dJ12_numberOfTrailingZeros_67 rfl (by decide) rfl rfl rfl ?_
        refine AW.iload_n dJ12_numberOfTrailingZeros_70 rfl rfl ?_
        refine AW.iconst (v := 2) dJ12_numberOfTrailingZeros_71 (by decide) rfl ?_
        refine AW.iushr dJ12_numberOfTrailingZeros_72 rfl ?_
        refine AW.istore_n (i := 0) dJ12_numberOfTrailingZeros_73 rfl rfl (Nat.le_of_ble_eq_true rfl) rfl rfl ?_
        refine AW.iload_n dJ12_numberOfTrailingZeros_74 rfl rfl ?_
        refine AW.iload_n dJ12_numberOfTrailingZeros_75 rfl rfl ?_
        refine AW.iconst (v := 1) dJ12_numberOfTrailingZeros_76 (by decide) rfl ?_
        refine AW.iushr dJ12_numberOfTrailingZeros_77 rfl ?_
        refine AW.iadd dJ12_numberOfTrailingZeros_78 rfl ?_
        exact AW.iretE dJ12_numberOfTrailingZeros_79 rfl rfl (by unfold tzI tzJ; first | (rw [if_neg c1]; done) | (rw [if_pos c1, if_pos c2, if_pos c3]; rfl) | (rw [if_pos c1, if_pos c2, if_neg c3]; rfl) | (rw [if_pos c1, if_neg c2]; first | (rw [if_pos (show shrU _ 4 ≤ 4 from c3)]; rfl) | (rw [if_neg (show ¬ shrU _ 4 ≤ 4 from c3)]; rfl))) rfl
  · refine AW.iload_n dJ12_numberOfTrailingZeros_12 rfl rfl ?_
    refine AW.bipush (v := 32) dJ12_numberOfTrailingZeros_13 (by decide) rfl ?_
    refine AW.iand dJ12_numberOfTrailingZeros_15 rfl ?_
    exact AW.iretE dJ12_numberOfTrailingZeros_16 rfl rfl (by unfold tzI tzJ; first | (rw [if_neg c1]; done) | (rw [if_pos c1, if_pos c2, if_pos c3]; rfl) | (rw [if_pos c1, if_pos c2, if_neg c3]; rfl) | (rw [if_pos c1, if_neg c2]; first | (rw [if_pos (show shrU _ 4 ≤ 4 from c3)]; rfl) | (rw [if_neg (show ¬ shrU _ 4 ≤ 4 from c3)]; rfl))) rfl
/-- the first n of f, the rest of g -/
def mv0 {α : Type} (g f : Nat → α) (n : Nat) : Nat → α := fun k => if k < n then f k else g k
theorem cpy0 {α : Type} {f g : Nat → α} {n : Nat} : va_cpy f g 0 0 n = mv0 g f n := by
  funext k
  unfold va_cpy mv0
  by_cases h : k < n
  · rw [if_pos ⟨Nat.zero_le _, by omega⟩, if_pos h]; congr 1; omega
  · rw [if_neg (by omega), if_neg h]
theorem i32_nn {n : Nat} (h : n < 2147483648) : ¬ (Int32.ofNat n < 0) := by
  intro q
  have := Int32.lt_iff_toInt_lt.mp q
  have e : (Int32.ofNat n).toInt = n := nI_t h
  have e0 : (0 : Int32).toInt = 0 := rfl
  omega
theorem i32_cl {n : Nat} (h : n < 2147483648) : (Int32.ofNat n).toNatClampNeg = n := by
  show (Int32.ofNat n).toInt.toNat = n
  rw [show (Int32.ofNat n).toInt = n from nI_t h]
  rfl

theorem r_X1_copy {h : AH} {a0 a1 n0 n1 : Nat} {f g : Nat → Int32} (h0 : h.g a0 = some (ia n0 f)) (ha : 512 ≤ a1) (h1 : h.g a1 = some (ia n1 g)) (hn : n0 ≤ n1) (h31 : n0 < 2147483648) {h2 : AH} (hh : h.set a1 (ia n1 (mv0 g f n0)) = h2) : Run 2 mX1_copy [.ref a0, .ref a1] h (.inl none) h2 := by
  refine Run.of (by decide +kernel) (Nat.le_of_ble_eq_true rfl) rfl ?_
  refine AW.aload_n dX1_copy_0 rfl rfl ?_
  refine AW.iconst (v := 0) dX1_copy_1 (by decide) rfl ?_
  refine AW.aload_n dX1_copy_2 rfl rfl ?_
  refine AW.iconst (v := 0) dX1_copy_3 (by decide) rfl ?_
  refine AW.aload_n dX1_copy_4 rfl rfl ?_
  refine AW.alen dX1_copy_5 h0 rfl rfl ?_
  refine AW.copyi dX1_copy_6 q223 q225 q224 q140 h0 ha h1 (by decide) (by decide) (i32_nn h31) (by rw [i32_cl h31] <;> exact Nat.le_of_eq (Nat.zero_add _)) (by rw [i32_cl h31]; exact Nat.le_trans (Nat.le_of_eq (Nat.zero_add _)) hn) (by decide) (Nat.le_of_ble_eq_true rfl) (h3 := h2) (by rw [i32_cl h31]; exact (congrArg (fun z => h.set a1 (ia n1 z)) cpy0).trans hh) rfl ?_
  exact AW.vretE dX1_copy_9 rfl rfl rfl
