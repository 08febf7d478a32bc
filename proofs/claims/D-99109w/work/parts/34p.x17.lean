/-! SYSTEM 17: the words, letter by letter (printed by tools/x17.py) -/
set_option maxRecDepth 100000
theorem shr_0 (x : Int32) : x >>> ((0 : Int32) &&& 31) = x := by
  rw [show (0 : Int32) &&& 31 = 0 from rfl]
  simp
theorem and255 {c : Nat} (h : c < 128) : ((nI c &&& 255).toUInt32 % 65536).toInt32 = nI c := by
  have h1 : (nI c &&& 255) = nI c := by
    apply Int32.toBitVec_inj.mp
    apply BitVec.eq_of_toNat_eq
    rw [Int32.toBitVec_and, BitVec.toNat_and]
    show (BitVec.ofNat 32 c).toNat &&& 255 = (BitVec.ofNat 32 c).toNat
    rw [BitVec.toNat_ofNat, Nat.mod_eq_of_lt (by omega)]
    exact (Nat.and_two_pow_sub_one_eq_mod c 8).trans (Nat.mod_eq_of_lt (by omega))
  rw [h1]
  apply Int32.toBitVec_inj.mp
  apply BitVec.eq_of_toNat_eq
  show ((nI c).toUInt32 % 65536).toBitVec.toNat = (BitVec.ofNat 32 c).toNat
  rw [UInt32.toBitVec_mod, BitVec.toNat_umod]
  show (BitVec.ofNat 32 c).toNat % 65536 = (BitVec.ofNat 32 c).toNat
  rw [BitVec.toNat_ofNat, Nat.mod_eq_of_lt (a := c) (by omega), Nat.mod_eq_of_lt (by omega)]
theorem nw_char {c : Nat} (h : c < 128) : narrow .char (.int (nI c)) = .int (nI c) := by
  have : c < 65536 := by omega
  have e : ((nI c).toUInt32 % 65536).toInt32 = nI c := by
    apply Int32.toBitVec_inj.mp
    apply BitVec.eq_of_toNat_eq
    show ((nI c).toUInt32 % 65536).toBitVec.toNat = (BitVec.ofNat 32 c).toNat
    rw [UInt32.toBitVec_mod, BitVec.toNat_umod]
    show (BitVec.ofNat 32 c).toNat % 65536 = (BitVec.ofNat 32 c).toNat
    rw [BitVec.toNat_ofNat, Nat.mod_eq_of_lt (a := c) (by omega), Nat.mod_eq_of_lt (by omega)]
  show Value.int ((nI c).toUInt32 % 65536).toInt32 = _
  rw [e]
theorem r_J3_coder {h : AH} {i : Nat} (hi : i < 23) : Run 1 mJ3_coder [.ref (100 + i)] h (.inl (some (.int (0)))) h := by
  refine Run.of rfl (Nat.le_of_ble_eq_true rfl) rfl ?_
  refine AW.gets (q := zL.get ⟨5, by decide⟩) (List.get_mem _ _) dJ3_coder_0 q407 rfl ?_
  refine AW.if_eq (tgt := 13) dJ3_coder_3 (by decide) rfl (fun c_ => by first | exact absurd c_ (by decide) | exact absurd (by decide) c_ | exact Bool.noConfusion (c_.symm.trans (by decide))) (fun _ => ?_)
  refine AW.aload_n dJ3_coder_6 rfl rfl ?_
  refine AW.strC hi rfl dJ3_coder_7 q2059 rfl ?_
  refine AW.goto (tgt := 14) dJ3_coder_10 (by decide) ?_
  exact AW.zret dJ3_coder_14 rfl rfl rfl
theorem r_J3_isLatin1 {h : AH} {i : Nat} (hi : i < 23) : Run 1 mJ3_isLatin1 [.ref (100 + i)] h (.inl (some (.int (b2i true)))) h := by
  refine Run.of rfl (Nat.le_of_ble_eq_true rfl) rfl ?_
  refine AW.gets (q := zL.get ⟨5, by decide⟩) (List.get_mem _ _) dJ3_isLatin1_0 q407 rfl ?_
  refine AW.if_eq (tgt := 17) dJ3_isLatin1_3 (by decide) rfl (fun c_ => by first | exact absurd c_ (by decide) | exact absurd (by decide) c_ | exact Bool.noConfusion (c_.symm.trans (by decide))) (fun _ => ?_)
  refine AW.aload_n dJ3_isLatin1_6 rfl rfl ?_
  refine AW.strC hi rfl dJ3_isLatin1_7 q2059 rfl ?_
  refine AW.if_ne (tgt := 17) dJ3_isLatin1_10 (by decide) rfl (fun c_ => by first | exact absurd c_ (by decide) | exact absurd (by decide) c_ | exact Bool.noConfusion (c_.symm.trans (by decide))) (fun _ => ?_)
  refine AW.iconst (v := 1) dJ3_isLatin1_13 (by decide) rfl ?_
  refine AW.goto (tgt := 18) dJ3_isLatin1_14 (by decide) ?_
  exact AW.bretE dJ3_isLatin1_18 rfl rfl rfl rfl
theorem r_J3_length {h : AH} {i : Nat} (hi : i < 23) {len : Nat} {f : Nat → Int32} (gb : h.g (130 + i) = some (.inl (10 + i, len, fun j => .int (f j)))) (hl : len < 1000) : Run 2 mJ3_length [.ref (100 + i)] h (.inl (some (.int (nI len)))) h := by
  refine Run.of rfl (Nat.le_of_ble_eq_true rfl) rfl ?_
  refine AW.aload_n dJ3_length_0 rfl rfl ?_
  refine AW.strV hi rfl dJ3_length_1 q2058 rfl ?_
  refine AW.alen dJ3_length_4 gb (at_byte hi) rfl ?_
  refine AW.aload_n dJ3_length_5 rfl rfl ?_
  refine AW.callT (Y := mJ3_coder) (n := 0) hi rfl (r_J3_coder hi) (by decide) (by decide) rfl q403 q404 q405 q147 q406 dJ3_length_6 (by decide +kernel) rfl rfl (Nat.le_of_ble_eq_true rfl) rfl ?_
  refine AW.ishr dJ3_length_9 rfl ?_
  exact AW.iretE dJ3_length_10 rfl rfl (shr_0 _) rfl
theorem r_J3_checkIndex {h : AH} (x n : Int32) (h0 : ¬ x < 0) (h1 : x < n) : Run 2 mJ3_checkIndex [.int x, .int n] h (.inl none) h := by
  refine Run.of rfl (Nat.le_of_ble_eq_true rfl) rfl ?_
  refine AW.iload_n dJ3_checkIndex_0 rfl rfl ?_
  refine AW.iload_n dJ3_checkIndex_1 rfl rfl ?_
  refine AW.gets (q := zL.get ⟨8, by decide⟩) (List.get_mem _ _) dJ3_checkIndex_2 q423 rfl ?_
  refine AW.callS (Y := mJ5_checkIndex) (n := 3) (r_J5_checkIndex_f _ _ h0 h1) (by decide) (by decide) q425 q426 q149 q427 dJ3_checkIndex_5 (by decide +kernel) rfl rfl (Nat.le_of_ble_eq_true rfl) rfl ?_
  refine AW.pop dJ3_checkIndex_8 rfl rfl ?_
  exact AW.vretE dJ3_checkIndex_9 rfl rfl rfl
theorem r_J4_charAt {h : AH} {i : Nat} (hi : i < 23) {len : Nat} {f : Nat → Int32} (gb : h.g (130 + i) = some (.inl (10 + i, len, fun j => .int (f j)))) (hl : len < 1000) (k : Nat) (hk : k < len) {c : Nat} (hc : f k = nI c) (h128 : c < 128) : Run 3 mJ4_charAt [.ref (130 + i), .int (nI k)] h (.inl (some (.int (nI c)))) h := by
  refine Run.of rfl (Nat.le_of_ble_eq_true rfl) rfl ?_
  refine AW.iload_n dJ4_charAt_0 rfl rfl ?_
  refine AW.aload_n dJ4_charAt_1 rfl rfl ?_
  refine AW.alen dJ4_charAt_2 gb (at_byte hi) rfl ?_
  refine AW.callS (Y := mJ3_checkIndex) (n := 2) (r_J3_checkIndex _ _ (i32_nn (by omega)) (nI_lt2 hk (by omega))) (by decide) (by decide) q420 q421 q147 q422 dJ4_charAt_3 (by decide +kernel) rfl rfl (Nat.le_of_ble_eq_true rfl) rfl ?_
  refine AW.aload_n dJ4_charAt_6 rfl rfl ?_
  refine AW.iload_n dJ4_charAt_7 rfl rfl ?_
  refine AW.bald2 dJ4_charAt_8 (at_byte hi) gb (vp_in_nI (by omega) (by omega)) (j := k) (cI_nI (by omega)) rfl ?_
  refine AW.st (st' := [.int (nI c)]) (by rw [hc]; rfl) ?_
  refine AW.sipush (v := 255) dJ4_charAt_9 (by decide) rfl ?_
  refine AW.iand dJ4_charAt_12 rfl ?_
  refine AW.i2c dJ4_charAt_13 rfl ?_
  refine AW.st (st' := [.int (nI c)]) (by rw [and255 h128]) ?_
  exact AW.zret dJ4_charAt_14 rfl (nw_char h128) rfl
theorem r_J3_charAt {h : AH} {i : Nat} (hi : i < 23) {len : Nat} {f : Nat → Int32} (gb : h.g (130 + i) = some (.inl (10 + i, len, fun j => .int (f j)))) (hl : len < 1000) (k : Nat) (hk : k < len) {c : Nat} (hc : f k = nI c) (h128 : c < 128) : Run 4 mJ3_charAt [.ref (100 + i), .int (nI k)] h (.inl (some (.int (nI c)))) h := by
  refine Run.of rfl (Nat.le_of_ble_eq_true rfl) rfl ?_
  refine AW.aload_n dJ3_charAt_0 rfl rfl ?_
  refine AW.callT (Y := mJ3_isLatin1) (n := 0) hi rfl (r_J3_isLatin1 hi) (by decide) (by decide) rfl q413 q414 q415 q147 q416 dJ3_charAt_1 (by decide +kernel) rfl rfl (Nat.le_of_ble_eq_true rfl) rfl ?_
  refine AW.if_eqB (tgt := 16) dJ3_charAt_4 (by decide) rfl (fun c_ => by first | exact absurd c_ (rfl : true = true) | exact absurd (rfl : true = true) c_ | exact Bool.noConfusion (c_.symm.trans (rfl : true = true))) (fun _ => ?_)
  refine AW.aload_n dJ3_charAt_7 rfl rfl ?_
  refine AW.strV hi rfl dJ3_charAt_8 q2058 rfl ?_
  refine AW.iload_n dJ3_charAt_11 rfl rfl ?_
  refine AW.callS (Y := mJ4_charAt) (n := 2) (r_J4_charAt hi gb hl k hk hc h128) (by decide) (by decide) q417 q418 q148 q419 dJ3_charAt_12 (by decide +kernel) rfl rfl (Nat.le_of_ble_eq_true rfl) rfl ?_
  exact AW.zret dJ3_charAt_15 rfl (nw_char h128) rfl
