/-! ShutDays$State -/
set_option maxRecDepth 100000
def RX1 : String := "ShutDays$State"
def TX1 : u_T := fun k => match k with
  | 0 => ("ShutDays$State", "n", "[I", true)
  | 1 => ("ShutDays$State", "row", "[I", true)
  | 2 => ("ShutDays$State", "seen", "[[I", true)
  | 3 => ("ShutDays$State", "gossip", "[[I", true)
  | 4 => ("ShutDays$State", "step", "[[I", true)
  | _ => ("ShutDays$State", "text", "[LShutDays$Text;", true)
def tyX1 : Nat → FieldType := fun k => match k with
  | 0 => .array .int
  | 1 => .array .int
  | 2 => .array (.array .int)
  | 3 => .array (.array .int)
  | 4 => .array (.array .int)
  | _ => .array (.object "ShutDays$Text")
abbrev wsX10 : List Cond := u_ws RX1 TX1 6
theorem nmX1 : ∀ a, a < 6 → ∀ b, b < 6 → a ≠ b → (TX1 a).2.1 ≠ (TX1 b).2.1 := by decide +kernel
theorem tyX1_ok : ∀ k, k < 6 → parseFieldDescriptor (TX1 k).2.2.1 = some (tyX1 k) := by decide +kernel
abbrev cX1_init : ByteArray := prog_13_method_1_code
def yX1_init : MethodName := ⟨RX1, "<init>", "()V"⟩
def dkwX1_init_3 : List UInt8 := [79, 42, 180, 0, 15, 4, 17, 0, 131, 79, 177]
abbrev dktX1_init_3 : List UInt8 := dkwX1_init_3 ++ []
def dkwX1_init_2 : List UInt8 := [17, 0, 145, 197, 0, 18, 2, 181, 0, 26, 42, 7, 189, 0, 29, 181, 0, 31, 42, 180, 0, 9, 5, 2]
abbrev dktX1_init_2 : List UInt8 := dkwX1_init_2 ++ dktX1_init_3
def dkwX1_init_1 : List UInt8 := [6, 197, 0, 18, 2, 181, 0, 20, 42, 16, 8, 5, 197, 0, 18, 2, 181, 0, 23, 42, 16, 30]
abbrev dktX1_init_1 : List UInt8 := dkwX1_init_1 ++ dktX1_init_2
def dkwX1_init_0 : List UInt8 := [42, 183, 0, 3, 42, 16, 6, 188, 10, 181, 0, 9, 42, 17, 0, 145, 188, 10, 181, 0, 15, 42, 16, 8]
abbrev dktX1_init_0 : List UInt8 := dkwX1_init_0 ++ dktX1_init_1
theorem dksX1_init_0 : cX1_init.data.toList.drop 0 = dktX1_init_0 := by decide +kernel
theorem dksX1_init_1 : cX1_init.data.toList.drop 24 = dktX1_init_1 := dk_seg dksX1_init_0 24 rfl rfl
theorem dksX1_init_2 : cX1_init.data.toList.drop 46 = dktX1_init_2 := dk_seg dksX1_init_1 22 rfl rfl
theorem dksX1_init_3 : cX1_init.data.toList.drop 70 = dktX1_init_3 := dk_seg dksX1_init_2 24 rfl rfl
theorem dX1_init_0 : decode cX1_init 0 = .ok (.aload_n 0, 1) := dk_42 (dk_at dksX1_init_0 0 rfl rfl)
theorem dX1_init_1 : decode cX1_init 1 = .ok (.invokespecial 3, 3) := dk_183 0 3 (dk_at dksX1_init_0 1 rfl rfl)
theorem dX1_init_4 : decode cX1_init 4 = .ok (.aload_n 0, 1) := dk_42 (dk_at dksX1_init_0 4 rfl rfl)
theorem dX1_init_5 : decode cX1_init 5 = .ok (.bipush 6, 2) := dk_16 6 (dk_at dksX1_init_0 5 rfl rfl)
theorem dX1_init_7 : decode cX1_init 7 = .ok (.newarray .int, 2) := dk_188_10 (dk_at dksX1_init_0 7 rfl rfl)
theorem dX1_init_9 : decode cX1_init 9 = .ok (.putfield 9, 3) := dk_181 0 9 (dk_at dksX1_init_0 9 rfl rfl)
theorem dX1_init_12 : decode cX1_init 12 = .ok (.aload_n 0, 1) := dk_42 (dk_at dksX1_init_0 12 rfl rfl)
theorem dX1_init_13 : decode cX1_init 13 = .ok (.sipush 145, 3) := dk_17 0 145 (dk_at dksX1_init_0 13 rfl rfl)
theorem dX1_init_16 : decode cX1_init 16 = .ok (.newarray .int, 2) := dk_188_10 (dk_at dksX1_init_0 16 rfl rfl)
theorem dX1_init_18 : decode cX1_init 18 = .ok (.putfield 15, 3) := dk_181 0 15 (dk_at dksX1_init_0 18 rfl rfl)
theorem dX1_init_21 : decode cX1_init 21 = .ok (.aload_n 0, 1) := dk_42 (dk_at dksX1_init_0 21 rfl rfl)
theorem dX1_init_22 : decode cX1_init 22 = .ok (.bipush 8, 2) := dk_16 8 (dk_at dksX1_init_0 22 rfl rfl)
theorem dX1_init_24 : decode cX1_init 24 = .ok (.iconst 3, 1) := dk_6 (dk_at dksX1_init_1 0 rfl rfl)
theorem dX1_init_25 : decode cX1_init 25 = .ok (.multianewarray 18 2, 4) := by decide +kernel
theorem dX1_init_29 : decode cX1_init 29 = .ok (.putfield 20, 3) := dk_181 0 20 (dk_at dksX1_init_1 5 rfl rfl)
theorem dX1_init_32 : decode cX1_init 32 = .ok (.aload_n 0, 1) := dk_42 (dk_at dksX1_init_1 8 rfl rfl)
theorem dX1_init_33 : decode cX1_init 33 = .ok (.bipush 8, 2) := dk_16 8 (dk_at dksX1_init_1 9 rfl rfl)
theorem dX1_init_35 : decode cX1_init 35 = .ok (.iconst 2, 1) := dk_5 (dk_at dksX1_init_1 11 rfl rfl)
theorem dX1_init_36 : decode cX1_init 36 = .ok (.multianewarray 18 2, 4) := by decide +kernel
theorem dX1_init_40 : decode cX1_init 40 = .ok (.putfield 23, 3) := dk_181 0 23 (dk_at dksX1_init_1 16 rfl rfl)
theorem dX1_init_43 : decode cX1_init 43 = .ok (.aload_n 0, 1) := dk_42 (dk_at dksX1_init_1 19 rfl rfl)
theorem dX1_init_44 : decode cX1_init 44 = .ok (.bipush 30, 2) := dk_16 30 (dk_at dksX1_init_1 20 rfl rfl)
theorem dX1_init_46 : decode cX1_init 46 = .ok (.sipush 145, 3) := dk_17 0 145 (dk_at dksX1_init_2 0 rfl rfl)
theorem dX1_init_49 : decode cX1_init 49 = .ok (.multianewarray 18 2, 4) := by decide +kernel
theorem dX1_init_53 : decode cX1_init 53 = .ok (.putfield 26, 3) := dk_181 0 26 (dk_at dksX1_init_2 7 rfl rfl)
theorem dX1_init_56 : decode cX1_init 56 = .ok (.aload_n 0, 1) := dk_42 (dk_at dksX1_init_2 10 rfl rfl)
theorem dX1_init_57 : decode cX1_init 57 = .ok (.iconst 4, 1) := dk_7 (dk_at dksX1_init_2 11 rfl rfl)
theorem dX1_init_58 : decode cX1_init 58 = .ok (.anewarray 29, 3) := dk_189 0 29 (dk_at dksX1_init_2 12 rfl rfl)
theorem dX1_init_61 : decode cX1_init 61 = .ok (.putfield 31, 3) := dk_181 0 31 (dk_at dksX1_init_2 15 rfl rfl)
theorem dX1_init_64 : decode cX1_init 64 = .ok (.aload_n 0, 1) := dk_42 (dk_at dksX1_init_2 18 rfl rfl)
theorem dX1_init_65 : decode cX1_init 65 = .ok (.getfield 9, 3) := dk_180 0 9 (dk_at dksX1_init_2 19 rfl rfl)
theorem dX1_init_68 : decode cX1_init 68 = .ok (.iconst 2, 1) := dk_5 (dk_at dksX1_init_2 22 rfl rfl)
theorem dX1_init_69 : decode cX1_init 69 = .ok (.iconst (-1), 1) := dk_2 (dk_at dksX1_init_2 23 rfl rfl)
theorem dX1_init_70 : decode cX1_init 70 = .ok (.iastore, 1) := dk_79 (dk_at dksX1_init_3 0 rfl rfl)
theorem dX1_init_71 : decode cX1_init 71 = .ok (.aload_n 0, 1) := dk_42 (dk_at dksX1_init_3 1 rfl rfl)
theorem dX1_init_72 : decode cX1_init 72 = .ok (.getfield 15, 3) := dk_180 0 15 (dk_at dksX1_init_3 2 rfl rfl)
theorem dX1_init_75 : decode cX1_init 75 = .ok (.iconst 1, 1) := dk_4 (dk_at dksX1_init_3 5 rfl rfl)
theorem dX1_init_76 : decode cX1_init 76 = .ok (.sipush 131, 3) := dk_17 0 131 (dk_at dksX1_init_3 6 rfl rfl)
theorem dX1_init_79 : decode cX1_init 79 = .ok (.iastore, 1) := dk_79 (dk_at dksX1_init_3 9 rfl rfl)
theorem dX1_init_80 : decode cX1_init 80 = .ok (.return_, 1) := dk_177 (dk_at dksX1_init_3 10 rfl rfl)
abbrev cX1_be : ByteArray := prog_13_method_4_code
def yX1_be : MethodName := ⟨RX1, "be", "(LShutDays$State;)V"⟩
def dkwX1_be_3 : List UInt8 := [177]
abbrev dktX1_be_3 : List UInt8 := dkwX1_be_3 ++ []
def dkwX1_be_2 : List UInt8 := [180, 0, 26, 42, 180, 0, 26, 184, 0, 45, 43, 180, 0, 31, 3, 42, 180, 0, 31, 3, 7, 184, 0, 35]
abbrev dktX1_be_2 : List UInt8 := dkwX1_be_2 ++ dktX1_be_3
def dkwX1_be_1 : List UInt8 := [180, 0, 20, 42, 180, 0, 20, 184, 0, 45, 43, 180, 0, 23, 42, 180, 0, 23, 184, 0, 45, 43]
abbrev dktX1_be_1 : List UInt8 := dkwX1_be_1 ++ dktX1_be_2
def dkwX1_be_0 : List UInt8 := [43, 180, 0, 9, 42, 180, 0, 9, 184, 0, 41, 43, 180, 0, 15, 42, 180, 0, 15, 184, 0, 41, 43]
abbrev dktX1_be_0 : List UInt8 := dkwX1_be_0 ++ dktX1_be_1
theorem dksX1_be_0 : cX1_be.data.toList.drop 0 = dktX1_be_0 := by decide +kernel
theorem dksX1_be_1 : cX1_be.data.toList.drop 23 = dktX1_be_1 := dk_seg dksX1_be_0 23 rfl rfl
theorem dksX1_be_2 : cX1_be.data.toList.drop 45 = dktX1_be_2 := dk_seg dksX1_be_1 22 rfl rfl
theorem dksX1_be_3 : cX1_be.data.toList.drop 69 = dktX1_be_3 := dk_seg dksX1_be_2 24 rfl rfl
theorem dX1_be_0 : decode cX1_be 0 = .ok (.aload_n 1, 1) := dk_43 (dk_at dksX1_be_0 0 rfl rfl)
theorem dX1_be_1 : decode cX1_be 1 = .ok (.getfield 9, 3) := dk_180 0 9 (dk_at dksX1_be_0 1 rfl rfl)
theorem dX1_be_4 : decode cX1_be 4 = .ok (.aload_n 0, 1) := dk_42 (dk_at dksX1_be_0 4 rfl rfl)
theorem dX1_be_5 : decode cX1_be 5 = .ok (.getfield 9, 3) := dk_180 0 9 (dk_at dksX1_be_0 5 rfl rfl)
theorem dX1_be_8 : decode cX1_be 8 = .ok (.invokestatic 41, 3) := dk_184 0 41 (dk_at dksX1_be_0 8 rfl rfl)
theorem dX1_be_11 : decode cX1_be 11 = .ok (.aload_n 1, 1) := dk_43 (dk_at dksX1_be_0 11 rfl rfl)
theorem dX1_be_12 : decode cX1_be 12 = .ok (.getfield 15, 3) := dk_180 0 15 (dk_at dksX1_be_0 12 rfl rfl)
theorem dX1_be_15 : decode cX1_be 15 = .ok (.aload_n 0, 1) := dk_42 (dk_at dksX1_be_0 15 rfl rfl)
theorem dX1_be_16 : decode cX1_be 16 = .ok (.getfield 15, 3) := dk_180 0 15 (dk_at dksX1_be_0 16 rfl rfl)
theorem dX1_be_19 : decode cX1_be 19 = .ok (.invokestatic 41, 3) := dk_184 0 41 (dk_at dksX1_be_0 19 rfl rfl)
theorem dX1_be_22 : decode cX1_be 22 = .ok (.aload_n 1, 1) := dk_43 (dk_at dksX1_be_0 22 rfl rfl)
theorem dX1_be_23 : decode cX1_be 23 = .ok (.getfield 20, 3) := dk_180 0 20 (dk_at dksX1_be_1 0 rfl rfl)
theorem dX1_be_26 : decode cX1_be 26 = .ok (.aload_n 0, 1) := dk_42 (dk_at dksX1_be_1 3 rfl rfl)
theorem dX1_be_27 : decode cX1_be 27 = .ok (.getfield 20, 3) := dk_180 0 20 (dk_at dksX1_be_1 4 rfl rfl)
theorem dX1_be_30 : decode cX1_be 30 = .ok (.invokestatic 45, 3) := dk_184 0 45 (dk_at dksX1_be_1 7 rfl rfl)
theorem dX1_be_33 : decode cX1_be 33 = .ok (.aload_n 1, 1) := dk_43 (dk_at dksX1_be_1 10 rfl rfl)
theorem dX1_be_34 : decode cX1_be 34 = .ok (.getfield 23, 3) := dk_180 0 23 (dk_at dksX1_be_1 11 rfl rfl)
theorem dX1_be_37 : decode cX1_be 37 = .ok (.aload_n 0, 1) := dk_42 (dk_at dksX1_be_1 14 rfl rfl)
theorem dX1_be_38 : decode cX1_be 38 = .ok (.getfield 23, 3) := dk_180 0 23 (dk_at dksX1_be_1 15 rfl rfl)
theorem dX1_be_41 : decode cX1_be 41 = .ok (.invokestatic 45, 3) := dk_184 0 45 (dk_at dksX1_be_1 18 rfl rfl)
theorem dX1_be_44 : decode cX1_be 44 = .ok (.aload_n 1, 1) := dk_43 (dk_at dksX1_be_1 21 rfl rfl)
theorem dX1_be_45 : decode cX1_be 45 = .ok (.getfield 26, 3) := dk_180 0 26 (dk_at dksX1_be_2 0 rfl rfl)
theorem dX1_be_48 : decode cX1_be 48 = .ok (.aload_n 0, 1) := dk_42 (dk_at dksX1_be_2 3 rfl rfl)
theorem dX1_be_49 : decode cX1_be 49 = .ok (.getfield 26, 3) := dk_180 0 26 (dk_at dksX1_be_2 4 rfl rfl)
theorem dX1_be_52 : decode cX1_be 52 = .ok (.invokestatic 45, 3) := dk_184 0 45 (dk_at dksX1_be_2 7 rfl rfl)
theorem dX1_be_55 : decode cX1_be 55 = .ok (.aload_n 1, 1) := dk_43 (dk_at dksX1_be_2 10 rfl rfl)
theorem dX1_be_56 : decode cX1_be 56 = .ok (.getfield 31, 3) := dk_180 0 31 (dk_at dksX1_be_2 11 rfl rfl)
theorem dX1_be_59 : decode cX1_be 59 = .ok (.iconst 0, 1) := dk_3 (dk_at dksX1_be_2 14 rfl rfl)
theorem dX1_be_60 : decode cX1_be 60 = .ok (.aload_n 0, 1) := dk_42 (dk_at dksX1_be_2 15 rfl rfl)
theorem dX1_be_61 : decode cX1_be 61 = .ok (.getfield 31, 3) := dk_180 0 31 (dk_at dksX1_be_2 16 rfl rfl)
theorem dX1_be_64 : decode cX1_be 64 = .ok (.iconst 0, 1) := dk_3 (dk_at dksX1_be_2 19 rfl rfl)
theorem dX1_be_65 : decode cX1_be 65 = .ok (.iconst 4, 1) := dk_7 (dk_at dksX1_be_2 20 rfl rfl)
theorem dX1_be_66 : decode cX1_be 66 = .ok (.invokestatic 35, 3) := dk_184 0 35 (dk_at dksX1_be_2 21 rfl rfl)
theorem dX1_be_69 : decode cX1_be 69 = .ok (.return_, 1) := dk_177 (dk_at dksX1_be_3 0 rfl rfl)
abbrev cX1_copy : ByteArray := prog_13_method_2_code
def yX1_copy : MethodName := ⟨RX1, "copy", "([I[I)V"⟩
def dkwX1_copy_0 : List UInt8 := [42, 3, 43, 3, 42, 190, 184, 0, 35, 177]
abbrev dktX1_copy_0 : List UInt8 := dkwX1_copy_0 ++ []
theorem dksX1_copy_0 : cX1_copy.data.toList.drop 0 = dktX1_copy_0 := by decide +kernel
theorem dX1_copy_0 : decode cX1_copy 0 = .ok (.aload_n 0, 1) := dk_42 (dk_at dksX1_copy_0 0 rfl rfl)
theorem dX1_copy_1 : decode cX1_copy 1 = .ok (.iconst 0, 1) := dk_3 (dk_at dksX1_copy_0 1 rfl rfl)
theorem dX1_copy_2 : decode cX1_copy 2 = .ok (.aload_n 1, 1) := dk_43 (dk_at dksX1_copy_0 2 rfl rfl)
theorem dX1_copy_3 : decode cX1_copy 3 = .ok (.iconst 0, 1) := dk_3 (dk_at dksX1_copy_0 3 rfl rfl)
theorem dX1_copy_4 : decode cX1_copy 4 = .ok (.aload_n 0, 1) := dk_42 (dk_at dksX1_copy_0 4 rfl rfl)
theorem dX1_copy_5 : decode cX1_copy 5 = .ok (.arraylength, 1) := dk_190 (dk_at dksX1_copy_0 5 rfl rfl)
theorem dX1_copy_6 : decode cX1_copy 6 = .ok (.invokestatic 35, 3) := dk_184 0 35 (dk_at dksX1_copy_0 6 rfl rfl)
theorem dX1_copy_9 : decode cX1_copy 9 = .ok (.return_, 1) := dk_177 (dk_at dksX1_copy_0 9 rfl rfl)
abbrev cX1_copy_2 : ByteArray := prog_13_method_3_code
def yX1_copy_2 : MethodName := ⟨RX1, "copy", "([[I[[I)V"⟩
def dkwX1_copy_2_0 : List UInt8 := [3, 61, 28, 42, 190, 162, 0, 18, 42, 28, 50, 43, 28, 50, 184, 0, 41, 132, 2, 1, 167, 255, 238, 177]
abbrev dktX1_copy_2_0 : List UInt8 := dkwX1_copy_2_0 ++ []
theorem dksX1_copy_2_0 : cX1_copy_2.data.toList.drop 0 = dktX1_copy_2_0 := by decide +kernel
theorem dX1_copy_2_0 : decode cX1_copy_2 0 = .ok (.iconst 0, 1) := dk_3 (dk_at dksX1_copy_2_0 0 rfl rfl)
theorem dX1_copy_2_1 : decode cX1_copy_2 1 = .ok (.istore_n 2, 1) := dk_61 (dk_at dksX1_copy_2_0 1 rfl rfl)
theorem dX1_copy_2_2 : decode cX1_copy_2 2 = .ok (.iload_n 2, 1) := dk_28 (dk_at dksX1_copy_2_0 2 rfl rfl)
theorem dX1_copy_2_3 : decode cX1_copy_2 3 = .ok (.aload_n 0, 1) := dk_42 (dk_at dksX1_copy_2_0 3 rfl rfl)
theorem dX1_copy_2_4 : decode cX1_copy_2 4 = .ok (.arraylength, 1) := dk_190 (dk_at dksX1_copy_2_0 4 rfl rfl)
theorem dX1_copy_2_5 : decode cX1_copy_2 5 = .ok (.if_icmp .ge 18, 3) := dk_162 0 18 (dk_at dksX1_copy_2_0 5 rfl rfl)
theorem dX1_copy_2_8 : decode cX1_copy_2 8 = .ok (.aload_n 0, 1) := dk_42 (dk_at dksX1_copy_2_0 8 rfl rfl)
theorem dX1_copy_2_9 : decode cX1_copy_2 9 = .ok (.iload_n 2, 1) := dk_28 (dk_at dksX1_copy_2_0 9 rfl rfl)
theorem dX1_copy_2_10 : decode cX1_copy_2 10 = .ok (.aaload, 1) := dk_50 (dk_at dksX1_copy_2_0 10 rfl rfl)
theorem dX1_copy_2_11 : decode cX1_copy_2 11 = .ok (.aload_n 1, 1) := dk_43 (dk_at dksX1_copy_2_0 11 rfl rfl)
theorem dX1_copy_2_12 : decode cX1_copy_2 12 = .ok (.iload_n 2, 1) := dk_28 (dk_at dksX1_copy_2_0 12 rfl rfl)
theorem dX1_copy_2_13 : decode cX1_copy_2 13 = .ok (.aaload, 1) := dk_50 (dk_at dksX1_copy_2_0 13 rfl rfl)
theorem dX1_copy_2_14 : decode cX1_copy_2 14 = .ok (.invokestatic 41, 3) := dk_184 0 41 (dk_at dksX1_copy_2_0 14 rfl rfl)
theorem dX1_copy_2_17 : decode cX1_copy_2 17 = .ok (.iinc 2 1, 3) := dk_132 2 1 (dk_at dksX1_copy_2_0 17 rfl rfl)
theorem dX1_copy_2_20 : decode cX1_copy_2 20 = .ok (.goto (-18), 3) := dk_167 255 238 (dk_at dksX1_copy_2_0 20 rfl rfl)
theorem dX1_copy_2_23 : decode cX1_copy_2 23 = .ok (.return_, 1) := dk_177 (dk_at dksX1_copy_2_0 23 rfl rfl)
abbrev cX1_tells : ByteArray := prog_13_method_6_code
def yX1_tells : MethodName := ⟨RX1, "tells", "(II)V"⟩
def dkwX1_tells_1 : List UInt8 := [50, 27, 28, 79, 132, 3, 1, 167, 255, 234, 177]
abbrev dktX1_tells_1 : List UInt8 := dkwX1_tells_1 ++ []
def dkwX1_tells_0 : List UInt8 := [42, 180, 0, 15, 27, 28, 79, 3, 62, 29, 42, 180, 0, 9, 6, 46, 162, 0, 18, 42, 180, 0, 26, 29]
abbrev dktX1_tells_0 : List UInt8 := dkwX1_tells_0 ++ dktX1_tells_1
theorem dksX1_tells_0 : cX1_tells.data.toList.drop 0 = dktX1_tells_0 := by decide +kernel
theorem dksX1_tells_1 : cX1_tells.data.toList.drop 24 = dktX1_tells_1 := dk_seg dksX1_tells_0 24 rfl rfl
theorem dX1_tells_0 : decode cX1_tells 0 = .ok (.aload_n 0, 1) := dk_42 (dk_at dksX1_tells_0 0 rfl rfl)
theorem dX1_tells_1 : decode cX1_tells 1 = .ok (.getfield 15, 3) := dk_180 0 15 (dk_at dksX1_tells_0 1 rfl rfl)
theorem dX1_tells_4 : decode cX1_tells 4 = .ok (.iload_n 1, 1) := dk_27 (dk_at dksX1_tells_0 4 rfl rfl)
theorem dX1_tells_5 : decode cX1_tells 5 = .ok (.iload_n 2, 1) := dk_28 (dk_at dksX1_tells_0 5 rfl rfl)
theorem dX1_tells_6 : decode cX1_tells 6 = .ok (.iastore, 1) := dk_79 (dk_at dksX1_tells_0 6 rfl rfl)
theorem dX1_tells_7 : decode cX1_tells 7 = .ok (.iconst 0, 1) := dk_3 (dk_at dksX1_tells_0 7 rfl rfl)
theorem dX1_tells_8 : decode cX1_tells 8 = .ok (.istore_n 3, 1) := dk_62 (dk_at dksX1_tells_0 8 rfl rfl)
theorem dX1_tells_9 : decode cX1_tells 9 = .ok (.iload_n 3, 1) := dk_29 (dk_at dksX1_tells_0 9 rfl rfl)
theorem dX1_tells_10 : decode cX1_tells 10 = .ok (.aload_n 0, 1) := dk_42 (dk_at dksX1_tells_0 10 rfl rfl)
theorem dX1_tells_11 : decode cX1_tells 11 = .ok (.getfield 9, 3) := dk_180 0 9 (dk_at dksX1_tells_0 11 rfl rfl)
theorem dX1_tells_14 : decode cX1_tells 14 = .ok (.iconst 3, 1) := dk_6 (dk_at dksX1_tells_0 14 rfl rfl)
theorem dX1_tells_15 : decode cX1_tells 15 = .ok (.iaload, 1) := dk_46 (dk_at dksX1_tells_0 15 rfl rfl)
theorem dX1_tells_16 : decode cX1_tells 16 = .ok (.if_icmp .ge 18, 3) := dk_162 0 18 (dk_at dksX1_tells_0 16 rfl rfl)
theorem dX1_tells_19 : decode cX1_tells 19 = .ok (.aload_n 0, 1) := dk_42 (dk_at dksX1_tells_0 19 rfl rfl)
theorem dX1_tells_20 : decode cX1_tells 20 = .ok (.getfield 26, 3) := dk_180 0 26 (dk_at dksX1_tells_0 20 rfl rfl)
theorem dX1_tells_23 : decode cX1_tells 23 = .ok (.iload_n 3, 1) := dk_29 (dk_at dksX1_tells_0 23 rfl rfl)
theorem dX1_tells_24 : decode cX1_tells 24 = .ok (.aaload, 1) := dk_50 (dk_at dksX1_tells_1 0 rfl rfl)
theorem dX1_tells_25 : decode cX1_tells 25 = .ok (.iload_n 1, 1) := dk_27 (dk_at dksX1_tells_1 1 rfl rfl)
theorem dX1_tells_26 : decode cX1_tells 26 = .ok (.iload_n 2, 1) := dk_28 (dk_at dksX1_tells_1 2 rfl rfl)
theorem dX1_tells_27 : decode cX1_tells 27 = .ok (.iastore, 1) := dk_79 (dk_at dksX1_tells_1 3 rfl rfl)
theorem dX1_tells_28 : decode cX1_tells 28 = .ok (.iinc 3 1, 3) := dk_132 3 1 (dk_at dksX1_tells_1 4 rfl rfl)
theorem dX1_tells_31 : decode cX1_tells 31 = .ok (.goto (-22), 3) := dk_167 255 234 (dk_at dksX1_tells_1 7 rfl rfl)
theorem dX1_tells_34 : decode cX1_tells 34 = .ok (.return_, 1) := dk_177 (dk_at dksX1_tells_1 10 rfl rfl)
abbrev cX1_keeps : ByteArray := prog_13_method_5_code
def yX1_keeps : MethodName := ⟨RX1, "keeps", "()V"⟩
def dkwX1_keeps_3 : List UInt8 := [180, 0, 9, 6, 92, 46, 4, 96, 79, 177]
abbrev dktX1_keeps_3 : List UInt8 := dkwX1_keeps_3 ++ []
def dkwX1_keeps_2 : List UInt8 := [46, 4, 100, 79, 42, 180, 0, 15, 42, 180, 0, 26, 42, 180, 0, 9, 6, 46, 50, 184, 0, 41, 42]
abbrev dktX1_keeps_2 : List UInt8 := dkwX1_keeps_2 ++ dktX1_keeps_3
def dkwX1_keeps_1 : List UInt8 := [50, 42, 180, 0, 26, 27, 4, 100, 50, 184, 0, 41, 132, 1, 1, 167, 255, 230, 42, 180, 0, 9, 6, 92]
abbrev dktX1_keeps_1 : List UInt8 := dkwX1_keeps_1 ++ dktX1_keeps_2
def dkwX1_keeps_0 : List UInt8 := [42, 180, 0, 9, 6, 46, 16, 30, 160, 0, 44, 4, 60, 27, 16, 30, 162, 0, 26, 42, 180, 0, 26, 27]
abbrev dktX1_keeps_0 : List UInt8 := dkwX1_keeps_0 ++ dktX1_keeps_1
theorem dksX1_keeps_0 : cX1_keeps.data.toList.drop 0 = dktX1_keeps_0 := by decide +kernel
theorem dksX1_keeps_1 : cX1_keeps.data.toList.drop 24 = dktX1_keeps_1 := dk_seg dksX1_keeps_0 24 rfl rfl
theorem dksX1_keeps_2 : cX1_keeps.data.toList.drop 48 = dktX1_keeps_2 := dk_seg dksX1_keeps_1 24 rfl rfl
theorem dksX1_keeps_3 : cX1_keeps.data.toList.drop 71 = dktX1_keeps_3 := dk_seg dksX1_keeps_2 23 rfl rfl
theorem dX1_keeps_0 : decode cX1_keeps 0 = .ok (.aload_n 0, 1) := dk_42 (dk_at dksX1_keeps_0 0 rfl rfl)
theorem dX1_keeps_1 : decode cX1_keeps 1 = .ok (.getfield 9, 3) := dk_180 0 9 (dk_at dksX1_keeps_0 1 rfl rfl)
theorem dX1_keeps_4 : decode cX1_keeps 4 = .ok (.iconst 3, 1) := dk_6 (dk_at dksX1_keeps_0 4 rfl rfl)
theorem dX1_keeps_5 : decode cX1_keeps 5 = .ok (.iaload, 1) := dk_46 (dk_at dksX1_keeps_0 5 rfl rfl)
theorem dX1_keeps_6 : decode cX1_keeps 6 = .ok (.bipush 30, 2) := dk_16 30 (dk_at dksX1_keeps_0 6 rfl rfl)
theorem dX1_keeps_8 : decode cX1_keeps 8 = .ok (.if_icmp .ne 44, 3) := dk_160 0 44 (dk_at dksX1_keeps_0 8 rfl rfl)
theorem dX1_keeps_11 : decode cX1_keeps 11 = .ok (.iconst 1, 1) := dk_4 (dk_at dksX1_keeps_0 11 rfl rfl)
theorem dX1_keeps_12 : decode cX1_keeps 12 = .ok (.istore_n 1, 1) := dk_60 (dk_at dksX1_keeps_0 12 rfl rfl)
theorem dX1_keeps_13 : decode cX1_keeps 13 = .ok (.iload_n 1, 1) := dk_27 (dk_at dksX1_keeps_0 13 rfl rfl)
theorem dX1_keeps_14 : decode cX1_keeps 14 = .ok (.bipush 30, 2) := dk_16 30 (dk_at dksX1_keeps_0 14 rfl rfl)
theorem dX1_keeps_16 : decode cX1_keeps 16 = .ok (.if_icmp .ge 26, 3) := dk_162 0 26 (dk_at dksX1_keeps_0 16 rfl rfl)
theorem dX1_keeps_19 : decode cX1_keeps 19 = .ok (.aload_n 0, 1) := dk_42 (dk_at dksX1_keeps_0 19 rfl rfl)
theorem dX1_keeps_20 : decode cX1_keeps 20 = .ok (.getfield 26, 3) := dk_180 0 26 (dk_at dksX1_keeps_0 20 rfl rfl)
theorem dX1_keeps_23 : decode cX1_keeps 23 = .ok (.iload_n 1, 1) := dk_27 (dk_at dksX1_keeps_0 23 rfl rfl)
theorem dX1_keeps_24 : decode cX1_keeps 24 = .ok (.aaload, 1) := dk_50 (dk_at dksX1_keeps_1 0 rfl rfl)
theorem dX1_keeps_25 : decode cX1_keeps 25 = .ok (.aload_n 0, 1) := dk_42 (dk_at dksX1_keeps_1 1 rfl rfl)
theorem dX1_keeps_26 : decode cX1_keeps 26 = .ok (.getfield 26, 3) := dk_180 0 26 (dk_at dksX1_keeps_1 2 rfl rfl)
theorem dX1_keeps_29 : decode cX1_keeps 29 = .ok (.iload_n 1, 1) := dk_27 (dk_at dksX1_keeps_1 5 rfl rfl)
theorem dX1_keeps_30 : decode cX1_keeps 30 = .ok (.iconst 1, 1) := dk_4 (dk_at dksX1_keeps_1 6 rfl rfl)
theorem dX1_keeps_31 : decode cX1_keeps 31 = .ok (.isub, 1) := dk_100 (dk_at dksX1_keeps_1 7 rfl rfl)
theorem dX1_keeps_32 : decode cX1_keeps 32 = .ok (.aaload, 1) := dk_50 (dk_at dksX1_keeps_1 8 rfl rfl)
theorem dX1_keeps_33 : decode cX1_keeps 33 = .ok (.invokestatic 41, 3) := dk_184 0 41 (dk_at dksX1_keeps_1 9 rfl rfl)
theorem dX1_keeps_36 : decode cX1_keeps 36 = .ok (.iinc 1 1, 3) := dk_132 1 1 (dk_at dksX1_keeps_1 12 rfl rfl)
theorem dX1_keeps_39 : decode cX1_keeps 39 = .ok (.goto (-26), 3) := dk_167 255 230 (dk_at dksX1_keeps_1 15 rfl rfl)
theorem dX1_keeps_42 : decode cX1_keeps 42 = .ok (.aload_n 0, 1) := dk_42 (dk_at dksX1_keeps_1 18 rfl rfl)
theorem dX1_keeps_43 : decode cX1_keeps 43 = .ok (.getfield 9, 3) := dk_180 0 9 (dk_at dksX1_keeps_1 19 rfl rfl)
theorem dX1_keeps_46 : decode cX1_keeps 46 = .ok (.iconst 3, 1) := dk_6 (dk_at dksX1_keeps_1 22 rfl rfl)
theorem dX1_keeps_47 : decode cX1_keeps 47 = .ok (.dup2, 1) := dk_92 (dk_at dksX1_keeps_1 23 rfl rfl)
theorem dX1_keeps_48 : decode cX1_keeps 48 = .ok (.iaload, 1) := dk_46 (dk_at dksX1_keeps_2 0 rfl rfl)
theorem dX1_keeps_49 : decode cX1_keeps 49 = .ok (.iconst 1, 1) := dk_4 (dk_at dksX1_keeps_2 1 rfl rfl)
theorem dX1_keeps_50 : decode cX1_keeps 50 = .ok (.isub, 1) := dk_100 (dk_at dksX1_keeps_2 2 rfl rfl)
theorem dX1_keeps_51 : decode cX1_keeps 51 = .ok (.iastore, 1) := dk_79 (dk_at dksX1_keeps_2 3 rfl rfl)
theorem dX1_keeps_52 : decode cX1_keeps 52 = .ok (.aload_n 0, 1) := dk_42 (dk_at dksX1_keeps_2 4 rfl rfl)
theorem dX1_keeps_53 : decode cX1_keeps 53 = .ok (.getfield 15, 3) := dk_180 0 15 (dk_at dksX1_keeps_2 5 rfl rfl)
theorem dX1_keeps_56 : decode cX1_keeps 56 = .ok (.aload_n 0, 1) := dk_42 (dk_at dksX1_keeps_2 8 rfl rfl)
theorem dX1_keeps_57 : decode cX1_keeps 57 = .ok (.getfield 26, 3) := dk_180 0 26 (dk_at dksX1_keeps_2 9 rfl rfl)
theorem dX1_keeps_60 : decode cX1_keeps 60 = .ok (.aload_n 0, 1) := dk_42 (dk_at dksX1_keeps_2 12 rfl rfl)
theorem dX1_keeps_61 : decode cX1_keeps 61 = .ok (.getfield 9, 3) := dk_180 0 9 (dk_at dksX1_keeps_2 13 rfl rfl)
theorem dX1_keeps_64 : decode cX1_keeps 64 = .ok (.iconst 3, 1) := dk_6 (dk_at dksX1_keeps_2 16 rfl rfl)
theorem dX1_keeps_65 : decode cX1_keeps 65 = .ok (.iaload, 1) := dk_46 (dk_at dksX1_keeps_2 17 rfl rfl)
theorem dX1_keeps_66 : decode cX1_keeps 66 = .ok (.aaload, 1) := dk_50 (dk_at dksX1_keeps_2 18 rfl rfl)
theorem dX1_keeps_67 : decode cX1_keeps 67 = .ok (.invokestatic 41, 3) := dk_184 0 41 (dk_at dksX1_keeps_2 19 rfl rfl)
theorem dX1_keeps_70 : decode cX1_keeps 70 = .ok (.aload_n 0, 1) := dk_42 (dk_at dksX1_keeps_2 22 rfl rfl)
theorem dX1_keeps_71 : decode cX1_keeps 71 = .ok (.getfield 9, 3) := dk_180 0 9 (dk_at dksX1_keeps_3 0 rfl rfl)
theorem dX1_keeps_74 : decode cX1_keeps 74 = .ok (.iconst 3, 1) := dk_6 (dk_at dksX1_keeps_3 3 rfl rfl)
theorem dX1_keeps_75 : decode cX1_keeps 75 = .ok (.dup2, 1) := dk_92 (dk_at dksX1_keeps_3 4 rfl rfl)
theorem dX1_keeps_76 : decode cX1_keeps 76 = .ok (.iaload, 1) := dk_46 (dk_at dksX1_keeps_3 5 rfl rfl)
theorem dX1_keeps_77 : decode cX1_keeps 77 = .ok (.iconst 1, 1) := dk_4 (dk_at dksX1_keeps_3 6 rfl rfl)
theorem dX1_keeps_78 : decode cX1_keeps 78 = .ok (.iadd, 1) := dk_96 (dk_at dksX1_keeps_3 7 rfl rfl)
theorem dX1_keeps_79 : decode cX1_keeps 79 = .ok (.iastore, 1) := dk_79 (dk_at dksX1_keeps_3 8 rfl rfl)
theorem dX1_keeps_80 : decode cX1_keeps 80 = .ok (.return_, 1) := dk_177 (dk_at dksX1_keeps_3 9 rfl rfl)
abbrev cX1_clears : ByteArray := prog_13_method_8_code
def yX1_clears : MethodName := ⟨RX1, "clears", "(I)I"⟩
def dkwX1_clears_0 : List UInt8 := [42, 180, 0, 9, 27, 3, 79, 3, 172]
abbrev dktX1_clears_0 : List UInt8 := dkwX1_clears_0 ++ []
theorem dksX1_clears_0 : cX1_clears.data.toList.drop 0 = dktX1_clears_0 := by decide +kernel
theorem dX1_clears_0 : decode cX1_clears 0 = .ok (.aload_n 0, 1) := dk_42 (dk_at dksX1_clears_0 0 rfl rfl)
theorem dX1_clears_1 : decode cX1_clears 1 = .ok (.getfield 9, 3) := dk_180 0 9 (dk_at dksX1_clears_0 1 rfl rfl)
theorem dX1_clears_4 : decode cX1_clears 4 = .ok (.iload_n 1, 1) := dk_27 (dk_at dksX1_clears_0 4 rfl rfl)
theorem dX1_clears_5 : decode cX1_clears 5 = .ok (.iconst 0, 1) := dk_3 (dk_at dksX1_clears_0 5 rfl rfl)
theorem dX1_clears_6 : decode cX1_clears 6 = .ok (.iastore, 1) := dk_79 (dk_at dksX1_clears_0 6 rfl rfl)
theorem dX1_clears_7 : decode cX1_clears 7 = .ok (.iconst 0, 1) := dk_3 (dk_at dksX1_clears_0 7 rfl rfl)
theorem dX1_clears_8 : decode cX1_clears 8 = .ok (.ireturn, 1) := dk_172 (dk_at dksX1_clears_0 8 rfl rfl)
abbrev cX1_adds : ByteArray := prog_13_method_7_code
def yX1_adds : MethodName := ⟨RX1, "adds", "([[II[I)I"⟩
def dkwX1_adds_1 : List UInt8 := [180, 0, 9, 28, 46, 172]
abbrev dktX1_adds_1 : List UInt8 := dkwX1_adds_1 ++ []
def dkwX1_adds_0 : List UInt8 := [45, 43, 42, 180, 0, 9, 28, 46, 50, 184, 0, 41, 42, 180, 0, 9, 28, 92, 46, 4, 96, 79, 42]
abbrev dktX1_adds_0 : List UInt8 := dkwX1_adds_0 ++ dktX1_adds_1
theorem dksX1_adds_0 : cX1_adds.data.toList.drop 0 = dktX1_adds_0 := by decide +kernel
theorem dksX1_adds_1 : cX1_adds.data.toList.drop 23 = dktX1_adds_1 := dk_seg dksX1_adds_0 23 rfl rfl
theorem dX1_adds_0 : decode cX1_adds 0 = .ok (.aload_n 3, 1) := dk_45 (dk_at dksX1_adds_0 0 rfl rfl)
theorem dX1_adds_1 : decode cX1_adds 1 = .ok (.aload_n 1, 1) := dk_43 (dk_at dksX1_adds_0 1 rfl rfl)
theorem dX1_adds_2 : decode cX1_adds 2 = .ok (.aload_n 0, 1) := dk_42 (dk_at dksX1_adds_0 2 rfl rfl)
theorem dX1_adds_3 : decode cX1_adds 3 = .ok (.getfield 9, 3) := dk_180 0 9 (dk_at dksX1_adds_0 3 rfl rfl)
theorem dX1_adds_6 : decode cX1_adds 6 = .ok (.iload_n 2, 1) := dk_28 (dk_at dksX1_adds_0 6 rfl rfl)
theorem dX1_adds_7 : decode cX1_adds 7 = .ok (.iaload, 1) := dk_46 (dk_at dksX1_adds_0 7 rfl rfl)
theorem dX1_adds_8 : decode cX1_adds 8 = .ok (.aaload, 1) := dk_50 (dk_at dksX1_adds_0 8 rfl rfl)
theorem dX1_adds_9 : decode cX1_adds 9 = .ok (.invokestatic 41, 3) := dk_184 0 41 (dk_at dksX1_adds_0 9 rfl rfl)
theorem dX1_adds_12 : decode cX1_adds 12 = .ok (.aload_n 0, 1) := dk_42 (dk_at dksX1_adds_0 12 rfl rfl)
theorem dX1_adds_13 : decode cX1_adds 13 = .ok (.getfield 9, 3) := dk_180 0 9 (dk_at dksX1_adds_0 13 rfl rfl)
theorem dX1_adds_16 : decode cX1_adds 16 = .ok (.iload_n 2, 1) := dk_28 (dk_at dksX1_adds_0 16 rfl rfl)
theorem dX1_adds_17 : decode cX1_adds 17 = .ok (.dup2, 1) := dk_92 (dk_at dksX1_adds_0 17 rfl rfl)
theorem dX1_adds_18 : decode cX1_adds 18 = .ok (.iaload, 1) := dk_46 (dk_at dksX1_adds_0 18 rfl rfl)
theorem dX1_adds_19 : decode cX1_adds 19 = .ok (.iconst 1, 1) := dk_4 (dk_at dksX1_adds_0 19 rfl rfl)
theorem dX1_adds_20 : decode cX1_adds 20 = .ok (.iadd, 1) := dk_96 (dk_at dksX1_adds_0 20 rfl rfl)
theorem dX1_adds_21 : decode cX1_adds 21 = .ok (.iastore, 1) := dk_79 (dk_at dksX1_adds_0 21 rfl rfl)
theorem dX1_adds_22 : decode cX1_adds 22 = .ok (.aload_n 0, 1) := dk_42 (dk_at dksX1_adds_0 22 rfl rfl)
theorem dX1_adds_23 : decode cX1_adds 23 = .ok (.getfield 9, 3) := dk_180 0 9 (dk_at dksX1_adds_1 0 rfl rfl)
theorem dX1_adds_26 : decode cX1_adds 26 = .ok (.iload_n 2, 1) := dk_28 (dk_at dksX1_adds_1 3 rfl rfl)
theorem dX1_adds_27 : decode cX1_adds 27 = .ok (.iaload, 1) := dk_46 (dk_at dksX1_adds_1 4 rfl rfl)
theorem dX1_adds_28 : decode cX1_adds 28 = .ok (.ireturn, 1) := dk_172 (dk_at dksX1_adds_1 5 rfl rfl)
theorem q139 : (Jvm.Cond.initialized "ShutDays$State") ∈ lw_all := lw_g (lw_at lw_m1 2 rfl) rfl
theorem q181 : (Jvm.Cond.instantiable "ShutDays$State" (6 : Nat)) ∈ lw_all := lw_g (lw_at lw_m1 44 rfl) rfl
theorem q183 : (Jvm.Cond.instanceMethod ({ cls := "ShutDays$State", name := "<init>", desc := "()V" } : Jvm.MethodName)) ∈ lw_all := lw_g (lw_at lw_m1 46 rfl) rfl
theorem q184 : (Jvm.Cond.code ({ cls := "ShutDays$State", name := "<init>", desc := "()V" } : Jvm.MethodName) prog_13_method_1_code (1 : Nat) (Option.none : Option Jvm.ClassFile.FieldType)) ∈ lw_all := lw_g (lw_at lw_m1 47 rfl) rfl
theorem q185 : (Jvm.Cond.methodLink "ShutDays$State" (3 : Nat) ({ cls := "java/lang/Object", name := "<init>", desc := "()V" } : Jvm.MethodName)) ∈ lw_all := lw_g (lw_at lw_m1 48 rfl) rfl
theorem q186 : (Jvm.Cond.classLink "ShutDays$State" (18 : Nat) "[[I") ∈ lw_all := lw_g (lw_at lw_m1 49 rfl) rfl
theorem q188 : (Jvm.Cond.classLink "ShutDays$State" (29 : Nat) "ShutDays$Text") ∈ lw_all := lw_g (lw_at lw_m1 51 rfl) rfl
theorem q190 : (Jvm.Cond.fieldLink "ShutDays$State" (9 : Nat) "ShutDays$State" "n" "[I") ∈ lw_all := lw_g (lw_at lw_m1 53 rfl) rfl
theorem q192 : (Jvm.Cond.fieldLink "ShutDays$State" (15 : Nat) "ShutDays$State" "row" "[I") ∈ lw_all := lw_g (lw_at lw_m1 55 rfl) rfl
theorem q194 : (Jvm.Cond.fieldLink "ShutDays$State" (20 : Nat) "ShutDays$State" "seen" "[[I") ∈ lw_all := lw_g (lw_at lw_m1 57 rfl) rfl
theorem q196 : (Jvm.Cond.fieldLink "ShutDays$State" (23 : Nat) "ShutDays$State" "gossip" "[[I") ∈ lw_all := lw_g (lw_at lw_m1 59 rfl) rfl
theorem q198 : (Jvm.Cond.fieldLink "ShutDays$State" (26 : Nat) "ShutDays$State" "step" "[[I") ∈ lw_all := lw_g (lw_at lw_m1 61 rfl) rfl
theorem q200 : (Jvm.Cond.fieldLink "ShutDays$State" (31 : Nat) "ShutDays$State" "text" "[LShutDays$Text;") ∈ lw_all := lw_g (lw_at lw_m1 63 rfl) rfl
theorem q202 : (Jvm.Cond.laysFinal "ShutDays$State" "ShutDays$State" "n" "[I") ∈ lw_all := lw_g (lw_at lw_m1 65 rfl) rfl
theorem q203 : (Jvm.Cond.soleField "ShutDays$State" "n") ∈ lw_all := lw_g (lw_at lw_m1 66 rfl) rfl
theorem q204 : (Jvm.Cond.laysFinal "ShutDays$State" "ShutDays$State" "row" "[I") ∈ lw_all := lw_g (lw_at lw_m1 67 rfl) rfl
theorem q205 : (Jvm.Cond.soleField "ShutDays$State" "row") ∈ lw_all := lw_g (lw_at lw_m1 68 rfl) rfl
theorem q206 : (Jvm.Cond.laysFinal "ShutDays$State" "ShutDays$State" "seen" "[[I") ∈ lw_all := lw_g (lw_at lw_m1 69 rfl) rfl
theorem q207 : (Jvm.Cond.soleField "ShutDays$State" "seen") ∈ lw_all := lw_g (lw_at lw_m1 70 rfl) rfl
theorem q208 : (Jvm.Cond.laysFinal "ShutDays$State" "ShutDays$State" "gossip" "[[I") ∈ lw_all := lw_g (lw_at lw_m1 71 rfl) rfl
theorem q209 : (Jvm.Cond.soleField "ShutDays$State" "gossip") ∈ lw_all := lw_g (lw_at lw_m1 72 rfl) rfl
theorem q210 : (Jvm.Cond.laysFinal "ShutDays$State" "ShutDays$State" "step" "[[I") ∈ lw_all := lw_g (lw_at lw_m1 73 rfl) rfl
theorem q211 : (Jvm.Cond.soleField "ShutDays$State" "step") ∈ lw_all := lw_g (lw_at lw_m1 74 rfl) rfl
theorem q212 : (Jvm.Cond.laysFinal "ShutDays$State" "ShutDays$State" "text" "[LShutDays$Text;") ∈ lw_all := lw_g (lw_at lw_m1 75 rfl) rfl
theorem q213 : (Jvm.Cond.soleField "ShutDays$State" "text") ∈ lw_all := lw_g (lw_at lw_m1 76 rfl) rfl
theorem q214 : (Jvm.Cond.superclass "ShutDays$State" "java/lang/Object") ∈ lw_all := lw_g (lw_at lw_m1 77 rfl) rfl
theorem q217 : (Jvm.Cond.instanceMethod ({ cls := "ShutDays$State", name := "be", desc := "(LShutDays$State;)V" } : Jvm.MethodName)) ∈ lw_all := lw_g (lw_at lw_m1 80 rfl) rfl
theorem q218 : (Jvm.Cond.selects "ShutDays$State" ({ cls := "ShutDays$State", name := "be", desc := "(LShutDays$State;)V" } : Jvm.MethodName) ({ cls := "ShutDays$State", name := "be", desc := "(LShutDays$State;)V" } : Jvm.MethodName)) ∈ lw_all := lw_g (lw_at lw_m1 81 rfl) rfl
theorem q219 : (Jvm.Cond.code ({ cls := "ShutDays$State", name := "be", desc := "(LShutDays$State;)V" } : Jvm.MethodName) prog_13_method_4_code (2 : Nat) (Option.none : Option Jvm.ClassFile.FieldType)) ∈ lw_all := lw_g (lw_at lw_m1 82 rfl) rfl
theorem q220 : (Jvm.Cond.methodLink "ShutDays$State" (41 : Nat) ({ cls := "ShutDays$State", name := "copy", desc := "([I[I)V" } : Jvm.MethodName)) ∈ lw_all := lw_g (lw_at lw_m1 83 rfl) rfl
theorem q221 : (Jvm.Cond.static ({ cls := "ShutDays$State", name := "copy", desc := "([I[I)V" } : Jvm.MethodName)) ∈ lw_all := lw_g (lw_at lw_m1 84 rfl) rfl
theorem q222 : (Jvm.Cond.code ({ cls := "ShutDays$State", name := "copy", desc := "([I[I)V" } : Jvm.MethodName) prog_13_method_2_code (2 : Nat) (Option.none : Option Jvm.ClassFile.FieldType)) ∈ lw_all := lw_g (lw_at lw_m1 85 rfl) rfl
theorem q223 : (Jvm.Cond.methodLink "ShutDays$State" (35 : Nat) ({ cls := "java/lang/System", name := "arraycopy", desc := "(Ljava/lang/Object;ILjava/lang/Object;II)V" } : Jvm.MethodName)) ∈ lw_all := lw_g (lw_at lw_m1 86 rfl) rfl
theorem q226 : (Jvm.Cond.methodLink "ShutDays$State" (45 : Nat) ({ cls := "ShutDays$State", name := "copy", desc := "([[I[[I)V" } : Jvm.MethodName)) ∈ lw_all := lw_g (lw_at lw_m1 89 rfl) rfl
theorem q227 : (Jvm.Cond.static ({ cls := "ShutDays$State", name := "copy", desc := "([[I[[I)V" } : Jvm.MethodName)) ∈ lw_all := lw_g (lw_at lw_m1 90 rfl) rfl
theorem q228 : (Jvm.Cond.code ({ cls := "ShutDays$State", name := "copy", desc := "([[I[[I)V" } : Jvm.MethodName) prog_13_method_3_code (3 : Nat) (Option.none : Option Jvm.ClassFile.FieldType)) ∈ lw_all := lw_g (lw_at lw_m1 91 rfl) rfl
theorem q278 : (Jvm.Cond.instanceMethod ({ cls := "ShutDays$State", name := "tells", desc := "(II)V" } : Jvm.MethodName)) ∈ lw_all := lw_g (lw_at lw_m1 141 rfl) rfl
theorem q279 : (Jvm.Cond.selects "ShutDays$State" ({ cls := "ShutDays$State", name := "tells", desc := "(II)V" } : Jvm.MethodName) ({ cls := "ShutDays$State", name := "tells", desc := "(II)V" } : Jvm.MethodName)) ∈ lw_all := lw_g (lw_at lw_m1 142 rfl) rfl
theorem q280 : (Jvm.Cond.code ({ cls := "ShutDays$State", name := "tells", desc := "(II)V" } : Jvm.MethodName) prog_13_method_6_code (4 : Nat) (Option.none : Option Jvm.ClassFile.FieldType)) ∈ lw_all := lw_g (lw_at lw_m1 143 rfl) rfl
theorem q690 : (Jvm.Cond.selects "ShutDays$State" ({ cls := "java/lang/Object", name := "getClass", desc := "()Ljava/lang/Class;" } : Jvm.MethodName) ({ cls := "java/lang/Object", name := "getClass", desc := "()Ljava/lang/Class;" } : Jvm.MethodName)) ∈ lw_all := lw_g (lw_at lw_m3 73 rfl) rfl
theorem q851 : (Jvm.Cond.instanceMethod ({ cls := "ShutDays$State", name := "keeps", desc := "()V" } : Jvm.MethodName)) ∈ lw_all := lw_g (lw_at lw_m3 234 rfl) rfl
theorem q852 : (Jvm.Cond.selects "ShutDays$State" ({ cls := "ShutDays$State", name := "keeps", desc := "()V" } : Jvm.MethodName) ({ cls := "ShutDays$State", name := "keeps", desc := "()V" } : Jvm.MethodName)) ∈ lw_all := lw_g (lw_at lw_m3 235 rfl) rfl
theorem q853 : (Jvm.Cond.code ({ cls := "ShutDays$State", name := "keeps", desc := "()V" } : Jvm.MethodName) prog_13_method_5_code (2 : Nat) (Option.none : Option Jvm.ClassFile.FieldType)) ∈ lw_all := lw_g (lw_at lw_m3 236 rfl) rfl
theorem q1182 : (Jvm.Cond.instanceMethod ({ cls := "ShutDays$State", name := "clears", desc := "(I)I" } : Jvm.MethodName)) ∈ lw_all := lw_g (lw_at lw_m5 85 rfl) rfl
theorem q1183 : (Jvm.Cond.selects "ShutDays$State" ({ cls := "ShutDays$State", name := "clears", desc := "(I)I" } : Jvm.MethodName) ({ cls := "ShutDays$State", name := "clears", desc := "(I)I" } : Jvm.MethodName)) ∈ lw_all := lw_g (lw_at lw_m5 86 rfl) rfl
theorem q1184 : (Jvm.Cond.code ({ cls := "ShutDays$State", name := "clears", desc := "(I)I" } : Jvm.MethodName) prog_13_method_8_code (2 : Nat) (Option.some Jvm.ClassFile.FieldType.int)) ∈ lw_all := lw_g (lw_at lw_m5 87 rfl) rfl
theorem q1186 : (Jvm.Cond.instanceMethod ({ cls := "ShutDays$State", name := "adds", desc := "([[II[I)I" } : Jvm.MethodName)) ∈ lw_all := lw_g (lw_at lw_m5 89 rfl) rfl
theorem q1187 : (Jvm.Cond.selects "ShutDays$State" ({ cls := "ShutDays$State", name := "adds", desc := "([[II[I)I" } : Jvm.MethodName) ({ cls := "ShutDays$State", name := "adds", desc := "([[II[I)I" } : Jvm.MethodName)) ∈ lw_all := lw_g (lw_at lw_m5 90 rfl) rfl
theorem q1188 : (Jvm.Cond.code ({ cls := "ShutDays$State", name := "adds", desc := "([[II[I)I" } : Jvm.MethodName) prog_13_method_7_code (4 : Nat) (Option.some Jvm.ClassFile.FieldType.int)) ∈ lw_all := lw_g (lw_at lw_m5 91 rfl) rfl
theorem q2030 : (Jvm.Cond.castable "ShutDays$State" "java/lang/Object") ∈ lw_tbl := lw_at lw_m8 213 rfl
theorem in_X1 : ∀ w ∈ wsX10, w ∈ lw_all := lw_in wsX10 [202, 204, 206, 208, 210, 212] (by decide +kernel) (by decide +kernel)
/-! ShutDays$Tokens -/
set_option maxRecDepth 100000
def RX3 : String := "ShutDays$Tokens"
def TX3 : u_T := fun k => match k with
  | 0 => ("ShutDays$Tokens", "text", "[B", true)
  | 1 => ("ShutDays$Tokens", "size", "I", true)
  | 2 => ("ShutDays$Tokens", "at", "I", false)
  | 3 => ("ShutDays$Tokens", "token", "I", false)
  | 4 => ("ShutDays$Tokens", "sort", "I", false)
  | 5 => ("ShutDays$Tokens", "number", "I", false)
  | 6 => ("ShutDays$Tokens", "open", "I", false)
  | _ => ("ShutDays$Tokens", "kind", "I", false)
def tyX3 : Nat → FieldType := fun k => match k with
  | 0 => .array .byte
  | 1 => .int
  | 2 => .int
  | 3 => .int
  | 4 => .int
  | 5 => .int
  | 6 => .int
  | _ => .int
abbrev wsX30 : List Cond := u_ws RX3 TX3 8
theorem nmX3 : ∀ a, a < 8 → ∀ b, b < 8 → a ≠ b → (TX3 a).2.1 ≠ (TX3 b).2.1 := by decide +kernel
theorem tyX3_ok : ∀ k, k < 8 → parseFieldDescriptor (TX3 k).2.2.1 = some (tyX3 k) := by decide +kernel
abbrev cX3_init : ByteArray := prog_16_method_1_code
def yX3_init : MethodName := ⟨RX3, "<init>", "([BI)V"⟩
def dkwX3_init_0 : List UInt8 := [42, 183, 0, 3, 42, 43, 181, 0, 9, 42, 28, 181, 0, 15, 177]
abbrev dktX3_init_0 : List UInt8 := dkwX3_init_0 ++ []
theorem dksX3_init_0 : cX3_init.data.toList.drop 0 = dktX3_init_0 := by decide +kernel
theorem dX3_init_0 : decode cX3_init 0 = .ok (.aload_n 0, 1) := dk_42 (dk_at dksX3_init_0 0 rfl rfl)
theorem dX3_init_1 : decode cX3_init 1 = .ok (.invokespecial 3, 3) := dk_183 0 3 (dk_at dksX3_init_0 1 rfl rfl)
theorem dX3_init_4 : decode cX3_init 4 = .ok (.aload_n 0, 1) := dk_42 (dk_at dksX3_init_0 4 rfl rfl)
theorem dX3_init_5 : decode cX3_init 5 = .ok (.aload_n 1, 1) := dk_43 (dk_at dksX3_init_0 5 rfl rfl)
theorem dX3_init_6 : decode cX3_init 6 = .ok (.putfield 9, 3) := dk_181 0 9 (dk_at dksX3_init_0 6 rfl rfl)
theorem dX3_init_9 : decode cX3_init 9 = .ok (.aload_n 0, 1) := dk_42 (dk_at dksX3_init_0 9 rfl rfl)
theorem dX3_init_10 : decode cX3_init 10 = .ok (.iload_n 2, 1) := dk_28 (dk_at dksX3_init_0 10 rfl rfl)
theorem dX3_init_11 : decode cX3_init 11 = .ok (.putfield 15, 3) := dk_181 0 15 (dk_at dksX3_init_0 11 rfl rfl)
theorem dX3_init_14 : decode cX3_init 14 = .ok (.return_, 1) := dk_177 (dk_at dksX3_init_0 14 rfl rfl)
abbrev cX3_read : ByteArray := prog_16_method_10_code
def yX3_read : MethodName := ⟨RX3, "read", "()LShutDays$Text;"⟩
def dkwX3_read_9 : List UInt8 := [87, 42, 16, 59, 182, 0, 122, 43, 89, 180, 0, 97, 4, 96, 181, 0, 97, 167, 255, 40, 43, 176]
abbrev dktX3_read_9 : List UInt8 := dkwX3_read_9 ++ []
def dkwX3_read_8 : List UInt8 := [182, 0, 104, 181, 0, 93, 167, 0, 19, 43, 180, 0, 108, 42, 43, 180, 0, 97, 182, 0, 112, 182, 0, 116]
abbrev dktX3_read_8 : List UInt8 := dkwX3_read_8 ++ dktX3_read_9
def dkwX3_read_7 : List UInt8 := [43, 42, 182, 0, 100, 181, 0, 90, 167, 0, 40, 42, 180, 0, 83, 17, 0, 202, 160, 0, 14, 43, 42]
abbrev dktX3_read_7 : List UInt8 := dkwX3_read_7 ++ dktX3_read_8
def dkwX3_read_6 : List UInt8 := [160, 0, 14, 43, 42, 182, 0, 100, 181, 0, 86, 167, 0, 61, 42, 180, 0, 83, 17, 0, 201, 160, 0, 14]
abbrev dktX3_read_6 : List UInt8 := dkwX3_read_6 ++ dktX3_read_7
def dkwX3_read_5 : List UInt8 := [16, 24, 160, 0, 10, 42, 16, 6, 182, 0, 70, 191, 42, 182, 0, 74, 42, 180, 0, 83, 17, 0, 200]
abbrev dktX3_read_5 : List UInt8 := dkwX3_read_5 ++ dktX3_read_6
def dkwX3_read_4 : List UInt8 := [17, 0, 202, 160, 0, 16, 43, 180, 0, 93, 198, 0, 9, 42, 7, 182, 0, 70, 191, 43, 180, 0, 97]
abbrev dktX3_read_4 : List UInt8 := dkwX3_read_4 ++ dktX3_read_5
def dkwX3_read_3 : List UInt8 := [199, 0, 37, 42, 180, 0, 83, 17, 0, 201, 160, 0, 10, 43, 180, 0, 90, 199, 0, 20, 42, 180, 0, 83]
abbrev dktX3_read_3 : List UInt8 := dkwX3_read_3 ++ dktX3_read_4
def dkwX3_read_2 : List UInt8 := [191, 42, 42, 180, 0, 25, 181, 0, 83, 42, 180, 0, 83, 17, 0, 200, 160, 0, 10, 43, 180, 0, 86]
abbrev dktX3_read_2 : List UInt8 := dkwX3_read_2 ++ dktX3_read_3
def dkwX3_read_1 : List UInt8 := [180, 0, 25, 17, 0, 200, 161, 0, 13, 42, 180, 0, 25, 17, 0, 208, 164, 0, 9, 42, 4, 182, 0, 70]
abbrev dktX3_read_1 : List UInt8 := dkwX3_read_1 ++ dktX3_read_2
def dkwX3_read_0 : List UInt8 := [187, 0, 80, 89, 183, 0, 82, 76, 42, 182, 0, 74, 42, 180, 0, 25, 17, 1, 45, 159, 0, 212, 42]
abbrev dktX3_read_0 : List UInt8 := dkwX3_read_0 ++ dktX3_read_1
theorem dksX3_read_0 : cX3_read.data.toList.drop 0 = dktX3_read_0 := by decide +kernel
theorem dksX3_read_1 : cX3_read.data.toList.drop 23 = dktX3_read_1 := dk_seg dksX3_read_0 23 rfl rfl
theorem dksX3_read_2 : cX3_read.data.toList.drop 47 = dktX3_read_2 := dk_seg dksX3_read_1 24 rfl rfl
theorem dksX3_read_3 : cX3_read.data.toList.drop 70 = dktX3_read_3 := dk_seg dksX3_read_2 23 rfl rfl
theorem dksX3_read_4 : cX3_read.data.toList.drop 94 = dktX3_read_4 := dk_seg dksX3_read_3 24 rfl rfl
theorem dksX3_read_5 : cX3_read.data.toList.drop 117 = dktX3_read_5 := dk_seg dksX3_read_4 23 rfl rfl
theorem dksX3_read_6 : cX3_read.data.toList.drop 140 = dktX3_read_6 := dk_seg dksX3_read_5 23 rfl rfl
theorem dksX3_read_7 : cX3_read.data.toList.drop 164 = dktX3_read_7 := dk_seg dksX3_read_6 24 rfl rfl
theorem dksX3_read_8 : cX3_read.data.toList.drop 187 = dktX3_read_8 := dk_seg dksX3_read_7 23 rfl rfl
theorem dksX3_read_9 : cX3_read.data.toList.drop 211 = dktX3_read_9 := dk_seg dksX3_read_8 24 rfl rfl
theorem dX3_read_0 : decode cX3_read 0 = .ok (.new 80, 3) := dk_187 0 80 (dk_at dksX3_read_0 0 rfl rfl)
theorem dX3_read_3 : decode cX3_read 3 = .ok (.dup, 1) := dk_89 (dk_at dksX3_read_0 3 rfl rfl)
theorem dX3_read_4 : decode cX3_read 4 = .ok (.invokespecial 82, 3) := dk_183 0 82 (dk_at dksX3_read_0 4 rfl rfl)
theorem dX3_read_7 : decode cX3_read 7 = .ok (.astore_n 1, 1) := dk_76 (dk_at dksX3_read_0 7 rfl rfl)
theorem dX3_read_8 : decode cX3_read 8 = .ok (.aload_n 0, 1) := dk_42 (dk_at dksX3_read_0 8 rfl rfl)
theorem dX3_read_9 : decode cX3_read 9 = .ok (.invokevirtual 74, 3) := dk_182 0 74 (dk_at dksX3_read_0 9 rfl rfl)
theorem dX3_read_12 : decode cX3_read 12 = .ok (.aload_n 0, 1) := dk_42 (dk_at dksX3_read_0 12 rfl rfl)
theorem dX3_read_13 : decode cX3_read 13 = .ok (.getfield 25, 3) := dk_180 0 25 (dk_at dksX3_read_0 13 rfl rfl)
theorem dX3_read_16 : decode cX3_read 16 = .ok (.sipush 301, 3) := dk_17 1 45 (dk_at dksX3_read_0 16 rfl rfl)
theorem dX3_read_19 : decode cX3_read 19 = .ok (.if_icmp .eq 212, 3) := dk_159 0 212 (dk_at dksX3_read_0 19 rfl rfl)
theorem dX3_read_22 : decode cX3_read 22 = .ok (.aload_n 0, 1) := dk_42 (dk_at dksX3_read_0 22 rfl rfl)
theorem dX3_read_23 : decode cX3_read 23 = .ok (.getfield 25, 3) := dk_180 0 25 (dk_at dksX3_read_1 0 rfl rfl)
theorem dX3_read_26 : decode cX3_read 26 = .ok (.sipush 200, 3) := dk_17 0 200 (dk_at dksX3_read_1 3 rfl rfl)
theorem dX3_read_29 : decode cX3_read 29 = .ok (.if_icmp .lt 13, 3) := dk_161 0 13 (dk_at dksX3_read_1 6 rfl rfl)
theorem dX3_read_32 : decode cX3_read 32 = .ok (.aload_n 0, 1) := dk_42 (dk_at dksX3_read_1 9 rfl rfl)
theorem dX3_read_33 : decode cX3_read 33 = .ok (.getfield 25, 3) := dk_180 0 25 (dk_at dksX3_read_1 10 rfl rfl)
theorem dX3_read_36 : decode cX3_read 36 = .ok (.sipush 208, 3) := dk_17 0 208 (dk_at dksX3_read_1 13 rfl rfl)
theorem dX3_read_39 : decode cX3_read 39 = .ok (.if_icmp .le 9, 3) := dk_164 0 9 (dk_at dksX3_read_1 16 rfl rfl)
theorem dX3_read_42 : decode cX3_read 42 = .ok (.aload_n 0, 1) := dk_42 (dk_at dksX3_read_1 19 rfl rfl)
theorem dX3_read_43 : decode cX3_read 43 = .ok (.iconst 1, 1) := dk_4 (dk_at dksX3_read_1 20 rfl rfl)
theorem dX3_read_44 : decode cX3_read 44 = .ok (.invokevirtual 70, 3) := dk_182 0 70 (dk_at dksX3_read_1 21 rfl rfl)
theorem dX3_read_47 : decode cX3_read 47 = .ok (.athrow, 1) := dk_191 (dk_at dksX3_read_2 0 rfl rfl)
theorem dX3_read_48 : decode cX3_read 48 = .ok (.aload_n 0, 1) := dk_42 (dk_at dksX3_read_2 1 rfl rfl)
theorem dX3_read_49 : decode cX3_read 49 = .ok (.aload_n 0, 1) := dk_42 (dk_at dksX3_read_2 2 rfl rfl)
theorem dX3_read_50 : decode cX3_read 50 = .ok (.getfield 25, 3) := dk_180 0 25 (dk_at dksX3_read_2 3 rfl rfl)
theorem dX3_read_53 : decode cX3_read 53 = .ok (.putfield 83, 3) := dk_181 0 83 (dk_at dksX3_read_2 6 rfl rfl)
theorem dX3_read_56 : decode cX3_read 56 = .ok (.aload_n 0, 1) := dk_42 (dk_at dksX3_read_2 9 rfl rfl)
theorem dX3_read_57 : decode cX3_read 57 = .ok (.getfield 83, 3) := dk_180 0 83 (dk_at dksX3_read_2 10 rfl rfl)
theorem dX3_read_60 : decode cX3_read 60 = .ok (.sipush 200, 3) := dk_17 0 200 (dk_at dksX3_read_2 13 rfl rfl)
theorem dX3_read_63 : decode cX3_read 63 = .ok (.if_icmp .ne 10, 3) := dk_160 0 10 (dk_at dksX3_read_2 16 rfl rfl)
theorem dX3_read_66 : decode cX3_read 66 = .ok (.aload_n 1, 1) := dk_43 (dk_at dksX3_read_2 19 rfl rfl)
theorem dX3_read_67 : decode cX3_read 67 = .ok (.getfield 86, 3) := dk_180 0 86 (dk_at dksX3_read_2 20 rfl rfl)
theorem dX3_read_70 : decode cX3_read 70 = .ok (.ifnonnull 37, 3) := dk_199 0 37 (dk_at dksX3_read_3 0 rfl rfl)
theorem dX3_read_73 : decode cX3_read 73 = .ok (.aload_n 0, 1) := dk_42 (dk_at dksX3_read_3 3 rfl rfl)
theorem dX3_read_74 : decode cX3_read 74 = .ok (.getfield 83, 3) := dk_180 0 83 (dk_at dksX3_read_3 4 rfl rfl)
theorem dX3_read_77 : decode cX3_read 77 = .ok (.sipush 201, 3) := dk_17 0 201 (dk_at dksX3_read_3 7 rfl rfl)
theorem dX3_read_80 : decode cX3_read 80 = .ok (.if_icmp .ne 10, 3) := dk_160 0 10 (dk_at dksX3_read_3 10 rfl rfl)
theorem dX3_read_83 : decode cX3_read 83 = .ok (.aload_n 1, 1) := dk_43 (dk_at dksX3_read_3 13 rfl rfl)
theorem dX3_read_84 : decode cX3_read 84 = .ok (.getfield 90, 3) := dk_180 0 90 (dk_at dksX3_read_3 14 rfl rfl)
theorem dX3_read_87 : decode cX3_read 87 = .ok (.ifnonnull 20, 3) := dk_199 0 20 (dk_at dksX3_read_3 17 rfl rfl)
theorem dX3_read_90 : decode cX3_read 90 = .ok (.aload_n 0, 1) := dk_42 (dk_at dksX3_read_3 20 rfl rfl)
theorem dX3_read_91 : decode cX3_read 91 = .ok (.getfield 83, 3) := dk_180 0 83 (dk_at dksX3_read_3 21 rfl rfl)
theorem dX3_read_94 : decode cX3_read 94 = .ok (.sipush 202, 3) := dk_17 0 202 (dk_at dksX3_read_4 0 rfl rfl)
theorem dX3_read_97 : decode cX3_read 97 = .ok (.if_icmp .ne 16, 3) := dk_160 0 16 (dk_at dksX3_read_4 3 rfl rfl)
theorem dX3_read_100 : decode cX3_read 100 = .ok (.aload_n 1, 1) := dk_43 (dk_at dksX3_read_4 6 rfl rfl)
theorem dX3_read_101 : decode cX3_read 101 = .ok (.getfield 93, 3) := dk_180 0 93 (dk_at dksX3_read_4 7 rfl rfl)
theorem dX3_read_104 : decode cX3_read 104 = .ok (.ifnull 9, 3) := dk_198 0 9 (dk_at dksX3_read_4 10 rfl rfl)
theorem dX3_read_107 : decode cX3_read 107 = .ok (.aload_n 0, 1) := dk_42 (dk_at dksX3_read_4 13 rfl rfl)
theorem dX3_read_108 : decode cX3_read 108 = .ok (.iconst 4, 1) := dk_7 (dk_at dksX3_read_4 14 rfl rfl)
theorem dX3_read_109 : decode cX3_read 109 = .ok (.invokevirtual 70, 3) := dk_182 0 70 (dk_at dksX3_read_4 15 rfl rfl)
theorem dX3_read_112 : decode cX3_read 112 = .ok (.athrow, 1) := dk_191 (dk_at dksX3_read_4 18 rfl rfl)
theorem dX3_read_113 : decode cX3_read 113 = .ok (.aload_n 1, 1) := dk_43 (dk_at dksX3_read_4 19 rfl rfl)
theorem dX3_read_114 : decode cX3_read 114 = .ok (.getfield 97, 3) := dk_180 0 97 (dk_at dksX3_read_4 20 rfl rfl)
theorem dX3_read_117 : decode cX3_read 117 = .ok (.bipush 24, 2) := dk_16 24 (dk_at dksX3_read_5 0 rfl rfl)
theorem dX3_read_119 : decode cX3_read 119 = .ok (.if_icmp .ne 10, 3) := dk_160 0 10 (dk_at dksX3_read_5 2 rfl rfl)
theorem dX3_read_122 : decode cX3_read 122 = .ok (.aload_n 0, 1) := dk_42 (dk_at dksX3_read_5 5 rfl rfl)
theorem dX3_read_123 : decode cX3_read 123 = .ok (.bipush 6, 2) := dk_16 6 (dk_at dksX3_read_5 6 rfl rfl)
theorem dX3_read_125 : decode cX3_read 125 = .ok (.invokevirtual 70, 3) := dk_182 0 70 (dk_at dksX3_read_5 8 rfl rfl)
theorem dX3_read_128 : decode cX3_read 128 = .ok (.athrow, 1) := dk_191 (dk_at dksX3_read_5 11 rfl rfl)
theorem dX3_read_129 : decode cX3_read 129 = .ok (.aload_n 0, 1) := dk_42 (dk_at dksX3_read_5 12 rfl rfl)
theorem dX3_read_130 : decode cX3_read 130 = .ok (.invokevirtual 74, 3) := dk_182 0 74 (dk_at dksX3_read_5 13 rfl rfl)
theorem dX3_read_133 : decode cX3_read 133 = .ok (.aload_n 0, 1) := dk_42 (dk_at dksX3_read_5 16 rfl rfl)
theorem dX3_read_134 : decode cX3_read 134 = .ok (.getfield 83, 3) := dk_180 0 83 (dk_at dksX3_read_5 17 rfl rfl)
theorem dX3_read_137 : decode cX3_read 137 = .ok (.sipush 200, 3) := dk_17 0 200 (dk_at dksX3_read_5 20 rfl rfl)
theorem dX3_read_140 : decode cX3_read 140 = .ok (.if_icmp .ne 14, 3) := dk_160 0 14 (dk_at dksX3_read_6 0 rfl rfl)
theorem dX3_read_143 : decode cX3_read 143 = .ok (.aload_n 1, 1) := dk_43 (dk_at dksX3_read_6 3 rfl rfl)
theorem dX3_read_144 : decode cX3_read 144 = .ok (.aload_n 0, 1) := dk_42 (dk_at dksX3_read_6 4 rfl rfl)
theorem dX3_read_145 : decode cX3_read 145 = .ok (.invokevirtual 100, 3) := dk_182 0 100 (dk_at dksX3_read_6 5 rfl rfl)
theorem dX3_read_148 : decode cX3_read 148 = .ok (.putfield 86, 3) := dk_181 0 86 (dk_at dksX3_read_6 8 rfl rfl)
theorem dX3_read_151 : decode cX3_read 151 = .ok (.goto 61, 3) := dk_167 0 61 (dk_at dksX3_read_6 11 rfl rfl)
theorem dX3_read_154 : decode cX3_read 154 = .ok (.aload_n 0, 1) := dk_42 (dk_at dksX3_read_6 14 rfl rfl)
theorem dX3_read_155 : decode cX3_read 155 = .ok (.getfield 83, 3) := dk_180 0 83 (dk_at dksX3_read_6 15 rfl rfl)
theorem dX3_read_158 : decode cX3_read 158 = .ok (.sipush 201, 3) := dk_17 0 201 (dk_at dksX3_read_6 18 rfl rfl)
theorem dX3_read_161 : decode cX3_read 161 = .ok (.if_icmp .ne 14, 3) := dk_160 0 14 (dk_at dksX3_read_6 21 rfl rfl)
theorem dX3_read_164 : decode cX3_read 164 = .ok (.aload_n 1, 1) := dk_43 (dk_at dksX3_read_7 0 rfl rfl)
theorem dX3_read_165 : decode cX3_read 165 = .ok (.aload_n 0, 1) := dk_42 (dk_at dksX3_read_7 1 rfl rfl)
theorem dX3_read_166 : decode cX3_read 166 = .ok (.invokevirtual 100, 3) := dk_182 0 100 (dk_at dksX3_read_7 2 rfl rfl)
theorem dX3_read_169 : decode cX3_read 169 = .ok (.putfield 90, 3) := dk_181 0 90 (dk_at dksX3_read_7 5 rfl rfl)
theorem dX3_read_172 : decode cX3_read 172 = .ok (.goto 40, 3) := dk_167 0 40 (dk_at dksX3_read_7 8 rfl rfl)
theorem dX3_read_175 : decode cX3_read 175 = .ok (.aload_n 0, 1) := dk_42 (dk_at dksX3_read_7 11 rfl rfl)
theorem dX3_read_176 : decode cX3_read 176 = .ok (.getfield 83, 3) := dk_180 0 83 (dk_at dksX3_read_7 12 rfl rfl)
theorem dX3_read_179 : decode cX3_read 179 = .ok (.sipush 202, 3) := dk_17 0 202 (dk_at dksX3_read_7 15 rfl rfl)
theorem dX3_read_182 : decode cX3_read 182 = .ok (.if_icmp .ne 14, 3) := dk_160 0 14 (dk_at dksX3_read_7 18 rfl rfl)
theorem dX3_read_185 : decode cX3_read 185 = .ok (.aload_n 1, 1) := dk_43 (dk_at dksX3_read_7 21 rfl rfl)
theorem dX3_read_186 : decode cX3_read 186 = .ok (.aload_n 0, 1) := dk_42 (dk_at dksX3_read_7 22 rfl rfl)
theorem dX3_read_187 : decode cX3_read 187 = .ok (.invokevirtual 104, 3) := dk_182 0 104 (dk_at dksX3_read_8 0 rfl rfl)
theorem dX3_read_190 : decode cX3_read 190 = .ok (.putfield 93, 3) := dk_181 0 93 (dk_at dksX3_read_8 3 rfl rfl)
theorem dX3_read_193 : decode cX3_read 193 = .ok (.goto 19, 3) := dk_167 0 19 (dk_at dksX3_read_8 6 rfl rfl)
theorem dX3_read_196 : decode cX3_read 196 = .ok (.aload_n 1, 1) := dk_43 (dk_at dksX3_read_8 9 rfl rfl)
theorem dX3_read_197 : decode cX3_read 197 = .ok (.getfield 108, 3) := dk_180 0 108 (dk_at dksX3_read_8 10 rfl rfl)
theorem dX3_read_200 : decode cX3_read 200 = .ok (.aload_n 0, 1) := dk_42 (dk_at dksX3_read_8 13 rfl rfl)
theorem dX3_read_201 : decode cX3_read 201 = .ok (.aload_n 1, 1) := dk_43 (dk_at dksX3_read_8 14 rfl rfl)
theorem dX3_read_202 : decode cX3_read 202 = .ok (.getfield 97, 3) := dk_180 0 97 (dk_at dksX3_read_8 15 rfl rfl)
theorem dX3_read_205 : decode cX3_read 205 = .ok (.invokevirtual 112, 3) := dk_182 0 112 (dk_at dksX3_read_8 18 rfl rfl)
theorem dX3_read_208 : decode cX3_read 208 = .ok (.invokevirtual 116, 3) := dk_182 0 116 (dk_at dksX3_read_8 21 rfl rfl)
theorem dX3_read_211 : decode cX3_read 211 = .ok (.pop, 1) := dk_87 (dk_at dksX3_read_9 0 rfl rfl)
theorem dX3_read_212 : decode cX3_read 212 = .ok (.aload_n 0, 1) := dk_42 (dk_at dksX3_read_9 1 rfl rfl)
theorem dX3_read_213 : decode cX3_read 213 = .ok (.bipush 59, 2) := dk_16 59 (dk_at dksX3_read_9 2 rfl rfl)
theorem dX3_read_215 : decode cX3_read 215 = .ok (.invokevirtual 122, 3) := dk_182 0 122 (dk_at dksX3_read_9 4 rfl rfl)
theorem dX3_read_218 : decode cX3_read 218 = .ok (.aload_n 1, 1) := dk_43 (dk_at dksX3_read_9 7 rfl rfl)
theorem dX3_read_219 : decode cX3_read 219 = .ok (.dup, 1) := dk_89 (dk_at dksX3_read_9 8 rfl rfl)
theorem dX3_read_220 : decode cX3_read 220 = .ok (.getfield 97, 3) := dk_180 0 97 (dk_at dksX3_read_9 9 rfl rfl)
theorem dX3_read_223 : decode cX3_read 223 = .ok (.iconst 1, 1) := dk_4 (dk_at dksX3_read_9 12 rfl rfl)
theorem dX3_read_224 : decode cX3_read 224 = .ok (.iadd, 1) := dk_96 (dk_at dksX3_read_9 13 rfl rfl)
theorem dX3_read_225 : decode cX3_read 225 = .ok (.putfield 97, 3) := dk_181 0 97 (dk_at dksX3_read_9 14 rfl rfl)
theorem dX3_read_228 : decode cX3_read 228 = .ok (.goto (-216), 3) := dk_167 255 40 (dk_at dksX3_read_9 17 rfl rfl)
theorem dX3_read_231 : decode cX3_read 231 = .ok (.aload_n 1, 1) := dk_43 (dk_at dksX3_read_9 20 rfl rfl)
theorem dX3_read_232 : decode cX3_read 232 = .ok (.areturn, 1) := dk_176 (dk_at dksX3_read_9 21 rfl rfl)
abbrev cX3_next : ByteArray := prog_16_method_4_code
def yX3_next : MethodName := ⟨RX3, "next", "()V"⟩
def dkwX3_next_17 : List UInt8 := [4, 96, 181, 0, 19, 177]
abbrev dktX3_next_17 : List UInt8 := dkwX3_next_17 ++ []
def dkwX3_next_16 : List UInt8 := [42, 27, 16, 60, 160, 0, 9, 17, 1, 47, 167, 0, 6, 17, 1, 48, 181, 0, 25, 42, 89, 180, 0, 19]
abbrev dktX3_next_16 : List UInt8 := dkwX3_next_16 ++ dktX3_next_17
def dkwX3_next_15 : List UInt8 := [180, 0, 19, 42, 180, 0, 15, 162, 0, 46, 42, 180, 0, 9, 42, 180, 0, 19, 51, 16, 61, 160, 0, 32]
abbrev dktX3_next_15 : List UInt8 := dkwX3_next_15 ++ dktX3_next_16
def dkwX3_next_14 : List UInt8 := [42, 27, 181, 0, 25, 132, 2, 1, 167, 255, 229, 27, 16, 60, 159, 0, 9, 27, 16, 62, 160, 0, 57, 42]
abbrev dktX3_next_14 : List UInt8 := dkwX3_next_14 ++ dktX3_next_15
def dkwX3_next_13 : List UInt8 := [181, 0, 25, 3, 61, 28, 18, 53, 182, 0, 55, 162, 0, 24, 18, 53, 28, 182, 0, 61, 27, 160, 0, 8]
abbrev dktX3_next_13 : List UInt8 := dkwX3_next_13 ++ dktX3_next_14
def dkwX3_next_12 : List UInt8 := [42, 180, 0, 9, 42, 180, 0, 19, 51, 60, 42, 89, 180, 0, 19, 4, 96, 181, 0, 19, 42, 17, 1, 46]
abbrev dktX3_next_12 : List UInt8 := dkwX3_next_12 ++ dktX3_next_13
def dkwX3_next_11 : List UInt8 := [51, 96, 16, 48, 100, 184, 0, 47, 181, 0, 43, 42, 89, 180, 0, 19, 4, 96, 181, 0, 19, 167, 255, 191]
abbrev dktX3_next_11 : List UInt8 := dkwX3_next_11 ++ dktX3_next_12
def dkwX3_next_10 : List UInt8 := [184, 0, 40, 153, 0, 170, 42, 18, 46, 16, 10, 42, 180, 0, 43, 104, 42, 180, 0, 9, 42, 180, 0, 19]
abbrev dktX3_next_10 : List UInt8 := dkwX3_next_10 ++ dktX3_next_11
def dkwX3_next_9 : List UInt8 := [181, 0, 43, 42, 180, 0, 19, 42, 180, 0, 15, 162, 0, 185, 42, 180, 0, 9, 42, 180, 0, 19, 51]
abbrev dktX3_next_9 : List UInt8 := dkwX3_next_9 ++ dktX3_next_10
def dkwX3_next_8 : List UInt8 := [42, 180, 0, 9, 42, 180, 0, 19, 51, 184, 0, 40, 153, 0, 83, 42, 17, 1, 44, 181, 0, 25, 42, 3]
abbrev dktX3_next_8 : List UInt8 := dkwX3_next_8 ++ dktX3_next_9
def dkwX3_next_7 : List UInt8 := [182, 0, 36, 153, 0, 12, 42, 17, 0, 200, 27, 96, 181, 0, 25, 132, 1, 1, 167, 255, 224, 167, 0, 223]
abbrev dktX3_next_7 : List UInt8 := dkwX3_next_7 ++ dktX3_next_8
def dkwX3_next_6 : List UInt8 := [17, 1, 46, 181, 0, 25, 3, 60, 27, 178, 0, 32, 190, 162, 0, 30, 42, 178, 0, 32, 27, 50]
abbrev dktX3_next_6 : List UInt8 := dkwX3_next_6 ++ dktX3_next_7
def dkwX3_next_5 : List UInt8 := [180, 0, 19, 51, 184, 0, 28, 153, 0, 16, 42, 89, 180, 0, 19, 4, 96, 181, 0, 19, 167, 255, 220, 42]
abbrev dktX3_next_5 : List UInt8 := dkwX3_next_5 ++ dktX3_next_6
def dkwX3_next_4 : List UInt8 := [184, 0, 28, 153, 0, 89, 42, 180, 0, 19, 42, 180, 0, 15, 162, 0, 31, 42, 180, 0, 9, 42]
abbrev dktX3_next_4 : List UInt8 := dkwX3_next_4 ++ dktX3_next_5
def dkwX3_next_3 : List UInt8 := [160, 0, 13, 42, 17, 1, 45, 181, 0, 25, 167, 1, 68, 42, 180, 0, 9, 42, 180, 0, 19, 51]
abbrev dktX3_next_3 : List UInt8 := dkwX3_next_3 ++ dktX3_next_4
def dkwX3_next_2 : List UInt8 := [181, 0, 19, 167, 255, 207, 42, 42, 180, 0, 19, 181, 0, 22, 42, 180, 0, 19, 42, 180, 0, 15]
abbrev dktX3_next_2 : List UInt8 := dkwX3_next_2 ++ dktX3_next_3
def dkwX3_next_1 : List UInt8 := [159, 0, 17, 42, 180, 0, 9, 42, 180, 0, 19, 51, 16, 10, 160, 0, 16, 42, 89, 180, 0, 19, 4, 96]
abbrev dktX3_next_1 : List UInt8 := dkwX3_next_1 ++ dktX3_next_2
def dkwX3_next_0 : List UInt8 := [42, 180, 0, 19, 42, 180, 0, 15, 162, 0, 44, 42, 180, 0, 9, 42, 180, 0, 19, 51, 16, 32]
abbrev dktX3_next_0 : List UInt8 := dkwX3_next_0 ++ dktX3_next_1
theorem dksX3_next_0 : cX3_next.data.toList.drop 0 = dktX3_next_0 := by decide +kernel
theorem dksX3_next_1 : cX3_next.data.toList.drop 22 = dktX3_next_1 := dk_seg dksX3_next_0 22 rfl rfl
theorem dksX3_next_2 : cX3_next.data.toList.drop 46 = dktX3_next_2 := dk_seg dksX3_next_1 24 rfl rfl
theorem dksX3_next_3 : cX3_next.data.toList.drop 68 = dktX3_next_3 := dk_seg dksX3_next_2 22 rfl rfl
theorem dksX3_next_4 : cX3_next.data.toList.drop 90 = dktX3_next_4 := dk_seg dksX3_next_3 22 rfl rfl
theorem dksX3_next_5 : cX3_next.data.toList.drop 112 = dktX3_next_5 := dk_seg dksX3_next_4 22 rfl rfl
theorem dksX3_next_6 : cX3_next.data.toList.drop 136 = dktX3_next_6 := dk_seg dksX3_next_5 24 rfl rfl
theorem dksX3_next_7 : cX3_next.data.toList.drop 158 = dktX3_next_7 := dk_seg dksX3_next_6 22 rfl rfl
theorem dksX3_next_8 : cX3_next.data.toList.drop 182 = dktX3_next_8 := dk_seg dksX3_next_7 24 rfl rfl
theorem dksX3_next_9 : cX3_next.data.toList.drop 206 = dktX3_next_9 := dk_seg dksX3_next_8 24 rfl rfl
theorem dksX3_next_10 : cX3_next.data.toList.drop 229 = dktX3_next_10 := dk_seg dksX3_next_9 23 rfl rfl
theorem dksX3_next_11 : cX3_next.data.toList.drop 253 = dktX3_next_11 := dk_seg dksX3_next_10 24 rfl rfl
theorem dksX3_next_12 : cX3_next.data.toList.drop 277 = dktX3_next_12 := dk_seg dksX3_next_11 24 rfl rfl
theorem dksX3_next_13 : cX3_next.data.toList.drop 301 = dktX3_next_13 := dk_seg dksX3_next_12 24 rfl rfl
theorem dksX3_next_14 : cX3_next.data.toList.drop 325 = dktX3_next_14 := dk_seg dksX3_next_13 24 rfl rfl
theorem dksX3_next_15 : cX3_next.data.toList.drop 349 = dktX3_next_15 := dk_seg dksX3_next_14 24 rfl rfl
theorem dksX3_next_16 : cX3_next.data.toList.drop 373 = dktX3_next_16 := dk_seg dksX3_next_15 24 rfl rfl
theorem dksX3_next_17 : cX3_next.data.toList.drop 397 = dktX3_next_17 := dk_seg dksX3_next_16 24 rfl rfl
theorem dX3_next_0 : decode cX3_next 0 = .ok (.aload_n 0, 1) := dk_42 (dk_at dksX3_next_0 0 rfl rfl)
theorem dX3_next_1 : decode cX3_next 1 = .ok (.getfield 19, 3) := dk_180 0 19 (dk_at dksX3_next_0 1 rfl rfl)
theorem dX3_next_4 : decode cX3_next 4 = .ok (.aload_n 0, 1) := dk_42 (dk_at dksX3_next_0 4 rfl rfl)
theorem dX3_next_5 : decode cX3_next 5 = .ok (.getfield 15, 3) := dk_180 0 15 (dk_at dksX3_next_0 5 rfl rfl)
theorem dX3_next_8 : decode cX3_next 8 = .ok (.if_icmp .ge 44, 3) := dk_162 0 44 (dk_at dksX3_next_0 8 rfl rfl)
theorem dX3_next_11 : decode cX3_next 11 = .ok (.aload_n 0, 1) := dk_42 (dk_at dksX3_next_0 11 rfl rfl)
theorem dX3_next_12 : decode cX3_next 12 = .ok (.getfield 9, 3) := dk_180 0 9 (dk_at dksX3_next_0 12 rfl rfl)
theorem dX3_next_15 : decode cX3_next 15 = .ok (.aload_n 0, 1) := dk_42 (dk_at dksX3_next_0 15 rfl rfl)
theorem dX3_next_16 : decode cX3_next 16 = .ok (.getfield 19, 3) := dk_180 0 19 (dk_at dksX3_next_0 16 rfl rfl)
theorem dX3_next_19 : decode cX3_next 19 = .ok (.baload, 1) := dk_51 (dk_at dksX3_next_0 19 rfl rfl)
theorem dX3_next_20 : decode cX3_next 20 = .ok (.bipush 32, 2) := dk_16 32 (dk_at dksX3_next_0 20 rfl rfl)
theorem dX3_next_22 : decode cX3_next 22 = .ok (.if_icmp .eq 17, 3) := dk_159 0 17 (dk_at dksX3_next_1 0 rfl rfl)
theorem dX3_next_25 : decode cX3_next 25 = .ok (.aload_n 0, 1) := dk_42 (dk_at dksX3_next_1 3 rfl rfl)
theorem dX3_next_26 : decode cX3_next 26 = .ok (.getfield 9, 3) := dk_180 0 9 (dk_at dksX3_next_1 4 rfl rfl)
theorem dX3_next_29 : decode cX3_next 29 = .ok (.aload_n 0, 1) := dk_42 (dk_at dksX3_next_1 7 rfl rfl)
theorem dX3_next_30 : decode cX3_next 30 = .ok (.getfield 19, 3) := dk_180 0 19 (dk_at dksX3_next_1 8 rfl rfl)
theorem dX3_next_33 : decode cX3_next 33 = .ok (.baload, 1) := dk_51 (dk_at dksX3_next_1 11 rfl rfl)
theorem dX3_next_34 : decode cX3_next 34 = .ok (.bipush 10, 2) := dk_16 10 (dk_at dksX3_next_1 12 rfl rfl)
theorem dX3_next_36 : decode cX3_next 36 = .ok (.if_icmp .ne 16, 3) := dk_160 0 16 (dk_at dksX3_next_1 14 rfl rfl)
theorem dX3_next_39 : decode cX3_next 39 = .ok (.aload_n 0, 1) := dk_42 (dk_at dksX3_next_1 17 rfl rfl)
theorem dX3_next_40 : decode cX3_next 40 = .ok (.dup, 1) := dk_89 (dk_at dksX3_next_1 18 rfl rfl)
theorem dX3_next_41 : decode cX3_next 41 = .ok (.getfield 19, 3) := dk_180 0 19 (dk_at dksX3_next_1 19 rfl rfl)
theorem dX3_next_44 : decode cX3_next 44 = .ok (.iconst 1, 1) := dk_4 (dk_at dksX3_next_1 22 rfl rfl)
theorem dX3_next_45 : decode cX3_next 45 = .ok (.iadd, 1) := dk_96 (dk_at dksX3_next_1 23 rfl rfl)
theorem dX3_next_46 : decode cX3_next 46 = .ok (.putfield 19, 3) := dk_181 0 19 (dk_at dksX3_next_2 0 rfl rfl)
theorem dX3_next_49 : decode cX3_next 49 = .ok (.goto (-49), 3) := dk_167 255 207 (dk_at dksX3_next_2 3 rfl rfl)
theorem dX3_next_52 : decode cX3_next 52 = .ok (.aload_n 0, 1) := dk_42 (dk_at dksX3_next_2 6 rfl rfl)
theorem dX3_next_53 : decode cX3_next 53 = .ok (.aload_n 0, 1) := dk_42 (dk_at dksX3_next_2 7 rfl rfl)
theorem dX3_next_54 : decode cX3_next 54 = .ok (.getfield 19, 3) := dk_180 0 19 (dk_at dksX3_next_2 8 rfl rfl)
theorem dX3_next_57 : decode cX3_next 57 = .ok (.putfield 22, 3) := dk_181 0 22 (dk_at dksX3_next_2 11 rfl rfl)
theorem dX3_next_60 : decode cX3_next 60 = .ok (.aload_n 0, 1) := dk_42 (dk_at dksX3_next_2 14 rfl rfl)
theorem dX3_next_61 : decode cX3_next 61 = .ok (.getfield 19, 3) := dk_180 0 19 (dk_at dksX3_next_2 15 rfl rfl)
theorem dX3_next_64 : decode cX3_next 64 = .ok (.aload_n 0, 1) := dk_42 (dk_at dksX3_next_2 18 rfl rfl)
theorem dX3_next_65 : decode cX3_next 65 = .ok (.getfield 15, 3) := dk_180 0 15 (dk_at dksX3_next_2 19 rfl rfl)
theorem dX3_next_68 : decode cX3_next 68 = .ok (.if_icmp .ne 13, 3) := dk_160 0 13 (dk_at dksX3_next_3 0 rfl rfl)
theorem dX3_next_71 : decode cX3_next 71 = .ok (.aload_n 0, 1) := dk_42 (dk_at dksX3_next_3 3 rfl rfl)
theorem dX3_next_72 : decode cX3_next 72 = .ok (.sipush 301, 3) := dk_17 1 45 (dk_at dksX3_next_3 4 rfl rfl)
theorem dX3_next_75 : decode cX3_next 75 = .ok (.putfield 25, 3) := dk_181 0 25 (dk_at dksX3_next_3 7 rfl rfl)
theorem dX3_next_78 : decode cX3_next 78 = .ok (.goto 324, 3) := dk_167 1 68 (dk_at dksX3_next_3 10 rfl rfl)
theorem dX3_next_81 : decode cX3_next 81 = .ok (.aload_n 0, 1) := dk_42 (dk_at dksX3_next_3 13 rfl rfl)
theorem dX3_next_82 : decode cX3_next 82 = .ok (.getfield 9, 3) := dk_180 0 9 (dk_at dksX3_next_3 14 rfl rfl)
theorem dX3_next_85 : decode cX3_next 85 = .ok (.aload_n 0, 1) := dk_42 (dk_at dksX3_next_3 17 rfl rfl)
theorem dX3_next_86 : decode cX3_next 86 = .ok (.getfield 19, 3) := dk_180 0 19 (dk_at dksX3_next_3 18 rfl rfl)
theorem dX3_next_89 : decode cX3_next 89 = .ok (.baload, 1) := dk_51 (dk_at dksX3_next_3 21 rfl rfl)
theorem dX3_next_90 : decode cX3_next 90 = .ok (.invokestatic 28, 3) := dk_184 0 28 (dk_at dksX3_next_4 0 rfl rfl)
theorem dX3_next_93 : decode cX3_next 93 = .ok (.ifCond .eq 89, 3) := dk_153 0 89 (dk_at dksX3_next_4 3 rfl rfl)
theorem dX3_next_96 : decode cX3_next 96 = .ok (.aload_n 0, 1) := dk_42 (dk_at dksX3_next_4 6 rfl rfl)
theorem dX3_next_97 : decode cX3_next 97 = .ok (.getfield 19, 3) := dk_180 0 19 (dk_at dksX3_next_4 7 rfl rfl)
theorem dX3_next_100 : decode cX3_next 100 = .ok (.aload_n 0, 1) := dk_42 (dk_at dksX3_next_4 10 rfl rfl)
theorem dX3_next_101 : decode cX3_next 101 = .ok (.getfield 15, 3) := dk_180 0 15 (dk_at dksX3_next_4 11 rfl rfl)
theorem dX3_next_104 : decode cX3_next 104 = .ok (.if_icmp .ge 31, 3) := dk_162 0 31 (dk_at dksX3_next_4 14 rfl rfl)
theorem dX3_next_107 : decode cX3_next 107 = .ok (.aload_n 0, 1) := dk_42 (dk_at dksX3_next_4 17 rfl rfl)
theorem dX3_next_108 : decode cX3_next 108 = .ok (.getfield 9, 3) := dk_180 0 9 (dk_at dksX3_next_4 18 rfl rfl)
theorem dX3_next_111 : decode cX3_next 111 = .ok (.aload_n 0, 1) := dk_42 (dk_at dksX3_next_4 21 rfl rfl)
theorem dX3_next_112 : decode cX3_next 112 = .ok (.getfield 19, 3) := dk_180 0 19 (dk_at dksX3_next_5 0 rfl rfl)
theorem dX3_next_115 : decode cX3_next 115 = .ok (.baload, 1) := dk_51 (dk_at dksX3_next_5 3 rfl rfl)
theorem dX3_next_116 : decode cX3_next 116 = .ok (.invokestatic 28, 3) := dk_184 0 28 (dk_at dksX3_next_5 4 rfl rfl)
theorem dX3_next_119 : decode cX3_next 119 = .ok (.ifCond .eq 16, 3) := dk_153 0 16 (dk_at dksX3_next_5 7 rfl rfl)
theorem dX3_next_122 : decode cX3_next 122 = .ok (.aload_n 0, 1) := dk_42 (dk_at dksX3_next_5 10 rfl rfl)
theorem dX3_next_123 : decode cX3_next 123 = .ok (.dup, 1) := dk_89 (dk_at dksX3_next_5 11 rfl rfl)
theorem dX3_next_124 : decode cX3_next 124 = .ok (.getfield 19, 3) := dk_180 0 19 (dk_at dksX3_next_5 12 rfl rfl)
theorem dX3_next_127 : decode cX3_next 127 = .ok (.iconst 1, 1) := dk_4 (dk_at dksX3_next_5 15 rfl rfl)
theorem dX3_next_128 : decode cX3_next 128 = .ok (.iadd, 1) := dk_96 (dk_at dksX3_next_5 16 rfl rfl)
theorem dX3_next_129 : decode cX3_next 129 = .ok (.putfield 19, 3) := dk_181 0 19 (dk_at dksX3_next_5 17 rfl rfl)
theorem dX3_next_132 : decode cX3_next 132 = .ok (.goto (-36), 3) := dk_167 255 220 (dk_at dksX3_next_5 20 rfl rfl)
theorem dX3_next_135 : decode cX3_next 135 = .ok (.aload_n 0, 1) := dk_42 (dk_at dksX3_next_5 23 rfl rfl)
theorem dX3_next_136 : decode cX3_next 136 = .ok (.sipush 302, 3) := dk_17 1 46 (dk_at dksX3_next_6 0 rfl rfl)
theorem dX3_next_139 : decode cX3_next 139 = .ok (.putfield 25, 3) := dk_181 0 25 (dk_at dksX3_next_6 3 rfl rfl)
theorem dX3_next_142 : decode cX3_next 142 = .ok (.iconst 0, 1) := dk_3 (dk_at dksX3_next_6 6 rfl rfl)
theorem dX3_next_143 : decode cX3_next 143 = .ok (.istore_n 1, 1) := dk_60 (dk_at dksX3_next_6 7 rfl rfl)
theorem dX3_next_144 : decode cX3_next 144 = .ok (.iload_n 1, 1) := dk_27 (dk_at dksX3_next_6 8 rfl rfl)
theorem dX3_next_145 : decode cX3_next 145 = .ok (.getstatic 32, 3) := dk_178 0 32 (dk_at dksX3_next_6 9 rfl rfl)
theorem dX3_next_148 : decode cX3_next 148 = .ok (.arraylength, 1) := dk_190 (dk_at dksX3_next_6 12 rfl rfl)
theorem dX3_next_149 : decode cX3_next 149 = .ok (.if_icmp .ge 30, 3) := dk_162 0 30 (dk_at dksX3_next_6 13 rfl rfl)
theorem dX3_next_152 : decode cX3_next 152 = .ok (.aload_n 0, 1) := dk_42 (dk_at dksX3_next_6 16 rfl rfl)
theorem dX3_next_153 : decode cX3_next 153 = .ok (.getstatic 32, 3) := dk_178 0 32 (dk_at dksX3_next_6 17 rfl rfl)
theorem dX3_next_156 : decode cX3_next 156 = .ok (.iload_n 1, 1) := dk_27 (dk_at dksX3_next_6 20 rfl rfl)
theorem dX3_next_157 : decode cX3_next 157 = .ok (.aaload, 1) := dk_50 (dk_at dksX3_next_6 21 rfl rfl)
theorem dX3_next_158 : decode cX3_next 158 = .ok (.invokevirtual 36, 3) := dk_182 0 36 (dk_at dksX3_next_7 0 rfl rfl)
theorem dX3_next_161 : decode cX3_next 161 = .ok (.ifCond .eq 12, 3) := dk_153 0 12 (dk_at dksX3_next_7 3 rfl rfl)
theorem dX3_next_164 : decode cX3_next 164 = .ok (.aload_n 0, 1) := dk_42 (dk_at dksX3_next_7 6 rfl rfl)
theorem dX3_next_165 : decode cX3_next 165 = .ok (.sipush 200, 3) := dk_17 0 200 (dk_at dksX3_next_7 7 rfl rfl)
theorem dX3_next_168 : decode cX3_next 168 = .ok (.iload_n 1, 1) := dk_27 (dk_at dksX3_next_7 10 rfl rfl)
theorem dX3_next_169 : decode cX3_next 169 = .ok (.iadd, 1) := dk_96 (dk_at dksX3_next_7 11 rfl rfl)
theorem dX3_next_170 : decode cX3_next 170 = .ok (.putfield 25, 3) := dk_181 0 25 (dk_at dksX3_next_7 12 rfl rfl)
theorem dX3_next_173 : decode cX3_next 173 = .ok (.iinc 1 1, 3) := dk_132 1 1 (dk_at dksX3_next_7 15 rfl rfl)
theorem dX3_next_176 : decode cX3_next 176 = .ok (.goto (-32), 3) := dk_167 255 224 (dk_at dksX3_next_7 18 rfl rfl)
theorem dX3_next_179 : decode cX3_next 179 = .ok (.goto 223, 3) := dk_167 0 223 (dk_at dksX3_next_7 21 rfl rfl)
theorem dX3_next_182 : decode cX3_next 182 = .ok (.aload_n 0, 1) := dk_42 (dk_at dksX3_next_8 0 rfl rfl)
theorem dX3_next_183 : decode cX3_next 183 = .ok (.getfield 9, 3) := dk_180 0 9 (dk_at dksX3_next_8 1 rfl rfl)
theorem dX3_next_186 : decode cX3_next 186 = .ok (.aload_n 0, 1) := dk_42 (dk_at dksX3_next_8 4 rfl rfl)
theorem dX3_next_187 : decode cX3_next 187 = .ok (.getfield 19, 3) := dk_180 0 19 (dk_at dksX3_next_8 5 rfl rfl)
theorem dX3_next_190 : decode cX3_next 190 = .ok (.baload, 1) := dk_51 (dk_at dksX3_next_8 8 rfl rfl)
theorem dX3_next_191 : decode cX3_next 191 = .ok (.invokestatic 40, 3) := dk_184 0 40 (dk_at dksX3_next_8 9 rfl rfl)
theorem dX3_next_194 : decode cX3_next 194 = .ok (.ifCond .eq 83, 3) := dk_153 0 83 (dk_at dksX3_next_8 12 rfl rfl)
theorem dX3_next_197 : decode cX3_next 197 = .ok (.aload_n 0, 1) := dk_42 (dk_at dksX3_next_8 15 rfl rfl)
theorem dX3_next_198 : decode cX3_next 198 = .ok (.sipush 300, 3) := dk_17 1 44 (dk_at dksX3_next_8 16 rfl rfl)
theorem dX3_next_201 : decode cX3_next 201 = .ok (.putfield 25, 3) := dk_181 0 25 (dk_at dksX3_next_8 19 rfl rfl)
theorem dX3_next_204 : decode cX3_next 204 = .ok (.aload_n 0, 1) := dk_42 (dk_at dksX3_next_8 22 rfl rfl)
theorem dX3_next_205 : decode cX3_next 205 = .ok (.iconst 0, 1) := dk_3 (dk_at dksX3_next_8 23 rfl rfl)
theorem dX3_next_206 : decode cX3_next 206 = .ok (.putfield 43, 3) := dk_181 0 43 (dk_at dksX3_next_9 0 rfl rfl)
theorem dX3_next_209 : decode cX3_next 209 = .ok (.aload_n 0, 1) := dk_42 (dk_at dksX3_next_9 3 rfl rfl)
theorem dX3_next_210 : decode cX3_next 210 = .ok (.getfield 19, 3) := dk_180 0 19 (dk_at dksX3_next_9 4 rfl rfl)
theorem dX3_next_213 : decode cX3_next 213 = .ok (.aload_n 0, 1) := dk_42 (dk_at dksX3_next_9 7 rfl rfl)
theorem dX3_next_214 : decode cX3_next 214 = .ok (.getfield 15, 3) := dk_180 0 15 (dk_at dksX3_next_9 8 rfl rfl)
theorem dX3_next_217 : decode cX3_next 217 = .ok (.if_icmp .ge 185, 3) := dk_162 0 185 (dk_at dksX3_next_9 11 rfl rfl)
theorem dX3_next_220 : decode cX3_next 220 = .ok (.aload_n 0, 1) := dk_42 (dk_at dksX3_next_9 14 rfl rfl)
theorem dX3_next_221 : decode cX3_next 221 = .ok (.getfield 9, 3) := dk_180 0 9 (dk_at dksX3_next_9 15 rfl rfl)
theorem dX3_next_224 : decode cX3_next 224 = .ok (.aload_n 0, 1) := dk_42 (dk_at dksX3_next_9 18 rfl rfl)
theorem dX3_next_225 : decode cX3_next 225 = .ok (.getfield 19, 3) := dk_180 0 19 (dk_at dksX3_next_9 19 rfl rfl)
theorem dX3_next_228 : decode cX3_next 228 = .ok (.baload, 1) := dk_51 (dk_at dksX3_next_9 22 rfl rfl)
theorem dX3_next_229 : decode cX3_next 229 = .ok (.invokestatic 40, 3) := dk_184 0 40 (dk_at dksX3_next_10 0 rfl rfl)
theorem dX3_next_232 : decode cX3_next 232 = .ok (.ifCond .eq 170, 3) := dk_153 0 170 (dk_at dksX3_next_10 3 rfl rfl)
theorem dX3_next_235 : decode cX3_next 235 = .ok (.aload_n 0, 1) := dk_42 (dk_at dksX3_next_10 6 rfl rfl)
theorem dX3_next_236 : decode cX3_next 236 = .ok (.ldc 46, 2) := dk_18 46 (dk_at dksX3_next_10 7 rfl rfl)
theorem dX3_next_238 : decode cX3_next 238 = .ok (.bipush 10, 2) := dk_16 10 (dk_at dksX3_next_10 9 rfl rfl)
theorem dX3_next_240 : decode cX3_next 240 = .ok (.aload_n 0, 1) := dk_42 (dk_at dksX3_next_10 11 rfl rfl)
theorem dX3_next_241 : decode cX3_next 241 = .ok (.getfield 43, 3) := dk_180 0 43 (dk_at dksX3_next_10 12 rfl rfl)
theorem dX3_next_244 : decode cX3_next 244 = .ok (.imul, 1) := dk_104 (dk_at dksX3_next_10 15 rfl rfl)
theorem dX3_next_245 : decode cX3_next 245 = .ok (.aload_n 0, 1) := dk_42 (dk_at dksX3_next_10 16 rfl rfl)
theorem dX3_next_246 : decode cX3_next 246 = .ok (.getfield 9, 3) := dk_180 0 9 (dk_at dksX3_next_10 17 rfl rfl)
theorem dX3_next_249 : decode cX3_next 249 = .ok (.aload_n 0, 1) := dk_42 (dk_at dksX3_next_10 20 rfl rfl)
theorem dX3_next_250 : decode cX3_next 250 = .ok (.getfield 19, 3) := dk_180 0 19 (dk_at dksX3_next_10 21 rfl rfl)
theorem dX3_next_253 : decode cX3_next 253 = .ok (.baload, 1) := dk_51 (dk_at dksX3_next_11 0 rfl rfl)
theorem dX3_next_254 : decode cX3_next 254 = .ok (.iadd, 1) := dk_96 (dk_at dksX3_next_11 1 rfl rfl)
theorem dX3_next_255 : decode cX3_next 255 = .ok (.bipush 48, 2) := dk_16 48 (dk_at dksX3_next_11 2 rfl rfl)
theorem dX3_next_257 : decode cX3_next 257 = .ok (.isub, 1) := dk_100 (dk_at dksX3_next_11 4 rfl rfl)
theorem dX3_next_258 : decode cX3_next 258 = .ok (.invokestatic 47, 3) := dk_184 0 47 (dk_at dksX3_next_11 5 rfl rfl)
theorem dX3_next_261 : decode cX3_next 261 = .ok (.putfield 43, 3) := dk_181 0 43 (dk_at dksX3_next_11 8 rfl rfl)
theorem dX3_next_264 : decode cX3_next 264 = .ok (.aload_n 0, 1) := dk_42 (dk_at dksX3_next_11 11 rfl rfl)
theorem dX3_next_265 : decode cX3_next 265 = .ok (.dup, 1) := dk_89 (dk_at dksX3_next_11 12 rfl rfl)
theorem dX3_next_266 : decode cX3_next 266 = .ok (.getfield 19, 3) := dk_180 0 19 (dk_at dksX3_next_11 13 rfl rfl)
theorem dX3_next_269 : decode cX3_next 269 = .ok (.iconst 1, 1) := dk_4 (dk_at dksX3_next_11 16 rfl rfl)
theorem dX3_next_270 : decode cX3_next 270 = .ok (.iadd, 1) := dk_96 (dk_at dksX3_next_11 17 rfl rfl)
theorem dX3_next_271 : decode cX3_next 271 = .ok (.putfield 19, 3) := dk_181 0 19 (dk_at dksX3_next_11 18 rfl rfl)
theorem dX3_next_274 : decode cX3_next 274 = .ok (.goto (-65), 3) := dk_167 255 191 (dk_at dksX3_next_11 21 rfl rfl)
theorem dX3_next_277 : decode cX3_next 277 = .ok (.aload_n 0, 1) := dk_42 (dk_at dksX3_next_12 0 rfl rfl)
theorem dX3_next_278 : decode cX3_next 278 = .ok (.getfield 9, 3) := dk_180 0 9 (dk_at dksX3_next_12 1 rfl rfl)
theorem dX3_next_281 : decode cX3_next 281 = .ok (.aload_n 0, 1) := dk_42 (dk_at dksX3_next_12 4 rfl rfl)
theorem dX3_next_282 : decode cX3_next 282 = .ok (.getfield 19, 3) := dk_180 0 19 (dk_at dksX3_next_12 5 rfl rfl)
theorem dX3_next_285 : decode cX3_next 285 = .ok (.baload, 1) := dk_51 (dk_at dksX3_next_12 8 rfl rfl)
theorem dX3_next_286 : decode cX3_next 286 = .ok (.istore_n 1, 1) := dk_60 (dk_at dksX3_next_12 9 rfl rfl)
theorem dX3_next_287 : decode cX3_next 287 = .ok (.aload_n 0, 1) := dk_42 (dk_at dksX3_next_12 10 rfl rfl)
theorem dX3_next_288 : decode cX3_next 288 = .ok (.dup, 1) := dk_89 (dk_at dksX3_next_12 11 rfl rfl)
theorem dX3_next_289 : decode cX3_next 289 = .ok (.getfield 19, 3) := dk_180 0 19 (dk_at dksX3_next_12 12 rfl rfl)
theorem dX3_next_292 : decode cX3_next 292 = .ok (.iconst 1, 1) := dk_4 (dk_at dksX3_next_12 15 rfl rfl)
theorem dX3_next_293 : decode cX3_next 293 = .ok (.iadd, 1) := dk_96 (dk_at dksX3_next_12 16 rfl rfl)
theorem dX3_next_294 : decode cX3_next 294 = .ok (.putfield 19, 3) := dk_181 0 19 (dk_at dksX3_next_12 17 rfl rfl)
theorem dX3_next_297 : decode cX3_next 297 = .ok (.aload_n 0, 1) := dk_42 (dk_at dksX3_next_12 20 rfl rfl)
theorem dX3_next_298 : decode cX3_next 298 = .ok (.sipush 302, 3) := dk_17 1 46 (dk_at dksX3_next_12 21 rfl rfl)
theorem dX3_next_301 : decode cX3_next 301 = .ok (.putfield 25, 3) := dk_181 0 25 (dk_at dksX3_next_13 0 rfl rfl)
theorem dX3_next_304 : decode cX3_next 304 = .ok (.iconst 0, 1) := dk_3 (dk_at dksX3_next_13 3 rfl rfl)
theorem dX3_next_305 : decode cX3_next 305 = .ok (.istore_n 2, 1) := dk_61 (dk_at dksX3_next_13 4 rfl rfl)
theorem dX3_next_306 : decode cX3_next 306 = .ok (.iload_n 2, 1) := dk_28 (dk_at dksX3_next_13 5 rfl rfl)
theorem dX3_next_307 : decode cX3_next 307 = .ok (.ldc 53, 2) := dk_18 53 (dk_at dksX3_next_13 6 rfl rfl)
theorem dX3_next_309 : decode cX3_next 309 = .ok (.invokevirtual 55, 3) := dk_182 0 55 (dk_at dksX3_next_13 8 rfl rfl)
theorem dX3_next_312 : decode cX3_next 312 = .ok (.if_icmp .ge 24, 3) := dk_162 0 24 (dk_at dksX3_next_13 11 rfl rfl)
theorem dX3_next_315 : decode cX3_next 315 = .ok (.ldc 53, 2) := dk_18 53 (dk_at dksX3_next_13 14 rfl rfl)
theorem dX3_next_317 : decode cX3_next 317 = .ok (.iload_n 2, 1) := dk_28 (dk_at dksX3_next_13 16 rfl rfl)
theorem dX3_next_318 : decode cX3_next 318 = .ok (.invokevirtual 61, 3) := dk_182 0 61 (dk_at dksX3_next_13 17 rfl rfl)
theorem dX3_next_321 : decode cX3_next 321 = .ok (.iload_n 1, 1) := dk_27 (dk_at dksX3_next_13 20 rfl rfl)
theorem dX3_next_322 : decode cX3_next 322 = .ok (.if_icmp .ne 8, 3) := dk_160 0 8 (dk_at dksX3_next_13 21 rfl rfl)
theorem dX3_next_325 : decode cX3_next 325 = .ok (.aload_n 0, 1) := dk_42 (dk_at dksX3_next_14 0 rfl rfl)
theorem dX3_next_326 : decode cX3_next 326 = .ok (.iload_n 1, 1) := dk_27 (dk_at dksX3_next_14 1 rfl rfl)
theorem dX3_next_327 : decode cX3_next 327 = .ok (.putfield 25, 3) := dk_181 0 25 (dk_at dksX3_next_14 2 rfl rfl)
theorem dX3_next_330 : decode cX3_next 330 = .ok (.iinc 2 1, 3) := dk_132 2 1 (dk_at dksX3_next_14 5 rfl rfl)
theorem dX3_next_333 : decode cX3_next 333 = .ok (.goto (-27), 3) := dk_167 255 229 (dk_at dksX3_next_14 8 rfl rfl)
theorem dX3_next_336 : decode cX3_next 336 = .ok (.iload_n 1, 1) := dk_27 (dk_at dksX3_next_14 11 rfl rfl)
theorem dX3_next_337 : decode cX3_next 337 = .ok (.bipush 60, 2) := dk_16 60 (dk_at dksX3_next_14 12 rfl rfl)
theorem dX3_next_339 : decode cX3_next 339 = .ok (.if_icmp .eq 9, 3) := dk_159 0 9 (dk_at dksX3_next_14 14 rfl rfl)
theorem dX3_next_342 : decode cX3_next 342 = .ok (.iload_n 1, 1) := dk_27 (dk_at dksX3_next_14 17 rfl rfl)
theorem dX3_next_343 : decode cX3_next 343 = .ok (.bipush 62, 2) := dk_16 62 (dk_at dksX3_next_14 18 rfl rfl)
theorem dX3_next_345 : decode cX3_next 345 = .ok (.if_icmp .ne 57, 3) := dk_160 0 57 (dk_at dksX3_next_14 20 rfl rfl)
theorem dX3_next_348 : decode cX3_next 348 = .ok (.aload_n 0, 1) := dk_42 (dk_at dksX3_next_14 23 rfl rfl)
theorem dX3_next_349 : decode cX3_next 349 = .ok (.getfield 19, 3) := dk_180 0 19 (dk_at dksX3_next_15 0 rfl rfl)
theorem dX3_next_352 : decode cX3_next 352 = .ok (.aload_n 0, 1) := dk_42 (dk_at dksX3_next_15 3 rfl rfl)
theorem dX3_next_353 : decode cX3_next 353 = .ok (.getfield 15, 3) := dk_180 0 15 (dk_at dksX3_next_15 4 rfl rfl)
theorem dX3_next_356 : decode cX3_next 356 = .ok (.if_icmp .ge 46, 3) := dk_162 0 46 (dk_at dksX3_next_15 7 rfl rfl)
theorem dX3_next_359 : decode cX3_next 359 = .ok (.aload_n 0, 1) := dk_42 (dk_at dksX3_next_15 10 rfl rfl)
theorem dX3_next_360 : decode cX3_next 360 = .ok (.getfield 9, 3) := dk_180 0 9 (dk_at dksX3_next_15 11 rfl rfl)
theorem dX3_next_363 : decode cX3_next 363 = .ok (.aload_n 0, 1) := dk_42 (dk_at dksX3_next_15 14 rfl rfl)
theorem dX3_next_364 : decode cX3_next 364 = .ok (.getfield 19, 3) := dk_180 0 19 (dk_at dksX3_next_15 15 rfl rfl)
theorem dX3_next_367 : decode cX3_next 367 = .ok (.baload, 1) := dk_51 (dk_at dksX3_next_15 18 rfl rfl)
theorem dX3_next_368 : decode cX3_next 368 = .ok (.bipush 61, 2) := dk_16 61 (dk_at dksX3_next_15 19 rfl rfl)
theorem dX3_next_370 : decode cX3_next 370 = .ok (.if_icmp .ne 32, 3) := dk_160 0 32 (dk_at dksX3_next_15 21 rfl rfl)
theorem dX3_next_373 : decode cX3_next 373 = .ok (.aload_n 0, 1) := dk_42 (dk_at dksX3_next_16 0 rfl rfl)
theorem dX3_next_374 : decode cX3_next 374 = .ok (.iload_n 1, 1) := dk_27 (dk_at dksX3_next_16 1 rfl rfl)
theorem dX3_next_375 : decode cX3_next 375 = .ok (.bipush 60, 2) := dk_16 60 (dk_at dksX3_next_16 2 rfl rfl)
theorem dX3_next_377 : decode cX3_next 377 = .ok (.if_icmp .ne 9, 3) := dk_160 0 9 (dk_at dksX3_next_16 4 rfl rfl)
theorem dX3_next_380 : decode cX3_next 380 = .ok (.sipush 303, 3) := dk_17 1 47 (dk_at dksX3_next_16 7 rfl rfl)
theorem dX3_next_383 : decode cX3_next 383 = .ok (.goto 6, 3) := dk_167 0 6 (dk_at dksX3_next_16 10 rfl rfl)
theorem dX3_next_386 : decode cX3_next 386 = .ok (.sipush 304, 3) := dk_17 1 48 (dk_at dksX3_next_16 13 rfl rfl)
theorem dX3_next_389 : decode cX3_next 389 = .ok (.putfield 25, 3) := dk_181 0 25 (dk_at dksX3_next_16 16 rfl rfl)
theorem dX3_next_392 : decode cX3_next 392 = .ok (.aload_n 0, 1) := dk_42 (dk_at dksX3_next_16 19 rfl rfl)
theorem dX3_next_393 : decode cX3_next 393 = .ok (.dup, 1) := dk_89 (dk_at dksX3_next_16 20 rfl rfl)
theorem dX3_next_394 : decode cX3_next 394 = .ok (.getfield 19, 3) := dk_180 0 19 (dk_at dksX3_next_16 21 rfl rfl)
theorem dX3_next_397 : decode cX3_next 397 = .ok (.iconst 1, 1) := dk_4 (dk_at dksX3_next_17 0 rfl rfl)
theorem dX3_next_398 : decode cX3_next 398 = .ok (.iadd, 1) := dk_96 (dk_at dksX3_next_17 1 rfl rfl)
theorem dX3_next_399 : decode cX3_next 399 = .ok (.putfield 19, 3) := dk_181 0 19 (dk_at dksX3_next_17 2 rfl rfl)
theorem dX3_next_402 : decode cX3_next 402 = .ok (.return_, 1) := dk_177 (dk_at dksX3_next_17 5 rfl rfl)
abbrev cX3_isLetter : ByteArray := prog_16_method_2_code
def yX3_isLetter : MethodName := ⟨RX3, "isLetter", "(I)Z"⟩
def dkwX3_isLetter_1 : List UInt8 := [4, 167, 0, 4, 3, 172]
abbrev dktX3_isLetter_1 : List UInt8 := dkwX3_isLetter_1 ++ []
def dkwX3_isLetter_0 : List UInt8 := [26, 16, 97, 161, 0, 9, 26, 16, 122, 164, 0, 15, 26, 16, 65, 161, 0, 13, 26, 16, 90, 163, 0, 7]
abbrev dktX3_isLetter_0 : List UInt8 := dkwX3_isLetter_0 ++ dktX3_isLetter_1
theorem dksX3_isLetter_0 : cX3_isLetter.data.toList.drop 0 = dktX3_isLetter_0 := by decide +kernel
theorem dksX3_isLetter_1 : cX3_isLetter.data.toList.drop 24 = dktX3_isLetter_1 := dk_seg dksX3_isLetter_0 24 rfl rfl
theorem dX3_isLetter_0 : decode cX3_isLetter 0 = .ok (.iload_n 0, 1) := dk_26 (dk_at dksX3_isLetter_0 0 rfl rfl)
theorem dX3_isLetter_1 : decode cX3_isLetter 1 = .ok (.bipush 97, 2) := dk_16 97 (dk_at dksX3_isLetter_0 1 rfl rfl)
theorem dX3_isLetter_3 : decode cX3_isLetter 3 = .ok (.if_icmp .lt 9, 3) := dk_161 0 9 (dk_at dksX3_isLetter_0 3 rfl rfl)
theorem dX3_isLetter_6 : decode cX3_isLetter 6 = .ok (.iload_n 0, 1) := dk_26 (dk_at dksX3_isLetter_0 6 rfl rfl)
theorem dX3_isLetter_7 : decode cX3_isLetter 7 = .ok (.bipush 122, 2) := dk_16 122 (dk_at dksX3_isLetter_0 7 rfl rfl)
theorem dX3_isLetter_9 : decode cX3_isLetter 9 = .ok (.if_icmp .le 15, 3) := dk_164 0 15 (dk_at dksX3_isLetter_0 9 rfl rfl)
theorem dX3_isLetter_12 : decode cX3_isLetter 12 = .ok (.iload_n 0, 1) := dk_26 (dk_at dksX3_isLetter_0 12 rfl rfl)
theorem dX3_isLetter_13 : decode cX3_isLetter 13 = .ok (.bipush 65, 2) := dk_16 65 (dk_at dksX3_isLetter_0 13 rfl rfl)
theorem dX3_isLetter_15 : decode cX3_isLetter 15 = .ok (.if_icmp .lt 13, 3) := dk_161 0 13 (dk_at dksX3_isLetter_0 15 rfl rfl)
theorem dX3_isLetter_18 : decode cX3_isLetter 18 = .ok (.iload_n 0, 1) := dk_26 (dk_at dksX3_isLetter_0 18 rfl rfl)
theorem dX3_isLetter_19 : decode cX3_isLetter 19 = .ok (.bipush 90, 2) := dk_16 90 (dk_at dksX3_isLetter_0 19 rfl rfl)
theorem dX3_isLetter_21 : decode cX3_isLetter 21 = .ok (.if_icmp .gt 7, 3) := dk_163 0 7 (dk_at dksX3_isLetter_0 21 rfl rfl)
theorem dX3_isLetter_24 : decode cX3_isLetter 24 = .ok (.iconst 1, 1) := dk_4 (dk_at dksX3_isLetter_1 0 rfl rfl)
theorem dX3_isLetter_25 : decode cX3_isLetter 25 = .ok (.goto 4, 3) := dk_167 0 4 (dk_at dksX3_isLetter_1 1 rfl rfl)
theorem dX3_isLetter_28 : decode cX3_isLetter 28 = .ok (.iconst 0, 1) := dk_3 (dk_at dksX3_isLetter_1 4 rfl rfl)
theorem dX3_isLetter_29 : decode cX3_isLetter 29 = .ok (.ireturn, 1) := dk_172 (dk_at dksX3_isLetter_1 5 rfl rfl)
abbrev cX3_isWord : ByteArray := prog_16_method_5_code
def yX3_isWord : MethodName := ⟨RX3, "isWord", "(Ljava/lang/String;)Z"⟩
def dkwX3_isWord_2 : List UInt8 := [159, 0, 5, 3, 172, 132, 2, 1, 167, 255, 224, 4, 172]
abbrev dktX3_isWord_2 : List UInt8 := dkwX3_isWord_2 ++ []
def dkwX3_isWord_1 : List UInt8 := [182, 0, 55, 162, 0, 30, 42, 180, 0, 9, 42, 180, 0, 22, 28, 96, 51, 43, 28, 182, 0, 61]
abbrev dktX3_isWord_1 : List UInt8 := dkwX3_isWord_1 ++ dktX3_isWord_2
def dkwX3_isWord_0 : List UInt8 := [42, 180, 0, 19, 42, 180, 0, 22, 100, 43, 182, 0, 55, 159, 0, 5, 3, 172, 3, 61, 28, 43]
abbrev dktX3_isWord_0 : List UInt8 := dkwX3_isWord_0 ++ dktX3_isWord_1
theorem dksX3_isWord_0 : cX3_isWord.data.toList.drop 0 = dktX3_isWord_0 := by decide +kernel
theorem dksX3_isWord_1 : cX3_isWord.data.toList.drop 22 = dktX3_isWord_1 := dk_seg dksX3_isWord_0 22 rfl rfl
theorem dksX3_isWord_2 : cX3_isWord.data.toList.drop 44 = dktX3_isWord_2 := dk_seg dksX3_isWord_1 22 rfl rfl
theorem dX3_isWord_0 : decode cX3_isWord 0 = .ok (.aload_n 0, 1) := dk_42 (dk_at dksX3_isWord_0 0 rfl rfl)
theorem dX3_isWord_1 : decode cX3_isWord 1 = .ok (.getfield 19, 3) := dk_180 0 19 (dk_at dksX3_isWord_0 1 rfl rfl)
theorem dX3_isWord_4 : decode cX3_isWord 4 = .ok (.aload_n 0, 1) := dk_42 (dk_at dksX3_isWord_0 4 rfl rfl)
theorem dX3_isWord_5 : decode cX3_isWord 5 = .ok (.getfield 22, 3) := dk_180 0 22 (dk_at dksX3_isWord_0 5 rfl rfl)
theorem dX3_isWord_8 : decode cX3_isWord 8 = .ok (.isub, 1) := dk_100 (dk_at dksX3_isWord_0 8 rfl rfl)
theorem dX3_isWord_9 : decode cX3_isWord 9 = .ok (.aload_n 1, 1) := dk_43 (dk_at dksX3_isWord_0 9 rfl rfl)
theorem dX3_isWord_10 : decode cX3_isWord 10 = .ok (.invokevirtual 55, 3) := dk_182 0 55 (dk_at dksX3_isWord_0 10 rfl rfl)
theorem dX3_isWord_13 : decode cX3_isWord 13 = .ok (.if_icmp .eq 5, 3) := dk_159 0 5 (dk_at dksX3_isWord_0 13 rfl rfl)
theorem dX3_isWord_16 : decode cX3_isWord 16 = .ok (.iconst 0, 1) := dk_3 (dk_at dksX3_isWord_0 16 rfl rfl)
theorem dX3_isWord_17 : decode cX3_isWord 17 = .ok (.ireturn, 1) := dk_172 (dk_at dksX3_isWord_0 17 rfl rfl)
theorem dX3_isWord_18 : decode cX3_isWord 18 = .ok (.iconst 0, 1) := dk_3 (dk_at dksX3_isWord_0 18 rfl rfl)
theorem dX3_isWord_19 : decode cX3_isWord 19 = .ok (.istore_n 2, 1) := dk_61 (dk_at dksX3_isWord_0 19 rfl rfl)
theorem dX3_isWord_20 : decode cX3_isWord 20 = .ok (.iload_n 2, 1) := dk_28 (dk_at dksX3_isWord_0 20 rfl rfl)
theorem dX3_isWord_21 : decode cX3_isWord 21 = .ok (.aload_n 1, 1) := dk_43 (dk_at dksX3_isWord_0 21 rfl rfl)
theorem dX3_isWord_22 : decode cX3_isWord 22 = .ok (.invokevirtual 55, 3) := dk_182 0 55 (dk_at dksX3_isWord_1 0 rfl rfl)
theorem dX3_isWord_25 : decode cX3_isWord 25 = .ok (.if_icmp .ge 30, 3) := dk_162 0 30 (dk_at dksX3_isWord_1 3 rfl rfl)
theorem dX3_isWord_28 : decode cX3_isWord 28 = .ok (.aload_n 0, 1) := dk_42 (dk_at dksX3_isWord_1 6 rfl rfl)
theorem dX3_isWord_29 : decode cX3_isWord 29 = .ok (.getfield 9, 3) := dk_180 0 9 (dk_at dksX3_isWord_1 7 rfl rfl)
theorem dX3_isWord_32 : decode cX3_isWord 32 = .ok (.aload_n 0, 1) := dk_42 (dk_at dksX3_isWord_1 10 rfl rfl)
theorem dX3_isWord_33 : decode cX3_isWord 33 = .ok (.getfield 22, 3) := dk_180 0 22 (dk_at dksX3_isWord_1 11 rfl rfl)
theorem dX3_isWord_36 : decode cX3_isWord 36 = .ok (.iload_n 2, 1) := dk_28 (dk_at dksX3_isWord_1 14 rfl rfl)
theorem dX3_isWord_37 : decode cX3_isWord 37 = .ok (.iadd, 1) := dk_96 (dk_at dksX3_isWord_1 15 rfl rfl)
theorem dX3_isWord_38 : decode cX3_isWord 38 = .ok (.baload, 1) := dk_51 (dk_at dksX3_isWord_1 16 rfl rfl)
theorem dX3_isWord_39 : decode cX3_isWord 39 = .ok (.aload_n 1, 1) := dk_43 (dk_at dksX3_isWord_1 17 rfl rfl)
theorem dX3_isWord_40 : decode cX3_isWord 40 = .ok (.iload_n 2, 1) := dk_28 (dk_at dksX3_isWord_1 18 rfl rfl)
theorem dX3_isWord_41 : decode cX3_isWord 41 = .ok (.invokevirtual 61, 3) := dk_182 0 61 (dk_at dksX3_isWord_1 19 rfl rfl)
theorem dX3_isWord_44 : decode cX3_isWord 44 = .ok (.if_icmp .eq 5, 3) := dk_159 0 5 (dk_at dksX3_isWord_2 0 rfl rfl)
theorem dX3_isWord_47 : decode cX3_isWord 47 = .ok (.iconst 0, 1) := dk_3 (dk_at dksX3_isWord_2 3 rfl rfl)
theorem dX3_isWord_48 : decode cX3_isWord 48 = .ok (.ireturn, 1) := dk_172 (dk_at dksX3_isWord_2 4 rfl rfl)
theorem dX3_isWord_49 : decode cX3_isWord 49 = .ok (.iinc 2 1, 3) := dk_132 2 1 (dk_at dksX3_isWord_2 5 rfl rfl)
theorem dX3_isWord_52 : decode cX3_isWord 52 = .ok (.goto (-32), 3) := dk_167 255 224 (dk_at dksX3_isWord_2 8 rfl rfl)
theorem dX3_isWord_55 : decode cX3_isWord 55 = .ok (.iconst 1, 1) := dk_4 (dk_at dksX3_isWord_2 11 rfl rfl)
theorem dX3_isWord_56 : decode cX3_isWord 56 = .ok (.ireturn, 1) := dk_172 (dk_at dksX3_isWord_2 12 rfl rfl)
abbrev cX3_isDigit : ByteArray := prog_16_method_3_code
def yX3_isDigit : MethodName := ⟨RX3, "isDigit", "(I)Z"⟩
def dkwX3_isDigit_0 : List UInt8 := [26, 16, 48, 161, 0, 13, 26, 16, 57, 163, 0, 7, 4, 167, 0, 4, 3, 172]
abbrev dktX3_isDigit_0 : List UInt8 := dkwX3_isDigit_0 ++ []
theorem dksX3_isDigit_0 : cX3_isDigit.data.toList.drop 0 = dktX3_isDigit_0 := by decide +kernel
theorem dX3_isDigit_0 : decode cX3_isDigit 0 = .ok (.iload_n 0, 1) := dk_26 (dk_at dksX3_isDigit_0 0 rfl rfl)
theorem dX3_isDigit_1 : decode cX3_isDigit 1 = .ok (.bipush 48, 2) := dk_16 48 (dk_at dksX3_isDigit_0 1 rfl rfl)
theorem dX3_isDigit_3 : decode cX3_isDigit 3 = .ok (.if_icmp .lt 13, 3) := dk_161 0 13 (dk_at dksX3_isDigit_0 3 rfl rfl)
theorem dX3_isDigit_6 : decode cX3_isDigit 6 = .ok (.iload_n 0, 1) := dk_26 (dk_at dksX3_isDigit_0 6 rfl rfl)
theorem dX3_isDigit_7 : decode cX3_isDigit 7 = .ok (.bipush 57, 2) := dk_16 57 (dk_at dksX3_isDigit_0 7 rfl rfl)
theorem dX3_isDigit_9 : decode cX3_isDigit 9 = .ok (.if_icmp .gt 7, 3) := dk_163 0 7 (dk_at dksX3_isDigit_0 9 rfl rfl)
theorem dX3_isDigit_12 : decode cX3_isDigit 12 = .ok (.iconst 1, 1) := dk_4 (dk_at dksX3_isDigit_0 12 rfl rfl)
theorem dX3_isDigit_13 : decode cX3_isDigit 13 = .ok (.goto 4, 3) := dk_167 0 4 (dk_at dksX3_isDigit_0 13 rfl rfl)
theorem dX3_isDigit_16 : decode cX3_isDigit 16 = .ok (.iconst 0, 1) := dk_3 (dk_at dksX3_isDigit_0 16 rfl rfl)
theorem dX3_isDigit_17 : decode cX3_isDigit 17 = .ok (.ireturn, 1) := dk_172 (dk_at dksX3_isDigit_0 17 rfl rfl)
abbrev cX3_wrong : ByteArray := prog_16_method_6_code
def yX3_wrong : MethodName := ⟨RX3, "wrong", "(I)LShutDays$Wrong;"⟩
def dkwX3_wrong_0 : List UInt8 := [187, 0, 65, 89, 27, 42, 180, 0, 22, 183, 0, 67, 176]
abbrev dktX3_wrong_0 : List UInt8 := dkwX3_wrong_0 ++ []
theorem dksX3_wrong_0 : cX3_wrong.data.toList.drop 0 = dktX3_wrong_0 := by decide +kernel
theorem dX3_wrong_0 : decode cX3_wrong 0 = .ok (.new 65, 3) := dk_187 0 65 (dk_at dksX3_wrong_0 0 rfl rfl)
theorem dX3_wrong_3 : decode cX3_wrong 3 = .ok (.dup, 1) := dk_89 (dk_at dksX3_wrong_0 3 rfl rfl)
theorem dX3_wrong_4 : decode cX3_wrong 4 = .ok (.iload_n 1, 1) := dk_27 (dk_at dksX3_wrong_0 4 rfl rfl)
theorem dX3_wrong_5 : decode cX3_wrong 5 = .ok (.aload_n 0, 1) := dk_42 (dk_at dksX3_wrong_0 5 rfl rfl)
theorem dX3_wrong_6 : decode cX3_wrong 6 = .ok (.getfield 22, 3) := dk_180 0 22 (dk_at dksX3_wrong_0 6 rfl rfl)
theorem dX3_wrong_9 : decode cX3_wrong 9 = .ok (.invokespecial 67, 3) := dk_183 0 67 (dk_at dksX3_wrong_0 9 rfl rfl)
theorem dX3_wrong_12 : decode cX3_wrong 12 = .ok (.areturn, 1) := dk_176 (dk_at dksX3_wrong_0 12 rfl rfl)
abbrev cX3_sum : ByteArray := prog_16_method_17_code
def yX3_sum : MethodName := ⟨RX3, "sum", "()LShutDays$Sum;"⟩
def dkwX3_sum_2 : List UInt8 := [182, 0, 187, 167, 255, 220, 43, 182, 0, 190, 176]
abbrev dktX3_sum_2 : List UInt8 := dkwX3_sum_2 ++ []
def dkwX3_sum_1 : List UInt8 := [180, 0, 25, 16, 45, 160, 0, 24, 42, 180, 0, 25, 61, 42, 182, 0, 74, 43, 28, 42, 182, 0, 181]
abbrev dktX3_sum_1 : List UInt8 := dkwX3_sum_1 ++ dktX3_sum_2
def dkwX3_sum_0 : List UInt8 := [187, 0, 179, 89, 42, 182, 0, 181, 183, 0, 184, 76, 42, 180, 0, 25, 16, 43, 159, 0, 12, 42]
abbrev dktX3_sum_0 : List UInt8 := dkwX3_sum_0 ++ dktX3_sum_1
theorem dksX3_sum_0 : cX3_sum.data.toList.drop 0 = dktX3_sum_0 := by decide +kernel
theorem dksX3_sum_1 : cX3_sum.data.toList.drop 22 = dktX3_sum_1 := dk_seg dksX3_sum_0 22 rfl rfl
theorem dksX3_sum_2 : cX3_sum.data.toList.drop 45 = dktX3_sum_2 := dk_seg dksX3_sum_1 23 rfl rfl
theorem dX3_sum_0 : decode cX3_sum 0 = .ok (.new 179, 3) := dk_187 0 179 (dk_at dksX3_sum_0 0 rfl rfl)
theorem dX3_sum_3 : decode cX3_sum 3 = .ok (.dup, 1) := dk_89 (dk_at dksX3_sum_0 3 rfl rfl)
theorem dX3_sum_4 : decode cX3_sum 4 = .ok (.aload_n 0, 1) := dk_42 (dk_at dksX3_sum_0 4 rfl rfl)
theorem dX3_sum_5 : decode cX3_sum 5 = .ok (.invokevirtual 181, 3) := dk_182 0 181 (dk_at dksX3_sum_0 5 rfl rfl)
theorem dX3_sum_8 : decode cX3_sum 8 = .ok (.invokespecial 184, 3) := dk_183 0 184 (dk_at dksX3_sum_0 8 rfl rfl)
theorem dX3_sum_11 : decode cX3_sum 11 = .ok (.astore_n 1, 1) := dk_76 (dk_at dksX3_sum_0 11 rfl rfl)
theorem dX3_sum_12 : decode cX3_sum 12 = .ok (.aload_n 0, 1) := dk_42 (dk_at dksX3_sum_0 12 rfl rfl)
theorem dX3_sum_13 : decode cX3_sum 13 = .ok (.getfield 25, 3) := dk_180 0 25 (dk_at dksX3_sum_0 13 rfl rfl)
theorem dX3_sum_16 : decode cX3_sum 16 = .ok (.bipush 43, 2) := dk_16 43 (dk_at dksX3_sum_0 16 rfl rfl)
theorem dX3_sum_18 : decode cX3_sum 18 = .ok (.if_icmp .eq 12, 3) := dk_159 0 12 (dk_at dksX3_sum_0 18 rfl rfl)
theorem dX3_sum_21 : decode cX3_sum 21 = .ok (.aload_n 0, 1) := dk_42 (dk_at dksX3_sum_0 21 rfl rfl)
theorem dX3_sum_22 : decode cX3_sum 22 = .ok (.getfield 25, 3) := dk_180 0 25 (dk_at dksX3_sum_1 0 rfl rfl)
theorem dX3_sum_25 : decode cX3_sum 25 = .ok (.bipush 45, 2) := dk_16 45 (dk_at dksX3_sum_1 3 rfl rfl)
theorem dX3_sum_27 : decode cX3_sum 27 = .ok (.if_icmp .ne 24, 3) := dk_160 0 24 (dk_at dksX3_sum_1 5 rfl rfl)
theorem dX3_sum_30 : decode cX3_sum 30 = .ok (.aload_n 0, 1) := dk_42 (dk_at dksX3_sum_1 8 rfl rfl)
theorem dX3_sum_31 : decode cX3_sum 31 = .ok (.getfield 25, 3) := dk_180 0 25 (dk_at dksX3_sum_1 9 rfl rfl)
theorem dX3_sum_34 : decode cX3_sum 34 = .ok (.istore_n 2, 1) := dk_61 (dk_at dksX3_sum_1 12 rfl rfl)
theorem dX3_sum_35 : decode cX3_sum 35 = .ok (.aload_n 0, 1) := dk_42 (dk_at dksX3_sum_1 13 rfl rfl)
theorem dX3_sum_36 : decode cX3_sum 36 = .ok (.invokevirtual 74, 3) := dk_182 0 74 (dk_at dksX3_sum_1 14 rfl rfl)
theorem dX3_sum_39 : decode cX3_sum 39 = .ok (.aload_n 1, 1) := dk_43 (dk_at dksX3_sum_1 17 rfl rfl)
theorem dX3_sum_40 : decode cX3_sum 40 = .ok (.iload_n 2, 1) := dk_28 (dk_at dksX3_sum_1 18 rfl rfl)
theorem dX3_sum_41 : decode cX3_sum 41 = .ok (.aload_n 0, 1) := dk_42 (dk_at dksX3_sum_1 19 rfl rfl)
theorem dX3_sum_42 : decode cX3_sum 42 = .ok (.invokevirtual 181, 3) := dk_182 0 181 (dk_at dksX3_sum_1 20 rfl rfl)
theorem dX3_sum_45 : decode cX3_sum 45 = .ok (.invokevirtual 187, 3) := dk_182 0 187 (dk_at dksX3_sum_2 0 rfl rfl)
theorem dX3_sum_48 : decode cX3_sum 48 = .ok (.goto (-36), 3) := dk_167 255 220 (dk_at dksX3_sum_2 3 rfl rfl)
theorem dX3_sum_51 : decode cX3_sum 51 = .ok (.aload_n 1, 1) := dk_43 (dk_at dksX3_sum_2 6 rfl rfl)
theorem dX3_sum_52 : decode cX3_sum 52 = .ok (.invokevirtual 190, 3) := dk_182 0 190 (dk_at dksX3_sum_2 7 rfl rfl)
theorem dX3_sum_55 : decode cX3_sum 55 = .ok (.areturn, 1) := dk_176 (dk_at dksX3_sum_2 10 rfl rfl)
abbrev cX3_product : ByteArray := prog_16_method_18_code
def yX3_product : MethodName := ⟨RX3, "product", "()LShutDays$Sum;"⟩
def dkwX3_product_2 : List UInt8 := [182, 0, 187, 167, 255, 220, 43, 182, 0, 190, 176]
abbrev dktX3_product_2 : List UInt8 := dkwX3_product_2 ++ []
def dkwX3_product_1 : List UInt8 := [180, 0, 25, 16, 47, 160, 0, 24, 42, 180, 0, 25, 61, 42, 182, 0, 74, 43, 28, 42, 182, 0, 193]
abbrev dktX3_product_1 : List UInt8 := dkwX3_product_1 ++ dktX3_product_2
def dkwX3_product_0 : List UInt8 := [187, 0, 179, 89, 42, 182, 0, 193, 183, 0, 184, 76, 42, 180, 0, 25, 16, 42, 159, 0, 12, 42]
abbrev dktX3_product_0 : List UInt8 := dkwX3_product_0 ++ dktX3_product_1
theorem dksX3_product_0 : cX3_product.data.toList.drop 0 = dktX3_product_0 := by decide +kernel
theorem dksX3_product_1 : cX3_product.data.toList.drop 22 = dktX3_product_1 := dk_seg dksX3_product_0 22 rfl rfl
theorem dksX3_product_2 : cX3_product.data.toList.drop 45 = dktX3_product_2 := dk_seg dksX3_product_1 23 rfl rfl
theorem dX3_product_0 : decode cX3_product 0 = .ok (.new 179, 3) := dk_187 0 179 (dk_at dksX3_product_0 0 rfl rfl)
theorem dX3_product_3 : decode cX3_product 3 = .ok (.dup, 1) := dk_89 (dk_at dksX3_product_0 3 rfl rfl)
theorem dX3_product_4 : decode cX3_product 4 = .ok (.aload_n 0, 1) := dk_42 (dk_at dksX3_product_0 4 rfl rfl)
theorem dX3_product_5 : decode cX3_product 5 = .ok (.invokevirtual 193, 3) := dk_182 0 193 (dk_at dksX3_product_0 5 rfl rfl)
theorem dX3_product_8 : decode cX3_product 8 = .ok (.invokespecial 184, 3) := dk_183 0 184 (dk_at dksX3_product_0 8 rfl rfl)
theorem dX3_product_11 : decode cX3_product 11 = .ok (.astore_n 1, 1) := dk_76 (dk_at dksX3_product_0 11 rfl rfl)
theorem dX3_product_12 : decode cX3_product 12 = .ok (.aload_n 0, 1) := dk_42 (dk_at dksX3_product_0 12 rfl rfl)
theorem dX3_product_13 : decode cX3_product 13 = .ok (.getfield 25, 3) := dk_180 0 25 (dk_at dksX3_product_0 13 rfl rfl)
theorem dX3_product_16 : decode cX3_product 16 = .ok (.bipush 42, 2) := dk_16 42 (dk_at dksX3_product_0 16 rfl rfl)
theorem dX3_product_18 : decode cX3_product 18 = .ok (.if_icmp .eq 12, 3) := dk_159 0 12 (dk_at dksX3_product_0 18 rfl rfl)
theorem dX3_product_21 : decode cX3_product 21 = .ok (.aload_n 0, 1) := dk_42 (dk_at dksX3_product_0 21 rfl rfl)
theorem dX3_product_22 : decode cX3_product 22 = .ok (.getfield 25, 3) := dk_180 0 25 (dk_at dksX3_product_1 0 rfl rfl)
theorem dX3_product_25 : decode cX3_product 25 = .ok (.bipush 47, 2) := dk_16 47 (dk_at dksX3_product_1 3 rfl rfl)
theorem dX3_product_27 : decode cX3_product 27 = .ok (.if_icmp .ne 24, 3) := dk_160 0 24 (dk_at dksX3_product_1 5 rfl rfl)
theorem dX3_product_30 : decode cX3_product 30 = .ok (.aload_n 0, 1) := dk_42 (dk_at dksX3_product_1 8 rfl rfl)
theorem dX3_product_31 : decode cX3_product 31 = .ok (.getfield 25, 3) := dk_180 0 25 (dk_at dksX3_product_1 9 rfl rfl)
theorem dX3_product_34 : decode cX3_product 34 = .ok (.istore_n 2, 1) := dk_61 (dk_at dksX3_product_1 12 rfl rfl)
theorem dX3_product_35 : decode cX3_product 35 = .ok (.aload_n 0, 1) := dk_42 (dk_at dksX3_product_1 13 rfl rfl)
theorem dX3_product_36 : decode cX3_product 36 = .ok (.invokevirtual 74, 3) := dk_182 0 74 (dk_at dksX3_product_1 14 rfl rfl)
theorem dX3_product_39 : decode cX3_product 39 = .ok (.aload_n 1, 1) := dk_43 (dk_at dksX3_product_1 17 rfl rfl)
theorem dX3_product_40 : decode cX3_product 40 = .ok (.iload_n 2, 1) := dk_28 (dk_at dksX3_product_1 18 rfl rfl)
theorem dX3_product_41 : decode cX3_product 41 = .ok (.aload_n 0, 1) := dk_42 (dk_at dksX3_product_1 19 rfl rfl)
theorem dX3_product_42 : decode cX3_product 42 = .ok (.invokevirtual 193, 3) := dk_182 0 193 (dk_at dksX3_product_1 20 rfl rfl)
theorem dX3_product_45 : decode cX3_product 45 = .ok (.invokevirtual 187, 3) := dk_182 0 187 (dk_at dksX3_product_2 0 rfl rfl)
theorem dX3_product_48 : decode cX3_product 48 = .ok (.goto (-36), 3) := dk_167 255 220 (dk_at dksX3_product_2 3 rfl rfl)
theorem dX3_product_51 : decode cX3_product 51 = .ok (.aload_n 1, 1) := dk_43 (dk_at dksX3_product_2 6 rfl rfl)
theorem dX3_product_52 : decode cX3_product 52 = .ok (.invokevirtual 190, 3) := dk_182 0 190 (dk_at dksX3_product_2 7 rfl rfl)
theorem dX3_product_55 : decode cX3_product 55 = .ok (.areturn, 1) := dk_176 (dk_at dksX3_product_2 10 rfl rfl)
abbrev cX3_one : ByteArray := prog_16_method_22_code
def yX3_one : MethodName := ⟨RX3, "one", "()LShutDays$Sum;"⟩
def dkwX3_one_6 : List UInt8 := [42, 89, 180, 0, 77, 4, 100, 181, 0, 77, 44, 176]
abbrev dktX3_one_6 : List UInt8 := dkwX3_one_6 ++ []
def dkwX3_one_5 : List UInt8 := [182, 0, 162, 187, 0, 215, 89, 42, 182, 0, 193, 183, 0, 217, 77, 167, 0, 9, 42, 4, 182, 0, 70, 191]
abbrev dktX3_one_5 : List UInt8 := dkwX3_one_5 ++ dktX3_one_6
def dkwX3_one_4 : List UInt8 := [182, 0, 100, 77, 42, 16, 41, 182, 0, 122, 167, 0, 37, 42, 180, 0, 25, 16, 45, 160, 0, 22, 42]
abbrev dktX3_one_4 : List UInt8 := dkwX3_one_4 ++ dktX3_one_5
def dkwX3_one_3 : List UInt8 := [187, 0, 212, 89, 27, 183, 0, 214, 176, 42, 180, 0, 25, 16, 40, 160, 0, 21, 42, 182, 0, 162, 42]
abbrev dktX3_one_3 : List UInt8 := dkwX3_one_3 ++ dktX3_one_4
def dkwX3_one_2 : List UInt8 := [27, 2, 159, 0, 30, 42, 27, 182, 0, 209, 154, 0, 9, 42, 8, 182, 0, 70, 191, 42, 182, 0, 74]
abbrev dktX3_one_2 : List UInt8 := dkwX3_one_2 ++ dktX3_one_3
def dkwX3_one_1 : List UInt8 := [183, 0, 201, 176, 42, 180, 0, 25, 17, 0, 217, 160, 0, 8, 42, 182, 0, 203, 176, 42, 182, 0, 206, 60]
abbrev dktX3_one_1 : List UInt8 := dkwX3_one_1 ++ dktX3_one_2
def dkwX3_one_0 : List UInt8 := [42, 180, 0, 25, 17, 1, 44, 160, 0, 19, 187, 0, 199, 89, 42, 3, 17, 39, 15, 182, 0, 126]
abbrev dktX3_one_0 : List UInt8 := dkwX3_one_0 ++ dktX3_one_1
theorem dksX3_one_0 : cX3_one.data.toList.drop 0 = dktX3_one_0 := by decide +kernel
theorem dksX3_one_1 : cX3_one.data.toList.drop 22 = dktX3_one_1 := dk_seg dksX3_one_0 22 rfl rfl
theorem dksX3_one_2 : cX3_one.data.toList.drop 46 = dktX3_one_2 := dk_seg dksX3_one_1 24 rfl rfl
theorem dksX3_one_3 : cX3_one.data.toList.drop 69 = dktX3_one_3 := dk_seg dksX3_one_2 23 rfl rfl
theorem dksX3_one_4 : cX3_one.data.toList.drop 92 = dktX3_one_4 := dk_seg dksX3_one_3 23 rfl rfl
theorem dksX3_one_5 : cX3_one.data.toList.drop 115 = dktX3_one_5 := dk_seg dksX3_one_4 23 rfl rfl
theorem dksX3_one_6 : cX3_one.data.toList.drop 139 = dktX3_one_6 := dk_seg dksX3_one_5 24 rfl rfl
theorem dX3_one_0 : decode cX3_one 0 = .ok (.aload_n 0, 1) := dk_42 (dk_at dksX3_one_0 0 rfl rfl)
theorem dX3_one_1 : decode cX3_one 1 = .ok (.getfield 25, 3) := dk_180 0 25 (dk_at dksX3_one_0 1 rfl rfl)
theorem dX3_one_4 : decode cX3_one 4 = .ok (.sipush 300, 3) := dk_17 1 44 (dk_at dksX3_one_0 4 rfl rfl)
theorem dX3_one_7 : decode cX3_one 7 = .ok (.if_icmp .ne 19, 3) := dk_160 0 19 (dk_at dksX3_one_0 7 rfl rfl)
theorem dX3_one_10 : decode cX3_one 10 = .ok (.new 199, 3) := dk_187 0 199 (dk_at dksX3_one_0 10 rfl rfl)
theorem dX3_one_13 : decode cX3_one 13 = .ok (.dup, 1) := dk_89 (dk_at dksX3_one_0 13 rfl rfl)
theorem dX3_one_14 : decode cX3_one 14 = .ok (.aload_n 0, 1) := dk_42 (dk_at dksX3_one_0 14 rfl rfl)
theorem dX3_one_15 : decode cX3_one 15 = .ok (.iconst 0, 1) := dk_3 (dk_at dksX3_one_0 15 rfl rfl)
theorem dX3_one_16 : decode cX3_one 16 = .ok (.sipush 9999, 3) := dk_17 39 15 (dk_at dksX3_one_0 16 rfl rfl)
theorem dX3_one_19 : decode cX3_one 19 = .ok (.invokevirtual 126, 3) := dk_182 0 126 (dk_at dksX3_one_0 19 rfl rfl)
theorem dX3_one_22 : decode cX3_one 22 = .ok (.invokespecial 201, 3) := dk_183 0 201 (dk_at dksX3_one_1 0 rfl rfl)
theorem dX3_one_25 : decode cX3_one 25 = .ok (.areturn, 1) := dk_176 (dk_at dksX3_one_1 3 rfl rfl)
theorem dX3_one_26 : decode cX3_one 26 = .ok (.aload_n 0, 1) := dk_42 (dk_at dksX3_one_1 4 rfl rfl)
theorem dX3_one_27 : decode cX3_one 27 = .ok (.getfield 25, 3) := dk_180 0 25 (dk_at dksX3_one_1 5 rfl rfl)
theorem dX3_one_30 : decode cX3_one 30 = .ok (.sipush 217, 3) := dk_17 0 217 (dk_at dksX3_one_1 8 rfl rfl)
theorem dX3_one_33 : decode cX3_one 33 = .ok (.if_icmp .ne 8, 3) := dk_160 0 8 (dk_at dksX3_one_1 11 rfl rfl)
theorem dX3_one_36 : decode cX3_one 36 = .ok (.aload_n 0, 1) := dk_42 (dk_at dksX3_one_1 14 rfl rfl)
theorem dX3_one_37 : decode cX3_one 37 = .ok (.invokevirtual 203, 3) := dk_182 0 203 (dk_at dksX3_one_1 15 rfl rfl)
theorem dX3_one_40 : decode cX3_one 40 = .ok (.areturn, 1) := dk_176 (dk_at dksX3_one_1 18 rfl rfl)
theorem dX3_one_41 : decode cX3_one 41 = .ok (.aload_n 0, 1) := dk_42 (dk_at dksX3_one_1 19 rfl rfl)
theorem dX3_one_42 : decode cX3_one 42 = .ok (.invokevirtual 206, 3) := dk_182 0 206 (dk_at dksX3_one_1 20 rfl rfl)
theorem dX3_one_45 : decode cX3_one 45 = .ok (.istore_n 1, 1) := dk_60 (dk_at dksX3_one_1 23 rfl rfl)
theorem dX3_one_46 : decode cX3_one 46 = .ok (.iload_n 1, 1) := dk_27 (dk_at dksX3_one_2 0 rfl rfl)
theorem dX3_one_47 : decode cX3_one 47 = .ok (.iconst (-1), 1) := dk_2 (dk_at dksX3_one_2 1 rfl rfl)
theorem dX3_one_48 : decode cX3_one 48 = .ok (.if_icmp .eq 30, 3) := dk_159 0 30 (dk_at dksX3_one_2 2 rfl rfl)
theorem dX3_one_51 : decode cX3_one 51 = .ok (.aload_n 0, 1) := dk_42 (dk_at dksX3_one_2 5 rfl rfl)
theorem dX3_one_52 : decode cX3_one 52 = .ok (.iload_n 1, 1) := dk_27 (dk_at dksX3_one_2 6 rfl rfl)
theorem dX3_one_53 : decode cX3_one 53 = .ok (.invokevirtual 209, 3) := dk_182 0 209 (dk_at dksX3_one_2 7 rfl rfl)
theorem dX3_one_56 : decode cX3_one 56 = .ok (.ifCond .ne 9, 3) := dk_154 0 9 (dk_at dksX3_one_2 10 rfl rfl)
theorem dX3_one_59 : decode cX3_one 59 = .ok (.aload_n 0, 1) := dk_42 (dk_at dksX3_one_2 13 rfl rfl)
theorem dX3_one_60 : decode cX3_one 60 = .ok (.iconst 5, 1) := dk_8 (dk_at dksX3_one_2 14 rfl rfl)
theorem dX3_one_61 : decode cX3_one 61 = .ok (.invokevirtual 70, 3) := dk_182 0 70 (dk_at dksX3_one_2 15 rfl rfl)
theorem dX3_one_64 : decode cX3_one 64 = .ok (.athrow, 1) := dk_191 (dk_at dksX3_one_2 18 rfl rfl)
theorem dX3_one_65 : decode cX3_one 65 = .ok (.aload_n 0, 1) := dk_42 (dk_at dksX3_one_2 19 rfl rfl)
theorem dX3_one_66 : decode cX3_one 66 = .ok (.invokevirtual 74, 3) := dk_182 0 74 (dk_at dksX3_one_2 20 rfl rfl)
theorem dX3_one_69 : decode cX3_one 69 = .ok (.new 212, 3) := dk_187 0 212 (dk_at dksX3_one_3 0 rfl rfl)
theorem dX3_one_72 : decode cX3_one 72 = .ok (.dup, 1) := dk_89 (dk_at dksX3_one_3 3 rfl rfl)
theorem dX3_one_73 : decode cX3_one 73 = .ok (.iload_n 1, 1) := dk_27 (dk_at dksX3_one_3 4 rfl rfl)
theorem dX3_one_74 : decode cX3_one 74 = .ok (.invokespecial 214, 3) := dk_183 0 214 (dk_at dksX3_one_3 5 rfl rfl)
theorem dX3_one_77 : decode cX3_one 77 = .ok (.areturn, 1) := dk_176 (dk_at dksX3_one_3 8 rfl rfl)
theorem dX3_one_78 : decode cX3_one 78 = .ok (.aload_n 0, 1) := dk_42 (dk_at dksX3_one_3 9 rfl rfl)
theorem dX3_one_79 : decode cX3_one 79 = .ok (.getfield 25, 3) := dk_180 0 25 (dk_at dksX3_one_3 10 rfl rfl)
theorem dX3_one_82 : decode cX3_one 82 = .ok (.bipush 40, 2) := dk_16 40 (dk_at dksX3_one_3 13 rfl rfl)
theorem dX3_one_84 : decode cX3_one 84 = .ok (.if_icmp .ne 21, 3) := dk_160 0 21 (dk_at dksX3_one_3 15 rfl rfl)
theorem dX3_one_87 : decode cX3_one 87 = .ok (.aload_n 0, 1) := dk_42 (dk_at dksX3_one_3 18 rfl rfl)
theorem dX3_one_88 : decode cX3_one 88 = .ok (.invokevirtual 162, 3) := dk_182 0 162 (dk_at dksX3_one_3 19 rfl rfl)
theorem dX3_one_91 : decode cX3_one 91 = .ok (.aload_n 0, 1) := dk_42 (dk_at dksX3_one_3 22 rfl rfl)
theorem dX3_one_92 : decode cX3_one 92 = .ok (.invokevirtual 100, 3) := dk_182 0 100 (dk_at dksX3_one_4 0 rfl rfl)
theorem dX3_one_95 : decode cX3_one 95 = .ok (.astore_n 2, 1) := dk_77 (dk_at dksX3_one_4 3 rfl rfl)
theorem dX3_one_96 : decode cX3_one 96 = .ok (.aload_n 0, 1) := dk_42 (dk_at dksX3_one_4 4 rfl rfl)
theorem dX3_one_97 : decode cX3_one 97 = .ok (.bipush 41, 2) := dk_16 41 (dk_at dksX3_one_4 5 rfl rfl)
theorem dX3_one_99 : decode cX3_one 99 = .ok (.invokevirtual 122, 3) := dk_182 0 122 (dk_at dksX3_one_4 7 rfl rfl)
theorem dX3_one_102 : decode cX3_one 102 = .ok (.goto 37, 3) := dk_167 0 37 (dk_at dksX3_one_4 10 rfl rfl)
theorem dX3_one_105 : decode cX3_one 105 = .ok (.aload_n 0, 1) := dk_42 (dk_at dksX3_one_4 13 rfl rfl)
theorem dX3_one_106 : decode cX3_one 106 = .ok (.getfield 25, 3) := dk_180 0 25 (dk_at dksX3_one_4 14 rfl rfl)
theorem dX3_one_109 : decode cX3_one 109 = .ok (.bipush 45, 2) := dk_16 45 (dk_at dksX3_one_4 17 rfl rfl)
theorem dX3_one_111 : decode cX3_one 111 = .ok (.if_icmp .ne 22, 3) := dk_160 0 22 (dk_at dksX3_one_4 19 rfl rfl)
theorem dX3_one_114 : decode cX3_one 114 = .ok (.aload_n 0, 1) := dk_42 (dk_at dksX3_one_4 22 rfl rfl)
theorem dX3_one_115 : decode cX3_one 115 = .ok (.invokevirtual 162, 3) := dk_182 0 162 (dk_at dksX3_one_5 0 rfl rfl)
theorem dX3_one_118 : decode cX3_one 118 = .ok (.new 215, 3) := dk_187 0 215 (dk_at dksX3_one_5 3 rfl rfl)
theorem dX3_one_121 : decode cX3_one 121 = .ok (.dup, 1) := dk_89 (dk_at dksX3_one_5 6 rfl rfl)
theorem dX3_one_122 : decode cX3_one 122 = .ok (.aload_n 0, 1) := dk_42 (dk_at dksX3_one_5 7 rfl rfl)
theorem dX3_one_123 : decode cX3_one 123 = .ok (.invokevirtual 193, 3) := dk_182 0 193 (dk_at dksX3_one_5 8 rfl rfl)
theorem dX3_one_126 : decode cX3_one 126 = .ok (.invokespecial 217, 3) := dk_183 0 217 (dk_at dksX3_one_5 11 rfl rfl)
theorem dX3_one_129 : decode cX3_one 129 = .ok (.astore_n 2, 1) := dk_77 (dk_at dksX3_one_5 14 rfl rfl)
theorem dX3_one_130 : decode cX3_one 130 = .ok (.goto 9, 3) := dk_167 0 9 (dk_at dksX3_one_5 15 rfl rfl)
theorem dX3_one_133 : decode cX3_one 133 = .ok (.aload_n 0, 1) := dk_42 (dk_at dksX3_one_5 18 rfl rfl)
theorem dX3_one_134 : decode cX3_one 134 = .ok (.iconst 1, 1) := dk_4 (dk_at dksX3_one_5 19 rfl rfl)
theorem dX3_one_135 : decode cX3_one 135 = .ok (.invokevirtual 70, 3) := dk_182 0 70 (dk_at dksX3_one_5 20 rfl rfl)
theorem dX3_one_138 : decode cX3_one 138 = .ok (.athrow, 1) := dk_191 (dk_at dksX3_one_5 23 rfl rfl)
theorem dX3_one_139 : decode cX3_one 139 = .ok (.aload_n 0, 1) := dk_42 (dk_at dksX3_one_6 0 rfl rfl)
theorem dX3_one_140 : decode cX3_one 140 = .ok (.dup, 1) := dk_89 (dk_at dksX3_one_6 1 rfl rfl)
theorem dX3_one_141 : decode cX3_one 141 = .ok (.getfield 77, 3) := dk_180 0 77 (dk_at dksX3_one_6 2 rfl rfl)
theorem dX3_one_144 : decode cX3_one 144 = .ok (.iconst 1, 1) := dk_4 (dk_at dksX3_one_6 5 rfl rfl)
theorem dX3_one_145 : decode cX3_one 145 = .ok (.isub, 1) := dk_100 (dk_at dksX3_one_6 6 rfl rfl)
theorem dX3_one_146 : decode cX3_one 146 = .ok (.putfield 77, 3) := dk_181 0 77 (dk_at dksX3_one_6 7 rfl rfl)
theorem dX3_one_149 : decode cX3_one 149 = .ok (.aload_n 2, 1) := dk_44 (dk_at dksX3_one_6 10 rfl rfl)
theorem dX3_one_150 : decode cX3_one 150 = .ok (.areturn, 1) := dk_176 (dk_at dksX3_one_6 11 rfl rfl)
abbrev cX3_number : ByteArray := prog_16_method_8_code
def yX3_number : MethodName := ⟨RX3, "number", "(II)I"⟩
def dkwX3_number_2 : List UInt8 := [172]
abbrev dktX3_number_2 : List UInt8 := dkwX3_number_2 ++ []
def dkwX3_number_1 : List UInt8 := [42, 180, 0, 43, 28, 164, 0, 9, 42, 5, 182, 0, 70, 191, 42, 180, 0, 43, 62, 42, 182, 0, 74, 29]
abbrev dktX3_number_1 : List UInt8 := dkwX3_number_1 ++ dktX3_number_2
def dkwX3_number_0 : List UInt8 := [42, 180, 0, 25, 17, 1, 44, 159, 0, 9, 42, 4, 182, 0, 70, 191, 42, 180, 0, 43, 27, 161, 0, 11]
abbrev dktX3_number_0 : List UInt8 := dkwX3_number_0 ++ dktX3_number_1
theorem dksX3_number_0 : cX3_number.data.toList.drop 0 = dktX3_number_0 := by decide +kernel
theorem dksX3_number_1 : cX3_number.data.toList.drop 24 = dktX3_number_1 := dk_seg dksX3_number_0 24 rfl rfl
theorem dksX3_number_2 : cX3_number.data.toList.drop 48 = dktX3_number_2 := dk_seg dksX3_number_1 24 rfl rfl
theorem dX3_number_0 : decode cX3_number 0 = .ok (.aload_n 0, 1) := dk_42 (dk_at dksX3_number_0 0 rfl rfl)
theorem dX3_number_1 : decode cX3_number 1 = .ok (.getfield 25, 3) := dk_180 0 25 (dk_at dksX3_number_0 1 rfl rfl)
theorem dX3_number_4 : decode cX3_number 4 = .ok (.sipush 300, 3) := dk_17 1 44 (dk_at dksX3_number_0 4 rfl rfl)
theorem dX3_number_7 : decode cX3_number 7 = .ok (.if_icmp .eq 9, 3) := dk_159 0 9 (dk_at dksX3_number_0 7 rfl rfl)
theorem dX3_number_10 : decode cX3_number 10 = .ok (.aload_n 0, 1) := dk_42 (dk_at dksX3_number_0 10 rfl rfl)
theorem dX3_number_11 : decode cX3_number 11 = .ok (.iconst 1, 1) := dk_4 (dk_at dksX3_number_0 11 rfl rfl)
theorem dX3_number_12 : decode cX3_number 12 = .ok (.invokevirtual 70, 3) := dk_182 0 70 (dk_at dksX3_number_0 12 rfl rfl)
theorem dX3_number_15 : decode cX3_number 15 = .ok (.athrow, 1) := dk_191 (dk_at dksX3_number_0 15 rfl rfl)
theorem dX3_number_16 : decode cX3_number 16 = .ok (.aload_n 0, 1) := dk_42 (dk_at dksX3_number_0 16 rfl rfl)
theorem dX3_number_17 : decode cX3_number 17 = .ok (.getfield 43, 3) := dk_180 0 43 (dk_at dksX3_number_0 17 rfl rfl)
theorem dX3_number_20 : decode cX3_number 20 = .ok (.iload_n 1, 1) := dk_27 (dk_at dksX3_number_0 20 rfl rfl)
theorem dX3_number_21 : decode cX3_number 21 = .ok (.if_icmp .lt 11, 3) := dk_161 0 11 (dk_at dksX3_number_0 21 rfl rfl)
theorem dX3_number_24 : decode cX3_number 24 = .ok (.aload_n 0, 1) := dk_42 (dk_at dksX3_number_1 0 rfl rfl)
theorem dX3_number_25 : decode cX3_number 25 = .ok (.getfield 43, 3) := dk_180 0 43 (dk_at dksX3_number_1 1 rfl rfl)
theorem dX3_number_28 : decode cX3_number 28 = .ok (.iload_n 2, 1) := dk_28 (dk_at dksX3_number_1 4 rfl rfl)
theorem dX3_number_29 : decode cX3_number 29 = .ok (.if_icmp .le 9, 3) := dk_164 0 9 (dk_at dksX3_number_1 5 rfl rfl)
theorem dX3_number_32 : decode cX3_number 32 = .ok (.aload_n 0, 1) := dk_42 (dk_at dksX3_number_1 8 rfl rfl)
theorem dX3_number_33 : decode cX3_number 33 = .ok (.iconst 2, 1) := dk_5 (dk_at dksX3_number_1 9 rfl rfl)
theorem dX3_number_34 : decode cX3_number 34 = .ok (.invokevirtual 70, 3) := dk_182 0 70 (dk_at dksX3_number_1 10 rfl rfl)
theorem dX3_number_37 : decode cX3_number 37 = .ok (.athrow, 1) := dk_191 (dk_at dksX3_number_1 13 rfl rfl)
theorem dX3_number_38 : decode cX3_number 38 = .ok (.aload_n 0, 1) := dk_42 (dk_at dksX3_number_1 14 rfl rfl)
theorem dX3_number_39 : decode cX3_number 39 = .ok (.getfield 43, 3) := dk_180 0 43 (dk_at dksX3_number_1 15 rfl rfl)
theorem dX3_number_42 : decode cX3_number 42 = .ok (.istore_n 3, 1) := dk_62 (dk_at dksX3_number_1 18 rfl rfl)
theorem dX3_number_43 : decode cX3_number 43 = .ok (.aload_n 0, 1) := dk_42 (dk_at dksX3_number_1 19 rfl rfl)
theorem dX3_number_44 : decode cX3_number 44 = .ok (.invokevirtual 74, 3) := dk_182 0 74 (dk_at dksX3_number_1 20 rfl rfl)
theorem dX3_number_47 : decode cX3_number 47 = .ok (.iload_n 3, 1) := dk_29 (dk_at dksX3_number_1 23 rfl rfl)
theorem dX3_number_48 : decode cX3_number 48 = .ok (.ireturn, 1) := dk_172 (dk_at dksX3_number_2 0 rfl rfl)
abbrev cX3_digit : ByteArray := prog_16_method_21_code
def yX3_digit : MethodName := ⟨RX3, "digit", "()LShutDays$Sum;"⟩
def dkwX3_digit_1 : List UInt8 := [180, 0, 77, 4, 100, 181, 0, 77, 187, 0, 196, 89, 43, 44, 183, 0, 198, 176]
abbrev dktX3_digit_1 : List UInt8 := dkwX3_digit_1 ++ []
def dkwX3_digit_0 : List UInt8 := [42, 182, 0, 162, 42, 182, 0, 193, 76, 42, 17, 0, 212, 182, 0, 122, 42, 182, 0, 193, 77, 42, 89]
abbrev dktX3_digit_0 : List UInt8 := dkwX3_digit_0 ++ dktX3_digit_1
theorem dksX3_digit_0 : cX3_digit.data.toList.drop 0 = dktX3_digit_0 := by decide +kernel
theorem dksX3_digit_1 : cX3_digit.data.toList.drop 23 = dktX3_digit_1 := dk_seg dksX3_digit_0 23 rfl rfl
theorem dX3_digit_0 : decode cX3_digit 0 = .ok (.aload_n 0, 1) := dk_42 (dk_at dksX3_digit_0 0 rfl rfl)
theorem dX3_digit_1 : decode cX3_digit 1 = .ok (.invokevirtual 162, 3) := dk_182 0 162 (dk_at dksX3_digit_0 1 rfl rfl)
theorem dX3_digit_4 : decode cX3_digit 4 = .ok (.aload_n 0, 1) := dk_42 (dk_at dksX3_digit_0 4 rfl rfl)
theorem dX3_digit_5 : decode cX3_digit 5 = .ok (.invokevirtual 193, 3) := dk_182 0 193 (dk_at dksX3_digit_0 5 rfl rfl)
theorem dX3_digit_8 : decode cX3_digit 8 = .ok (.astore_n 1, 1) := dk_76 (dk_at dksX3_digit_0 8 rfl rfl)
theorem dX3_digit_9 : decode cX3_digit 9 = .ok (.aload_n 0, 1) := dk_42 (dk_at dksX3_digit_0 9 rfl rfl)
theorem dX3_digit_10 : decode cX3_digit 10 = .ok (.sipush 212, 3) := dk_17 0 212 (dk_at dksX3_digit_0 10 rfl rfl)
theorem dX3_digit_13 : decode cX3_digit 13 = .ok (.invokevirtual 122, 3) := dk_182 0 122 (dk_at dksX3_digit_0 13 rfl rfl)
theorem dX3_digit_16 : decode cX3_digit 16 = .ok (.aload_n 0, 1) := dk_42 (dk_at dksX3_digit_0 16 rfl rfl)
theorem dX3_digit_17 : decode cX3_digit 17 = .ok (.invokevirtual 193, 3) := dk_182 0 193 (dk_at dksX3_digit_0 17 rfl rfl)
theorem dX3_digit_20 : decode cX3_digit 20 = .ok (.astore_n 2, 1) := dk_77 (dk_at dksX3_digit_0 20 rfl rfl)
theorem dX3_digit_21 : decode cX3_digit 21 = .ok (.aload_n 0, 1) := dk_42 (dk_at dksX3_digit_0 21 rfl rfl)
theorem dX3_digit_22 : decode cX3_digit 22 = .ok (.dup, 1) := dk_89 (dk_at dksX3_digit_0 22 rfl rfl)
theorem dX3_digit_23 : decode cX3_digit 23 = .ok (.getfield 77, 3) := dk_180 0 77 (dk_at dksX3_digit_1 0 rfl rfl)
theorem dX3_digit_26 : decode cX3_digit 26 = .ok (.iconst 1, 1) := dk_4 (dk_at dksX3_digit_1 3 rfl rfl)
theorem dX3_digit_27 : decode cX3_digit 27 = .ok (.isub, 1) := dk_100 (dk_at dksX3_digit_1 4 rfl rfl)
theorem dX3_digit_28 : decode cX3_digit 28 = .ok (.putfield 77, 3) := dk_181 0 77 (dk_at dksX3_digit_1 5 rfl rfl)
theorem dX3_digit_31 : decode cX3_digit 31 = .ok (.new 196, 3) := dk_187 0 196 (dk_at dksX3_digit_1 8 rfl rfl)
theorem dX3_digit_34 : decode cX3_digit 34 = .ok (.dup, 1) := dk_89 (dk_at dksX3_digit_1 11 rfl rfl)
theorem dX3_digit_35 : decode cX3_digit 35 = .ok (.aload_n 1, 1) := dk_43 (dk_at dksX3_digit_1 12 rfl rfl)
theorem dX3_digit_36 : decode cX3_digit 36 = .ok (.aload_n 2, 1) := dk_44 (dk_at dksX3_digit_1 13 rfl rfl)
theorem dX3_digit_37 : decode cX3_digit 37 = .ok (.invokespecial 198, 3) := dk_183 0 198 (dk_at dksX3_digit_1 14 rfl rfl)
theorem dX3_digit_40 : decode cX3_digit 40 = .ok (.areturn, 1) := dk_176 (dk_at dksX3_digit_1 17 rfl rfl)
abbrev cX3_opens : ByteArray := prog_16_method_9_code
def yX3_opens : MethodName := ⟨RX3, "opens", "()V"⟩
def dkwX3_opens_1 : List UInt8 := [181, 0, 77, 42, 182, 0, 74, 177]
abbrev dktX3_opens_1 : List UInt8 := dkwX3_opens_1 ++ []
def dkwX3_opens_0 : List UInt8 := [42, 180, 0, 77, 16, 8, 160, 0, 9, 42, 6, 182, 0, 70, 191, 42, 89, 180, 0, 77, 4, 96]
abbrev dktX3_opens_0 : List UInt8 := dkwX3_opens_0 ++ dktX3_opens_1
theorem dksX3_opens_0 : cX3_opens.data.toList.drop 0 = dktX3_opens_0 := by decide +kernel
theorem dksX3_opens_1 : cX3_opens.data.toList.drop 22 = dktX3_opens_1 := dk_seg dksX3_opens_0 22 rfl rfl
theorem dX3_opens_0 : decode cX3_opens 0 = .ok (.aload_n 0, 1) := dk_42 (dk_at dksX3_opens_0 0 rfl rfl)
theorem dX3_opens_1 : decode cX3_opens 1 = .ok (.getfield 77, 3) := dk_180 0 77 (dk_at dksX3_opens_0 1 rfl rfl)
theorem dX3_opens_4 : decode cX3_opens 4 = .ok (.bipush 8, 2) := dk_16 8 (dk_at dksX3_opens_0 4 rfl rfl)
theorem dX3_opens_6 : decode cX3_opens 6 = .ok (.if_icmp .ne 9, 3) := dk_160 0 9 (dk_at dksX3_opens_0 6 rfl rfl)
theorem dX3_opens_9 : decode cX3_opens 9 = .ok (.aload_n 0, 1) := dk_42 (dk_at dksX3_opens_0 9 rfl rfl)
theorem dX3_opens_10 : decode cX3_opens 10 = .ok (.iconst 3, 1) := dk_6 (dk_at dksX3_opens_0 10 rfl rfl)
theorem dX3_opens_11 : decode cX3_opens 11 = .ok (.invokevirtual 70, 3) := dk_182 0 70 (dk_at dksX3_opens_0 11 rfl rfl)
theorem dX3_opens_14 : decode cX3_opens 14 = .ok (.athrow, 1) := dk_191 (dk_at dksX3_opens_0 14 rfl rfl)
theorem dX3_opens_15 : decode cX3_opens 15 = .ok (.aload_n 0, 1) := dk_42 (dk_at dksX3_opens_0 15 rfl rfl)
theorem dX3_opens_16 : decode cX3_opens 16 = .ok (.dup, 1) := dk_89 (dk_at dksX3_opens_0 16 rfl rfl)
theorem dX3_opens_17 : decode cX3_opens 17 = .ok (.getfield 77, 3) := dk_180 0 77 (dk_at dksX3_opens_0 17 rfl rfl)
theorem dX3_opens_20 : decode cX3_opens 20 = .ok (.iconst 1, 1) := dk_4 (dk_at dksX3_opens_0 20 rfl rfl)
theorem dX3_opens_21 : decode cX3_opens 21 = .ok (.iadd, 1) := dk_96 (dk_at dksX3_opens_0 21 rfl rfl)
theorem dX3_opens_22 : decode cX3_opens 22 = .ok (.putfield 77, 3) := dk_181 0 77 (dk_at dksX3_opens_1 0 rfl rfl)
theorem dX3_opens_25 : decode cX3_opens 25 = .ok (.aload_n 0, 1) := dk_42 (dk_at dksX3_opens_1 3 rfl rfl)
theorem dX3_opens_26 : decode cX3_opens 26 = .ok (.invokevirtual 74, 3) := dk_182 0 74 (dk_at dksX3_opens_1 4 rfl rfl)
theorem dX3_opens_29 : decode cX3_opens 29 = .ok (.return_, 1) := dk_177 (dk_at dksX3_opens_1 7 rfl rfl)
abbrev cX3_want : ByteArray := prog_16_method_7_code
def yX3_want : MethodName := ⟨RX3, "want", "(I)V"⟩
def dkwX3_want_0 : List UInt8 := [42, 180, 0, 25, 27, 159, 0, 9, 42, 4, 182, 0, 70, 191, 42, 182, 0, 74, 177]
abbrev dktX3_want_0 : List UInt8 := dkwX3_want_0 ++ []
theorem dksX3_want_0 : cX3_want.data.toList.drop 0 = dktX3_want_0 := by decide +kernel
theorem dX3_want_0 : decode cX3_want 0 = .ok (.aload_n 0, 1) := dk_42 (dk_at dksX3_want_0 0 rfl rfl)
theorem dX3_want_1 : decode cX3_want 1 = .ok (.getfield 25, 3) := dk_180 0 25 (dk_at dksX3_want_0 1 rfl rfl)
theorem dX3_want_4 : decode cX3_want 4 = .ok (.iload_n 1, 1) := dk_27 (dk_at dksX3_want_0 4 rfl rfl)
theorem dX3_want_5 : decode cX3_want 5 = .ok (.if_icmp .eq 9, 3) := dk_159 0 9 (dk_at dksX3_want_0 5 rfl rfl)
theorem dX3_want_8 : decode cX3_want 8 = .ok (.aload_n 0, 1) := dk_42 (dk_at dksX3_want_0 8 rfl rfl)
theorem dX3_want_9 : decode cX3_want 9 = .ok (.iconst 1, 1) := dk_4 (dk_at dksX3_want_0 9 rfl rfl)
theorem dX3_want_10 : decode cX3_want 10 = .ok (.invokevirtual 70, 3) := dk_182 0 70 (dk_at dksX3_want_0 10 rfl rfl)
theorem dX3_want_13 : decode cX3_want 13 = .ok (.athrow, 1) := dk_191 (dk_at dksX3_want_0 13 rfl rfl)
theorem dX3_want_14 : decode cX3_want 14 = .ok (.aload_n 0, 1) := dk_42 (dk_at dksX3_want_0 14 rfl rfl)
theorem dX3_want_15 : decode cX3_want 15 = .ok (.invokevirtual 74, 3) := dk_182 0 74 (dk_at dksX3_want_0 15 rfl rfl)
theorem dX3_want_18 : decode cX3_want 18 = .ok (.return_, 1) := dk_177 (dk_at dksX3_want_0 18 rfl rfl)
abbrev cX3_nameNow : ByteArray := prog_16_method_19_code
def yX3_nameNow : MethodName := ⟨RX3, "nameNow", "()I"⟩
def dkwX3_nameNow_2 : List UInt8 := [3, 172, 4, 172, 5, 172, 6, 172, 7, 172, 8, 172, 16, 6, 172, 16, 7, 172, 2, 172]
abbrev dktX3_nameNow_2 : List UInt8 := dkwX3_nameNow_2 ++ []
def dkwX3_nameNow_1 : List UInt8 := [170, 0, 0, 0, 0, 0, 0, 110, 0, 0, 0, 203, 0, 0, 0, 221, 0, 0, 0, 96, 0, 0, 0, 110, 0, 0, 0, 110, 0, 0, 0, 110, 0, 0, 0, 110, 0, 0, 0, 92, 0, 0, 0, 98, 0, 0, 0, 100, 0, 0, 0, 110, 0, 0, 0, 110, 0, 0, 0, 110, 0, 0, 0, 110, 0, 0, 0, 110, 0, 0, 0, 110, 0, 0, 0, 110, 0, 0, 0, 94, 0, 0, 0, 102, 0, 0, 0, 104, 0, 0, 0, 107]
abbrev dktX3_nameNow_1 : List UInt8 := dkwX3_nameNow_1 ++ dktX3_nameNow_2
def dkwX3_nameNow_0 : List UInt8 := [42, 180, 0, 25]
abbrev dktX3_nameNow_0 : List UInt8 := dkwX3_nameNow_0 ++ dktX3_nameNow_1
theorem dksX3_nameNow_0 : cX3_nameNow.data.toList.drop 0 = dktX3_nameNow_0 := by decide +kernel
theorem dksX3_nameNow_1 : cX3_nameNow.data.toList.drop 4 = dktX3_nameNow_1 := dk_seg dksX3_nameNow_0 4 rfl rfl
theorem dksX3_nameNow_2 : cX3_nameNow.data.toList.drop 96 = dktX3_nameNow_2 := dk_seg dksX3_nameNow_1 92 rfl rfl
theorem dX3_nameNow_0 : decode cX3_nameNow 0 = .ok (.aload_n 0, 1) := dk_42 (dk_at dksX3_nameNow_0 0 rfl rfl)
theorem dX3_nameNow_1 : decode cX3_nameNow 1 = .ok (.getfield 25, 3) := dk_180 0 25 (dk_at dksX3_nameNow_0 1 rfl rfl)
theorem dX3_nameNow_4 : decode cX3_nameNow 4 = .ok (.tableswitch 110 203 221 #[96, 110, 110, 110, 110, 92, 98, 100, 110, 110, 110, 110, 110, 110, 110, 94, 102, 104, 107], 92) := by decide +kernel
theorem dX3_nameNow_96 : decode cX3_nameNow 96 = .ok (.iconst 0, 1) := dk_3 (dk_at dksX3_nameNow_2 0 rfl rfl)
theorem dX3_nameNow_97 : decode cX3_nameNow 97 = .ok (.ireturn, 1) := dk_172 (dk_at dksX3_nameNow_2 1 rfl rfl)
theorem dX3_nameNow_98 : decode cX3_nameNow 98 = .ok (.iconst 1, 1) := dk_4 (dk_at dksX3_nameNow_2 2 rfl rfl)
theorem dX3_nameNow_99 : decode cX3_nameNow 99 = .ok (.ireturn, 1) := dk_172 (dk_at dksX3_nameNow_2 3 rfl rfl)
theorem dX3_nameNow_100 : decode cX3_nameNow 100 = .ok (.iconst 2, 1) := dk_5 (dk_at dksX3_nameNow_2 4 rfl rfl)
theorem dX3_nameNow_101 : decode cX3_nameNow 101 = .ok (.ireturn, 1) := dk_172 (dk_at dksX3_nameNow_2 5 rfl rfl)
theorem dX3_nameNow_102 : decode cX3_nameNow 102 = .ok (.iconst 3, 1) := dk_6 (dk_at dksX3_nameNow_2 6 rfl rfl)
theorem dX3_nameNow_103 : decode cX3_nameNow 103 = .ok (.ireturn, 1) := dk_172 (dk_at dksX3_nameNow_2 7 rfl rfl)
theorem dX3_nameNow_104 : decode cX3_nameNow 104 = .ok (.iconst 4, 1) := dk_7 (dk_at dksX3_nameNow_2 8 rfl rfl)
theorem dX3_nameNow_105 : decode cX3_nameNow 105 = .ok (.ireturn, 1) := dk_172 (dk_at dksX3_nameNow_2 9 rfl rfl)
theorem dX3_nameNow_106 : decode cX3_nameNow 106 = .ok (.iconst 5, 1) := dk_8 (dk_at dksX3_nameNow_2 10 rfl rfl)
theorem dX3_nameNow_107 : decode cX3_nameNow 107 = .ok (.ireturn, 1) := dk_172 (dk_at dksX3_nameNow_2 11 rfl rfl)
theorem dX3_nameNow_108 : decode cX3_nameNow 108 = .ok (.bipush 6, 2) := dk_16 6 (dk_at dksX3_nameNow_2 12 rfl rfl)
theorem dX3_nameNow_110 : decode cX3_nameNow 110 = .ok (.ireturn, 1) := dk_172 (dk_at dksX3_nameNow_2 14 rfl rfl)
theorem dX3_nameNow_111 : decode cX3_nameNow 111 = .ok (.bipush 7, 2) := dk_16 7 (dk_at dksX3_nameNow_2 15 rfl rfl)
theorem dX3_nameNow_113 : decode cX3_nameNow 113 = .ok (.ireturn, 1) := dk_172 (dk_at dksX3_nameNow_2 17 rfl rfl)
theorem dX3_nameNow_114 : decode cX3_nameNow 114 = .ok (.iconst (-1), 1) := dk_2 (dk_at dksX3_nameNow_2 18 rfl rfl)
theorem dX3_nameNow_115 : decode cX3_nameNow 115 = .ok (.ireturn, 1) := dk_172 (dk_at dksX3_nameNow_2 19 rfl rfl)
abbrev cX3_mayName : ByteArray := prog_16_method_20_code
def yX3_mayName : MethodName := ⟨RX3, "mayName", "(I)Z"⟩
def dkwX3_mayName_0 : List UInt8 := [27, 16, 7, 161, 0, 13, 42, 180, 0, 83, 17, 0, 202, 159, 0, 7, 4, 167, 0, 4, 3, 172]
abbrev dktX3_mayName_0 : List UInt8 := dkwX3_mayName_0 ++ []
theorem dksX3_mayName_0 : cX3_mayName.data.toList.drop 0 = dktX3_mayName_0 := by decide +kernel
theorem dX3_mayName_0 : decode cX3_mayName 0 = .ok (.iload_n 1, 1) := dk_27 (dk_at dksX3_mayName_0 0 rfl rfl)
theorem dX3_mayName_1 : decode cX3_mayName 1 = .ok (.bipush 7, 2) := dk_16 7 (dk_at dksX3_mayName_0 1 rfl rfl)
theorem dX3_mayName_3 : decode cX3_mayName 3 = .ok (.if_icmp .lt 13, 3) := dk_161 0 13 (dk_at dksX3_mayName_0 3 rfl rfl)
theorem dX3_mayName_6 : decode cX3_mayName 6 = .ok (.aload_n 0, 1) := dk_42 (dk_at dksX3_mayName_0 6 rfl rfl)
theorem dX3_mayName_7 : decode cX3_mayName 7 = .ok (.getfield 83, 3) := dk_180 0 83 (dk_at dksX3_mayName_0 7 rfl rfl)
theorem dX3_mayName_10 : decode cX3_mayName 10 = .ok (.sipush 202, 3) := dk_17 0 202 (dk_at dksX3_mayName_0 10 rfl rfl)
theorem dX3_mayName_13 : decode cX3_mayName 13 = .ok (.if_icmp .eq 7, 3) := dk_159 0 7 (dk_at dksX3_mayName_0 13 rfl rfl)
theorem dX3_mayName_16 : decode cX3_mayName 16 = .ok (.iconst 1, 1) := dk_4 (dk_at dksX3_mayName_0 16 rfl rfl)
theorem dX3_mayName_17 : decode cX3_mayName 17 = .ok (.goto 4, 3) := dk_167 0 4 (dk_at dksX3_mayName_0 17 rfl rfl)
theorem dX3_mayName_20 : decode cX3_mayName 20 = .ok (.iconst 0, 1) := dk_3 (dk_at dksX3_mayName_0 20 rfl rfl)
theorem dX3_mayName_21 : decode cX3_mayName 21 = .ok (.ireturn, 1) := dk_172 (dk_at dksX3_mayName_0 21 rfl rfl)
abbrev cX3_either : ByteArray := prog_16_method_13_code
def yX3_either : MethodName := ⟨RX3, "either", "()LShutDays$Asked;"⟩
def dkwX3_either_2 : List UInt8 := [160, 0, 14, 43, 3, 182, 0, 143, 192, 0, 147, 167, 0, 12, 187, 0, 149, 89, 3, 43, 183, 0, 151, 176]
abbrev dktX3_either_2 : List UInt8 := dkwX3_either_2 ++ []
def dkwX3_either_1 : List UInt8 := [160, 0, 19, 42, 182, 0, 74, 43, 42, 182, 0, 138, 182, 0, 116, 87, 167, 255, 233, 43, 182, 0, 141, 4]
abbrev dktX3_either_1 : List UInt8 := dkwX3_either_1 ++ dktX3_either_2
def dkwX3_either_0 : List UInt8 := [187, 0, 117, 89, 183, 0, 137, 76, 43, 42, 182, 0, 138, 182, 0, 116, 87, 42, 180, 0, 25, 17, 0, 213]
abbrev dktX3_either_0 : List UInt8 := dkwX3_either_0 ++ dktX3_either_1
theorem dksX3_either_0 : cX3_either.data.toList.drop 0 = dktX3_either_0 := by decide +kernel
theorem dksX3_either_1 : cX3_either.data.toList.drop 24 = dktX3_either_1 := dk_seg dksX3_either_0 24 rfl rfl
theorem dksX3_either_2 : cX3_either.data.toList.drop 48 = dktX3_either_2 := dk_seg dksX3_either_1 24 rfl rfl
theorem dX3_either_0 : decode cX3_either 0 = .ok (.new 117, 3) := dk_187 0 117 (dk_at dksX3_either_0 0 rfl rfl)
theorem dX3_either_3 : decode cX3_either 3 = .ok (.dup, 1) := dk_89 (dk_at dksX3_either_0 3 rfl rfl)
theorem dX3_either_4 : decode cX3_either 4 = .ok (.invokespecial 137, 3) := dk_183 0 137 (dk_at dksX3_either_0 4 rfl rfl)
theorem dX3_either_7 : decode cX3_either 7 = .ok (.astore_n 1, 1) := dk_76 (dk_at dksX3_either_0 7 rfl rfl)
theorem dX3_either_8 : decode cX3_either 8 = .ok (.aload_n 1, 1) := dk_43 (dk_at dksX3_either_0 8 rfl rfl)
theorem dX3_either_9 : decode cX3_either 9 = .ok (.aload_n 0, 1) := dk_42 (dk_at dksX3_either_0 9 rfl rfl)
theorem dX3_either_10 : decode cX3_either 10 = .ok (.invokevirtual 138, 3) := dk_182 0 138 (dk_at dksX3_either_0 10 rfl rfl)
theorem dX3_either_13 : decode cX3_either 13 = .ok (.invokevirtual 116, 3) := dk_182 0 116 (dk_at dksX3_either_0 13 rfl rfl)
theorem dX3_either_16 : decode cX3_either 16 = .ok (.pop, 1) := dk_87 (dk_at dksX3_either_0 16 rfl rfl)
theorem dX3_either_17 : decode cX3_either 17 = .ok (.aload_n 0, 1) := dk_42 (dk_at dksX3_either_0 17 rfl rfl)
theorem dX3_either_18 : decode cX3_either 18 = .ok (.getfield 25, 3) := dk_180 0 25 (dk_at dksX3_either_0 18 rfl rfl)
theorem dX3_either_21 : decode cX3_either 21 = .ok (.sipush 213, 3) := dk_17 0 213 (dk_at dksX3_either_0 21 rfl rfl)
theorem dX3_either_24 : decode cX3_either 24 = .ok (.if_icmp .ne 19, 3) := dk_160 0 19 (dk_at dksX3_either_1 0 rfl rfl)
theorem dX3_either_27 : decode cX3_either 27 = .ok (.aload_n 0, 1) := dk_42 (dk_at dksX3_either_1 3 rfl rfl)
theorem dX3_either_28 : decode cX3_either 28 = .ok (.invokevirtual 74, 3) := dk_182 0 74 (dk_at dksX3_either_1 4 rfl rfl)
theorem dX3_either_31 : decode cX3_either 31 = .ok (.aload_n 1, 1) := dk_43 (dk_at dksX3_either_1 7 rfl rfl)
theorem dX3_either_32 : decode cX3_either 32 = .ok (.aload_n 0, 1) := dk_42 (dk_at dksX3_either_1 8 rfl rfl)
theorem dX3_either_33 : decode cX3_either 33 = .ok (.invokevirtual 138, 3) := dk_182 0 138 (dk_at dksX3_either_1 9 rfl rfl)
theorem dX3_either_36 : decode cX3_either 36 = .ok (.invokevirtual 116, 3) := dk_182 0 116 (dk_at dksX3_either_1 12 rfl rfl)
theorem dX3_either_39 : decode cX3_either 39 = .ok (.pop, 1) := dk_87 (dk_at dksX3_either_1 15 rfl rfl)
theorem dX3_either_40 : decode cX3_either 40 = .ok (.goto (-23), 3) := dk_167 255 233 (dk_at dksX3_either_1 16 rfl rfl)
theorem dX3_either_43 : decode cX3_either 43 = .ok (.aload_n 1, 1) := dk_43 (dk_at dksX3_either_1 19 rfl rfl)
theorem dX3_either_44 : decode cX3_either 44 = .ok (.invokevirtual 141, 3) := dk_182 0 141 (dk_at dksX3_either_1 20 rfl rfl)
theorem dX3_either_47 : decode cX3_either 47 = .ok (.iconst 1, 1) := dk_4 (dk_at dksX3_either_1 23 rfl rfl)
theorem dX3_either_48 : decode cX3_either 48 = .ok (.if_icmp .ne 14, 3) := dk_160 0 14 (dk_at dksX3_either_2 0 rfl rfl)
theorem dX3_either_51 : decode cX3_either 51 = .ok (.aload_n 1, 1) := dk_43 (dk_at dksX3_either_2 3 rfl rfl)
theorem dX3_either_52 : decode cX3_either 52 = .ok (.iconst 0, 1) := dk_3 (dk_at dksX3_either_2 4 rfl rfl)
theorem dX3_either_53 : decode cX3_either 53 = .ok (.invokevirtual 143, 3) := dk_182 0 143 (dk_at dksX3_either_2 5 rfl rfl)
theorem dX3_either_56 : decode cX3_either 56 = .ok (.checkcast 147, 3) := dk_192 0 147 (dk_at dksX3_either_2 8 rfl rfl)
theorem dX3_either_59 : decode cX3_either 59 = .ok (.goto 12, 3) := dk_167 0 12 (dk_at dksX3_either_2 11 rfl rfl)
theorem dX3_either_62 : decode cX3_either 62 = .ok (.new 149, 3) := dk_187 0 149 (dk_at dksX3_either_2 14 rfl rfl)
theorem dX3_either_65 : decode cX3_either 65 = .ok (.dup, 1) := dk_89 (dk_at dksX3_either_2 17 rfl rfl)
theorem dX3_either_66 : decode cX3_either 66 = .ok (.iconst 0, 1) := dk_3 (dk_at dksX3_either_2 18 rfl rfl)
theorem dX3_either_67 : decode cX3_either 67 = .ok (.aload_n 1, 1) := dk_43 (dk_at dksX3_either_2 19 rfl rfl)
theorem dX3_either_68 : decode cX3_either 68 = .ok (.invokespecial 151, 3) := dk_183 0 151 (dk_at dksX3_either_2 20 rfl rfl)
theorem dX3_either_71 : decode cX3_either 71 = .ok (.areturn, 1) := dk_176 (dk_at dksX3_either_2 23 rfl rfl)
abbrev cX3_both : ByteArray := prog_16_method_14_code
def yX3_both : MethodName := ⟨RX3, "both", "()LShutDays$Asked;"⟩
def dkwX3_both_2 : List UInt8 := [160, 0, 14, 43, 3, 182, 0, 143, 192, 0, 147, 167, 0, 12, 187, 0, 149, 89, 4, 43, 183, 0, 151, 176]
abbrev dktX3_both_2 : List UInt8 := dkwX3_both_2 ++ []
def dkwX3_both_1 : List UInt8 := [160, 0, 19, 42, 182, 0, 74, 43, 42, 182, 0, 154, 182, 0, 116, 87, 167, 255, 233, 43, 182, 0, 141, 4]
abbrev dktX3_both_1 : List UInt8 := dkwX3_both_1 ++ dktX3_both_2
def dkwX3_both_0 : List UInt8 := [187, 0, 117, 89, 183, 0, 137, 76, 43, 42, 182, 0, 154, 182, 0, 116, 87, 42, 180, 0, 25, 17, 0, 214]
abbrev dktX3_both_0 : List UInt8 := dkwX3_both_0 ++ dktX3_both_1
theorem dksX3_both_0 : cX3_both.data.toList.drop 0 = dktX3_both_0 := by decide +kernel
theorem dksX3_both_1 : cX3_both.data.toList.drop 24 = dktX3_both_1 := dk_seg dksX3_both_0 24 rfl rfl
theorem dksX3_both_2 : cX3_both.data.toList.drop 48 = dktX3_both_2 := dk_seg dksX3_both_1 24 rfl rfl
theorem dX3_both_0 : decode cX3_both 0 = .ok (.new 117, 3) := dk_187 0 117 (dk_at dksX3_both_0 0 rfl rfl)
theorem dX3_both_3 : decode cX3_both 3 = .ok (.dup, 1) := dk_89 (dk_at dksX3_both_0 3 rfl rfl)
theorem dX3_both_4 : decode cX3_both 4 = .ok (.invokespecial 137, 3) := dk_183 0 137 (dk_at dksX3_both_0 4 rfl rfl)
theorem dX3_both_7 : decode cX3_both 7 = .ok (.astore_n 1, 1) := dk_76 (dk_at dksX3_both_0 7 rfl rfl)
theorem dX3_both_8 : decode cX3_both 8 = .ok (.aload_n 1, 1) := dk_43 (dk_at dksX3_both_0 8 rfl rfl)
theorem dX3_both_9 : decode cX3_both 9 = .ok (.aload_n 0, 1) := dk_42 (dk_at dksX3_both_0 9 rfl rfl)
theorem dX3_both_10 : decode cX3_both 10 = .ok (.invokevirtual 154, 3) := dk_182 0 154 (dk_at dksX3_both_0 10 rfl rfl)
theorem dX3_both_13 : decode cX3_both 13 = .ok (.invokevirtual 116, 3) := dk_182 0 116 (dk_at dksX3_both_0 13 rfl rfl)
theorem dX3_both_16 : decode cX3_both 16 = .ok (.pop, 1) := dk_87 (dk_at dksX3_both_0 16 rfl rfl)
theorem dX3_both_17 : decode cX3_both 17 = .ok (.aload_n 0, 1) := dk_42 (dk_at dksX3_both_0 17 rfl rfl)
theorem dX3_both_18 : decode cX3_both 18 = .ok (.getfield 25, 3) := dk_180 0 25 (dk_at dksX3_both_0 18 rfl rfl)
theorem dX3_both_21 : decode cX3_both 21 = .ok (.sipush 214, 3) := dk_17 0 214 (dk_at dksX3_both_0 21 rfl rfl)
theorem dX3_both_24 : decode cX3_both 24 = .ok (.if_icmp .ne 19, 3) := dk_160 0 19 (dk_at dksX3_both_1 0 rfl rfl)
theorem dX3_both_27 : decode cX3_both 27 = .ok (.aload_n 0, 1) := dk_42 (dk_at dksX3_both_1 3 rfl rfl)
theorem dX3_both_28 : decode cX3_both 28 = .ok (.invokevirtual 74, 3) := dk_182 0 74 (dk_at dksX3_both_1 4 rfl rfl)
theorem dX3_both_31 : decode cX3_both 31 = .ok (.aload_n 1, 1) := dk_43 (dk_at dksX3_both_1 7 rfl rfl)
theorem dX3_both_32 : decode cX3_both 32 = .ok (.aload_n 0, 1) := dk_42 (dk_at dksX3_both_1 8 rfl rfl)
theorem dX3_both_33 : decode cX3_both 33 = .ok (.invokevirtual 154, 3) := dk_182 0 154 (dk_at dksX3_both_1 9 rfl rfl)
theorem dX3_both_36 : decode cX3_both 36 = .ok (.invokevirtual 116, 3) := dk_182 0 116 (dk_at dksX3_both_1 12 rfl rfl)
theorem dX3_both_39 : decode cX3_both 39 = .ok (.pop, 1) := dk_87 (dk_at dksX3_both_1 15 rfl rfl)
theorem dX3_both_40 : decode cX3_both 40 = .ok (.goto (-23), 3) := dk_167 255 233 (dk_at dksX3_both_1 16 rfl rfl)
theorem dX3_both_43 : decode cX3_both 43 = .ok (.aload_n 1, 1) := dk_43 (dk_at dksX3_both_1 19 rfl rfl)
theorem dX3_both_44 : decode cX3_both 44 = .ok (.invokevirtual 141, 3) := dk_182 0 141 (dk_at dksX3_both_1 20 rfl rfl)
theorem dX3_both_47 : decode cX3_both 47 = .ok (.iconst 1, 1) := dk_4 (dk_at dksX3_both_1 23 rfl rfl)
theorem dX3_both_48 : decode cX3_both 48 = .ok (.if_icmp .ne 14, 3) := dk_160 0 14 (dk_at dksX3_both_2 0 rfl rfl)
theorem dX3_both_51 : decode cX3_both 51 = .ok (.aload_n 1, 1) := dk_43 (dk_at dksX3_both_2 3 rfl rfl)
theorem dX3_both_52 : decode cX3_both 52 = .ok (.iconst 0, 1) := dk_3 (dk_at dksX3_both_2 4 rfl rfl)
theorem dX3_both_53 : decode cX3_both 53 = .ok (.invokevirtual 143, 3) := dk_182 0 143 (dk_at dksX3_both_2 5 rfl rfl)
theorem dX3_both_56 : decode cX3_both 56 = .ok (.checkcast 147, 3) := dk_192 0 147 (dk_at dksX3_both_2 8 rfl rfl)
theorem dX3_both_59 : decode cX3_both 59 = .ok (.goto 12, 3) := dk_167 0 12 (dk_at dksX3_both_2 11 rfl rfl)
theorem dX3_both_62 : decode cX3_both 62 = .ok (.new 149, 3) := dk_187 0 149 (dk_at dksX3_both_2 14 rfl rfl)
theorem dX3_both_65 : decode cX3_both 65 = .ok (.dup, 1) := dk_89 (dk_at dksX3_both_2 17 rfl rfl)
theorem dX3_both_66 : decode cX3_both 66 = .ok (.iconst 1, 1) := dk_4 (dk_at dksX3_both_2 18 rfl rfl)
theorem dX3_both_67 : decode cX3_both 67 = .ok (.aload_n 1, 1) := dk_43 (dk_at dksX3_both_2 19 rfl rfl)
theorem dX3_both_68 : decode cX3_both 68 = .ok (.invokespecial 151, 3) := dk_183 0 151 (dk_at dksX3_both_2 20 rfl rfl)
theorem dX3_both_71 : decode cX3_both 71 = .ok (.areturn, 1) := dk_176 (dk_at dksX3_both_2 23 rfl rfl)
abbrev cX3_ask : ByteArray := prog_16_method_16_code
def yX3_ask : MethodName := ⟨RX3, "ask", "()LShutDays$Asked;"⟩
def dkwX3_ask_5 : List UInt8 := [187, 0, 174, 89, 28, 43, 42, 182, 0, 100, 183, 0, 176, 176]
abbrev dktX3_ask_5 : List UInt8 := dkwX3_ask_5 ++ []
def dkwX3_ask_4 : List UInt8 := [17, 1, 47, 159, 0, 16, 28, 17, 1, 48, 159, 0, 9, 42, 4, 182, 0, 70, 191, 42, 182, 0, 74]
abbrev dktX3_ask_4 : List UInt8 := dkwX3_ask_4 ++ dktX3_ask_5
def dkwX3_ask_3 : List UInt8 := [159, 0, 41, 28, 16, 62, 159, 0, 35, 28, 16, 61, 159, 0, 29, 28, 16, 35, 159, 0, 23, 28]
abbrev dktX3_ask_3 : List UInt8 := dkwX3_ask_3 ++ dktX3_ask_4
def dkwX3_ask_2 : List UInt8 := [180, 0, 25, 17, 0, 216, 160, 0, 9, 42, 43, 182, 0, 170, 176, 42, 180, 0, 25, 61, 28, 16, 60]
abbrev dktX3_ask_2 : List UInt8 := dkwX3_ask_2 ++ dktX3_ask_3
def dkwX3_ask_1 : List UInt8 := [183, 0, 167, 76, 42, 89, 180, 0, 77, 4, 100, 181, 0, 77, 43, 176, 42, 182, 0, 100, 76, 42]
abbrev dktX3_ask_1 : List UInt8 := dkwX3_ask_1 ++ dktX3_ask_2
def dkwX3_ask_0 : List UInt8 := [42, 180, 0, 25, 17, 0, 215, 160, 0, 31, 42, 182, 0, 162, 187, 0, 165, 89, 42, 182, 0, 154]
abbrev dktX3_ask_0 : List UInt8 := dkwX3_ask_0 ++ dktX3_ask_1
theorem dksX3_ask_0 : cX3_ask.data.toList.drop 0 = dktX3_ask_0 := by decide +kernel
theorem dksX3_ask_1 : cX3_ask.data.toList.drop 22 = dktX3_ask_1 := dk_seg dksX3_ask_0 22 rfl rfl
theorem dksX3_ask_2 : cX3_ask.data.toList.drop 44 = dktX3_ask_2 := dk_seg dksX3_ask_1 22 rfl rfl
theorem dksX3_ask_3 : cX3_ask.data.toList.drop 67 = dktX3_ask_3 := dk_seg dksX3_ask_2 23 rfl rfl
theorem dksX3_ask_4 : cX3_ask.data.toList.drop 89 = dktX3_ask_4 := dk_seg dksX3_ask_3 22 rfl rfl
theorem dksX3_ask_5 : cX3_ask.data.toList.drop 112 = dktX3_ask_5 := dk_seg dksX3_ask_4 23 rfl rfl
theorem dX3_ask_0 : decode cX3_ask 0 = .ok (.aload_n 0, 1) := dk_42 (dk_at dksX3_ask_0 0 rfl rfl)
theorem dX3_ask_1 : decode cX3_ask 1 = .ok (.getfield 25, 3) := dk_180 0 25 (dk_at dksX3_ask_0 1 rfl rfl)
theorem dX3_ask_4 : decode cX3_ask 4 = .ok (.sipush 215, 3) := dk_17 0 215 (dk_at dksX3_ask_0 4 rfl rfl)
theorem dX3_ask_7 : decode cX3_ask 7 = .ok (.if_icmp .ne 31, 3) := dk_160 0 31 (dk_at dksX3_ask_0 7 rfl rfl)
theorem dX3_ask_10 : decode cX3_ask 10 = .ok (.aload_n 0, 1) := dk_42 (dk_at dksX3_ask_0 10 rfl rfl)
theorem dX3_ask_11 : decode cX3_ask 11 = .ok (.invokevirtual 162, 3) := dk_182 0 162 (dk_at dksX3_ask_0 11 rfl rfl)
theorem dX3_ask_14 : decode cX3_ask 14 = .ok (.new 165, 3) := dk_187 0 165 (dk_at dksX3_ask_0 14 rfl rfl)
theorem dX3_ask_17 : decode cX3_ask 17 = .ok (.dup, 1) := dk_89 (dk_at dksX3_ask_0 17 rfl rfl)
theorem dX3_ask_18 : decode cX3_ask 18 = .ok (.aload_n 0, 1) := dk_42 (dk_at dksX3_ask_0 18 rfl rfl)
theorem dX3_ask_19 : decode cX3_ask 19 = .ok (.invokevirtual 154, 3) := dk_182 0 154 (dk_at dksX3_ask_0 19 rfl rfl)
theorem dX3_ask_22 : decode cX3_ask 22 = .ok (.invokespecial 167, 3) := dk_183 0 167 (dk_at dksX3_ask_1 0 rfl rfl)
theorem dX3_ask_25 : decode cX3_ask 25 = .ok (.astore_n 1, 1) := dk_76 (dk_at dksX3_ask_1 3 rfl rfl)
theorem dX3_ask_26 : decode cX3_ask 26 = .ok (.aload_n 0, 1) := dk_42 (dk_at dksX3_ask_1 4 rfl rfl)
theorem dX3_ask_27 : decode cX3_ask 27 = .ok (.dup, 1) := dk_89 (dk_at dksX3_ask_1 5 rfl rfl)
theorem dX3_ask_28 : decode cX3_ask 28 = .ok (.getfield 77, 3) := dk_180 0 77 (dk_at dksX3_ask_1 6 rfl rfl)
theorem dX3_ask_31 : decode cX3_ask 31 = .ok (.iconst 1, 1) := dk_4 (dk_at dksX3_ask_1 9 rfl rfl)
theorem dX3_ask_32 : decode cX3_ask 32 = .ok (.isub, 1) := dk_100 (dk_at dksX3_ask_1 10 rfl rfl)
theorem dX3_ask_33 : decode cX3_ask 33 = .ok (.putfield 77, 3) := dk_181 0 77 (dk_at dksX3_ask_1 11 rfl rfl)
theorem dX3_ask_36 : decode cX3_ask 36 = .ok (.aload_n 1, 1) := dk_43 (dk_at dksX3_ask_1 14 rfl rfl)
theorem dX3_ask_37 : decode cX3_ask 37 = .ok (.areturn, 1) := dk_176 (dk_at dksX3_ask_1 15 rfl rfl)
theorem dX3_ask_38 : decode cX3_ask 38 = .ok (.aload_n 0, 1) := dk_42 (dk_at dksX3_ask_1 16 rfl rfl)
theorem dX3_ask_39 : decode cX3_ask 39 = .ok (.invokevirtual 100, 3) := dk_182 0 100 (dk_at dksX3_ask_1 17 rfl rfl)
theorem dX3_ask_42 : decode cX3_ask 42 = .ok (.astore_n 1, 1) := dk_76 (dk_at dksX3_ask_1 20 rfl rfl)
theorem dX3_ask_43 : decode cX3_ask 43 = .ok (.aload_n 0, 1) := dk_42 (dk_at dksX3_ask_1 21 rfl rfl)
theorem dX3_ask_44 : decode cX3_ask 44 = .ok (.getfield 25, 3) := dk_180 0 25 (dk_at dksX3_ask_2 0 rfl rfl)
theorem dX3_ask_47 : decode cX3_ask 47 = .ok (.sipush 216, 3) := dk_17 0 216 (dk_at dksX3_ask_2 3 rfl rfl)
theorem dX3_ask_50 : decode cX3_ask 50 = .ok (.if_icmp .ne 9, 3) := dk_160 0 9 (dk_at dksX3_ask_2 6 rfl rfl)
theorem dX3_ask_53 : decode cX3_ask 53 = .ok (.aload_n 0, 1) := dk_42 (dk_at dksX3_ask_2 9 rfl rfl)
theorem dX3_ask_54 : decode cX3_ask 54 = .ok (.aload_n 1, 1) := dk_43 (dk_at dksX3_ask_2 10 rfl rfl)
theorem dX3_ask_55 : decode cX3_ask 55 = .ok (.invokevirtual 170, 3) := dk_182 0 170 (dk_at dksX3_ask_2 11 rfl rfl)
theorem dX3_ask_58 : decode cX3_ask 58 = .ok (.areturn, 1) := dk_176 (dk_at dksX3_ask_2 14 rfl rfl)
theorem dX3_ask_59 : decode cX3_ask 59 = .ok (.aload_n 0, 1) := dk_42 (dk_at dksX3_ask_2 15 rfl rfl)
theorem dX3_ask_60 : decode cX3_ask 60 = .ok (.getfield 25, 3) := dk_180 0 25 (dk_at dksX3_ask_2 16 rfl rfl)
theorem dX3_ask_63 : decode cX3_ask 63 = .ok (.istore_n 2, 1) := dk_61 (dk_at dksX3_ask_2 19 rfl rfl)
theorem dX3_ask_64 : decode cX3_ask 64 = .ok (.iload_n 2, 1) := dk_28 (dk_at dksX3_ask_2 20 rfl rfl)
theorem dX3_ask_65 : decode cX3_ask 65 = .ok (.bipush 60, 2) := dk_16 60 (dk_at dksX3_ask_2 21 rfl rfl)
theorem dX3_ask_67 : decode cX3_ask 67 = .ok (.if_icmp .eq 41, 3) := dk_159 0 41 (dk_at dksX3_ask_3 0 rfl rfl)
theorem dX3_ask_70 : decode cX3_ask 70 = .ok (.iload_n 2, 1) := dk_28 (dk_at dksX3_ask_3 3 rfl rfl)
theorem dX3_ask_71 : decode cX3_ask 71 = .ok (.bipush 62, 2) := dk_16 62 (dk_at dksX3_ask_3 4 rfl rfl)
theorem dX3_ask_73 : decode cX3_ask 73 = .ok (.if_icmp .eq 35, 3) := dk_159 0 35 (dk_at dksX3_ask_3 6 rfl rfl)
theorem dX3_ask_76 : decode cX3_ask 76 = .ok (.iload_n 2, 1) := dk_28 (dk_at dksX3_ask_3 9 rfl rfl)
theorem dX3_ask_77 : decode cX3_ask 77 = .ok (.bipush 61, 2) := dk_16 61 (dk_at dksX3_ask_3 10 rfl rfl)
theorem dX3_ask_79 : decode cX3_ask 79 = .ok (.if_icmp .eq 29, 3) := dk_159 0 29 (dk_at dksX3_ask_3 12 rfl rfl)
theorem dX3_ask_82 : decode cX3_ask 82 = .ok (.iload_n 2, 1) := dk_28 (dk_at dksX3_ask_3 15 rfl rfl)
theorem dX3_ask_83 : decode cX3_ask 83 = .ok (.bipush 35, 2) := dk_16 35 (dk_at dksX3_ask_3 16 rfl rfl)
theorem dX3_ask_85 : decode cX3_ask 85 = .ok (.if_icmp .eq 23, 3) := dk_159 0 23 (dk_at dksX3_ask_3 18 rfl rfl)
theorem dX3_ask_88 : decode cX3_ask 88 = .ok (.iload_n 2, 1) := dk_28 (dk_at dksX3_ask_3 21 rfl rfl)
theorem dX3_ask_89 : decode cX3_ask 89 = .ok (.sipush 303, 3) := dk_17 1 47 (dk_at dksX3_ask_4 0 rfl rfl)
theorem dX3_ask_92 : decode cX3_ask 92 = .ok (.if_icmp .eq 16, 3) := dk_159 0 16 (dk_at dksX3_ask_4 3 rfl rfl)
theorem dX3_ask_95 : decode cX3_ask 95 = .ok (.iload_n 2, 1) := dk_28 (dk_at dksX3_ask_4 6 rfl rfl)
theorem dX3_ask_96 : decode cX3_ask 96 = .ok (.sipush 304, 3) := dk_17 1 48 (dk_at dksX3_ask_4 7 rfl rfl)
theorem dX3_ask_99 : decode cX3_ask 99 = .ok (.if_icmp .eq 9, 3) := dk_159 0 9 (dk_at dksX3_ask_4 10 rfl rfl)
theorem dX3_ask_102 : decode cX3_ask 102 = .ok (.aload_n 0, 1) := dk_42 (dk_at dksX3_ask_4 13 rfl rfl)
theorem dX3_ask_103 : decode cX3_ask 103 = .ok (.iconst 1, 1) := dk_4 (dk_at dksX3_ask_4 14 rfl rfl)
theorem dX3_ask_104 : decode cX3_ask 104 = .ok (.invokevirtual 70, 3) := dk_182 0 70 (dk_at dksX3_ask_4 15 rfl rfl)
theorem dX3_ask_107 : decode cX3_ask 107 = .ok (.athrow, 1) := dk_191 (dk_at dksX3_ask_4 18 rfl rfl)
theorem dX3_ask_108 : decode cX3_ask 108 = .ok (.aload_n 0, 1) := dk_42 (dk_at dksX3_ask_4 19 rfl rfl)
theorem dX3_ask_109 : decode cX3_ask 109 = .ok (.invokevirtual 74, 3) := dk_182 0 74 (dk_at dksX3_ask_4 20 rfl rfl)
theorem dX3_ask_112 : decode cX3_ask 112 = .ok (.new 174, 3) := dk_187 0 174 (dk_at dksX3_ask_5 0 rfl rfl)
theorem dX3_ask_115 : decode cX3_ask 115 = .ok (.dup, 1) := dk_89 (dk_at dksX3_ask_5 3 rfl rfl)
theorem dX3_ask_116 : decode cX3_ask 116 = .ok (.iload_n 2, 1) := dk_28 (dk_at dksX3_ask_5 4 rfl rfl)
theorem dX3_ask_117 : decode cX3_ask 117 = .ok (.aload_n 1, 1) := dk_43 (dk_at dksX3_ask_5 5 rfl rfl)
theorem dX3_ask_118 : decode cX3_ask 118 = .ok (.aload_n 0, 1) := dk_42 (dk_at dksX3_ask_5 6 rfl rfl)
theorem dX3_ask_119 : decode cX3_ask 119 = .ok (.invokevirtual 100, 3) := dk_182 0 100 (dk_at dksX3_ask_5 7 rfl rfl)
theorem dX3_ask_122 : decode cX3_ask 122 = .ok (.invokespecial 176, 3) := dk_183 0 176 (dk_at dksX3_ask_5 10 rfl rfl)
theorem dX3_ask_125 : decode cX3_ask 125 = .ok (.areturn, 1) := dk_176 (dk_at dksX3_ask_5 13 rfl rfl)
abbrev cX3_divides : ByteArray := prog_16_method_15_code
def yX3_divides : MethodName := ⟨RX3, "divides", "(LShutDays$Sum;)LShutDays$Asked;"⟩
def dkwX3_divides_0 : List UInt8 := [42, 182, 0, 74, 187, 0, 157, 89, 43, 42, 182, 0, 100, 183, 0, 159, 176]
abbrev dktX3_divides_0 : List UInt8 := dkwX3_divides_0 ++ []
theorem dksX3_divides_0 : cX3_divides.data.toList.drop 0 = dktX3_divides_0 := by decide +kernel
theorem dX3_divides_0 : decode cX3_divides 0 = .ok (.aload_n 0, 1) := dk_42 (dk_at dksX3_divides_0 0 rfl rfl)
theorem dX3_divides_1 : decode cX3_divides 1 = .ok (.invokevirtual 74, 3) := dk_182 0 74 (dk_at dksX3_divides_0 1 rfl rfl)
theorem dX3_divides_4 : decode cX3_divides 4 = .ok (.new 157, 3) := dk_187 0 157 (dk_at dksX3_divides_0 4 rfl rfl)
theorem dX3_divides_7 : decode cX3_divides 7 = .ok (.dup, 1) := dk_89 (dk_at dksX3_divides_0 7 rfl rfl)
theorem dX3_divides_8 : decode cX3_divides 8 = .ok (.aload_n 1, 1) := dk_43 (dk_at dksX3_divides_0 8 rfl rfl)
theorem dX3_divides_9 : decode cX3_divides 9 = .ok (.aload_n 0, 1) := dk_42 (dk_at dksX3_divides_0 9 rfl rfl)
theorem dX3_divides_10 : decode cX3_divides 10 = .ok (.invokevirtual 100, 3) := dk_182 0 100 (dk_at dksX3_divides_0 10 rfl rfl)
theorem dX3_divides_13 : decode cX3_divides 13 = .ok (.invokespecial 159, 3) := dk_183 0 159 (dk_at dksX3_divides_0 13 rfl rfl)
theorem dX3_divides_16 : decode cX3_divides 16 = .ok (.areturn, 1) := dk_176 (dk_at dksX3_divides_0 16 rfl rfl)
abbrev cX3_doing : ByteArray := prog_16_method_12_code
def yX3_doing : MethodName := ⟨RX3, "doing", "(I)LShutDays$Doing;"⟩
def dkwX3_doing_8 : List UInt8 := [180, 0, 83, 42, 3, 16, 6, 182, 0, 126, 2, 2, 27, 183, 0, 134, 176]
abbrev dktX3_doing_8 : List UInt8 := dkwX3_doing_8 ++ []
def dkwX3_doing_7 : List UInt8 := [42, 180, 0, 83, 42, 4, 16, 60, 182, 0, 126, 2, 2, 27, 183, 0, 134, 176, 187, 0, 132, 89, 42]
abbrev dktX3_doing_7 : List UInt8 := dkwX3_doing_7 ++ dktX3_doing_8
def dkwX3_doing_6 : List UInt8 := [180, 0, 83, 28, 42, 17, 0, 212, 3, 16, 6, 182, 0, 128, 2, 27, 183, 0, 134, 176, 187, 0, 132, 89]
abbrev dktX3_doing_6 : List UInt8 := dkwX3_doing_6 ++ dktX3_doing_7
def dkwX3_doing_5 : List UInt8 := [182, 0, 128, 2, 27, 183, 0, 134, 176, 42, 3, 16, 19, 182, 0, 126, 61, 187, 0, 132, 89, 42]
abbrev dktX3_doing_5 : List UInt8 := dkwX3_doing_5 ++ dktX3_doing_6
def dkwX3_doing_4 : List UInt8 := [16, 6, 182, 0, 126, 61, 187, 0, 132, 89, 42, 180, 0, 83, 28, 42, 17, 0, 211, 3, 16, 6]
abbrev dktX3_doing_4 : List UInt8 := dkwX3_doing_4 ++ dktX3_doing_5
def dkwX3_doing_3 : List UInt8 := [42, 180, 0, 83, 28, 29, 42, 17, 0, 210, 3, 16, 99, 182, 0, 128, 27, 183, 0, 134, 176, 42, 3]
abbrev dktX3_doing_3 : List UInt8 := dkwX3_doing_3 ++ dktX3_doing_4
def dkwX3_doing_2 : List UInt8 := [42, 3, 16, 19, 182, 0, 126, 61, 42, 17, 0, 209, 3, 17, 39, 15, 182, 0, 128, 62, 187, 0, 132, 89]
abbrev dktX3_doing_2 : List UInt8 := dkwX3_doing_2 ++ dktX3_doing_3
def dkwX3_doing_1 : List UInt8 := [170, 0, 0, 0, 0, 0, 0, 173, 0, 0, 0, 203, 0, 0, 0, 208, 0, 0, 0, 40, 0, 0, 0, 173, 0, 0, 0, 85, 0, 0, 0, 173, 0, 0, 0, 118, 0, 0, 0, 151]
abbrev dktX3_doing_1 : List UInt8 := dkwX3_doing_1 ++ dktX3_doing_2
def dkwX3_doing_0 : List UInt8 := [42, 180, 0, 83]
abbrev dktX3_doing_0 : List UInt8 := dkwX3_doing_0 ++ dktX3_doing_1
theorem dksX3_doing_0 : cX3_doing.data.toList.drop 0 = dktX3_doing_0 := by decide +kernel
theorem dksX3_doing_1 : cX3_doing.data.toList.drop 4 = dktX3_doing_1 := dk_seg dksX3_doing_0 4 rfl rfl
theorem dksX3_doing_2 : cX3_doing.data.toList.drop 44 = dktX3_doing_2 := dk_seg dksX3_doing_1 40 rfl rfl
theorem dksX3_doing_3 : cX3_doing.data.toList.drop 68 = dktX3_doing_3 := dk_seg dksX3_doing_2 24 rfl rfl
theorem dksX3_doing_4 : cX3_doing.data.toList.drop 91 = dktX3_doing_4 := dk_seg dksX3_doing_3 23 rfl rfl
theorem dksX3_doing_5 : cX3_doing.data.toList.drop 113 = dktX3_doing_5 := dk_seg dksX3_doing_4 22 rfl rfl
theorem dksX3_doing_6 : cX3_doing.data.toList.drop 135 = dktX3_doing_6 := dk_seg dksX3_doing_5 22 rfl rfl
theorem dksX3_doing_7 : cX3_doing.data.toList.drop 159 = dktX3_doing_7 := dk_seg dksX3_doing_6 24 rfl rfl
theorem dksX3_doing_8 : cX3_doing.data.toList.drop 182 = dktX3_doing_8 := dk_seg dksX3_doing_7 23 rfl rfl
theorem dX3_doing_0 : decode cX3_doing 0 = .ok (.aload_n 0, 1) := dk_42 (dk_at dksX3_doing_0 0 rfl rfl)
theorem dX3_doing_1 : decode cX3_doing 1 = .ok (.getfield 83, 3) := dk_180 0 83 (dk_at dksX3_doing_0 1 rfl rfl)
theorem dX3_doing_4 : decode cX3_doing 4 = .ok (.tableswitch 173 203 208 #[40, 173, 85, 173, 118, 151], 40) := by decide +kernel
theorem dX3_doing_44 : decode cX3_doing 44 = .ok (.aload_n 0, 1) := dk_42 (dk_at dksX3_doing_2 0 rfl rfl)
theorem dX3_doing_45 : decode cX3_doing 45 = .ok (.iconst 0, 1) := dk_3 (dk_at dksX3_doing_2 1 rfl rfl)
theorem dX3_doing_46 : decode cX3_doing 46 = .ok (.bipush 19, 2) := dk_16 19 (dk_at dksX3_doing_2 2 rfl rfl)
theorem dX3_doing_48 : decode cX3_doing 48 = .ok (.invokevirtual 126, 3) := dk_182 0 126 (dk_at dksX3_doing_2 4 rfl rfl)
theorem dX3_doing_51 : decode cX3_doing 51 = .ok (.istore_n 2, 1) := dk_61 (dk_at dksX3_doing_2 7 rfl rfl)
theorem dX3_doing_52 : decode cX3_doing 52 = .ok (.aload_n 0, 1) := dk_42 (dk_at dksX3_doing_2 8 rfl rfl)
theorem dX3_doing_53 : decode cX3_doing 53 = .ok (.sipush 209, 3) := dk_17 0 209 (dk_at dksX3_doing_2 9 rfl rfl)
theorem dX3_doing_56 : decode cX3_doing 56 = .ok (.iconst 0, 1) := dk_3 (dk_at dksX3_doing_2 12 rfl rfl)
theorem dX3_doing_57 : decode cX3_doing 57 = .ok (.sipush 9999, 3) := dk_17 39 15 (dk_at dksX3_doing_2 13 rfl rfl)
theorem dX3_doing_60 : decode cX3_doing 60 = .ok (.invokevirtual 128, 3) := dk_182 0 128 (dk_at dksX3_doing_2 16 rfl rfl)
theorem dX3_doing_63 : decode cX3_doing 63 = .ok (.istore_n 3, 1) := dk_62 (dk_at dksX3_doing_2 19 rfl rfl)
theorem dX3_doing_64 : decode cX3_doing 64 = .ok (.new 132, 3) := dk_187 0 132 (dk_at dksX3_doing_2 20 rfl rfl)
theorem dX3_doing_67 : decode cX3_doing 67 = .ok (.dup, 1) := dk_89 (dk_at dksX3_doing_2 23 rfl rfl)
theorem dX3_doing_68 : decode cX3_doing 68 = .ok (.aload_n 0, 1) := dk_42 (dk_at dksX3_doing_3 0 rfl rfl)
theorem dX3_doing_69 : decode cX3_doing 69 = .ok (.getfield 83, 3) := dk_180 0 83 (dk_at dksX3_doing_3 1 rfl rfl)
theorem dX3_doing_72 : decode cX3_doing 72 = .ok (.iload_n 2, 1) := dk_28 (dk_at dksX3_doing_3 4 rfl rfl)
theorem dX3_doing_73 : decode cX3_doing 73 = .ok (.iload_n 3, 1) := dk_29 (dk_at dksX3_doing_3 5 rfl rfl)
theorem dX3_doing_74 : decode cX3_doing 74 = .ok (.aload_n 0, 1) := dk_42 (dk_at dksX3_doing_3 6 rfl rfl)
theorem dX3_doing_75 : decode cX3_doing 75 = .ok (.sipush 210, 3) := dk_17 0 210 (dk_at dksX3_doing_3 7 rfl rfl)
theorem dX3_doing_78 : decode cX3_doing 78 = .ok (.iconst 0, 1) := dk_3 (dk_at dksX3_doing_3 10 rfl rfl)
theorem dX3_doing_79 : decode cX3_doing 79 = .ok (.bipush 99, 2) := dk_16 99 (dk_at dksX3_doing_3 11 rfl rfl)
theorem dX3_doing_81 : decode cX3_doing 81 = .ok (.invokevirtual 128, 3) := dk_182 0 128 (dk_at dksX3_doing_3 13 rfl rfl)
theorem dX3_doing_84 : decode cX3_doing 84 = .ok (.iload_n 1, 1) := dk_27 (dk_at dksX3_doing_3 16 rfl rfl)
theorem dX3_doing_85 : decode cX3_doing 85 = .ok (.invokespecial 134, 3) := dk_183 0 134 (dk_at dksX3_doing_3 17 rfl rfl)
theorem dX3_doing_88 : decode cX3_doing 88 = .ok (.areturn, 1) := dk_176 (dk_at dksX3_doing_3 20 rfl rfl)
theorem dX3_doing_89 : decode cX3_doing 89 = .ok (.aload_n 0, 1) := dk_42 (dk_at dksX3_doing_3 21 rfl rfl)
theorem dX3_doing_90 : decode cX3_doing 90 = .ok (.iconst 0, 1) := dk_3 (dk_at dksX3_doing_3 22 rfl rfl)
theorem dX3_doing_91 : decode cX3_doing 91 = .ok (.bipush 6, 2) := dk_16 6 (dk_at dksX3_doing_4 0 rfl rfl)
theorem dX3_doing_93 : decode cX3_doing 93 = .ok (.invokevirtual 126, 3) := dk_182 0 126 (dk_at dksX3_doing_4 2 rfl rfl)
theorem dX3_doing_96 : decode cX3_doing 96 = .ok (.istore_n 2, 1) := dk_61 (dk_at dksX3_doing_4 5 rfl rfl)
theorem dX3_doing_97 : decode cX3_doing 97 = .ok (.new 132, 3) := dk_187 0 132 (dk_at dksX3_doing_4 6 rfl rfl)
theorem dX3_doing_100 : decode cX3_doing 100 = .ok (.dup, 1) := dk_89 (dk_at dksX3_doing_4 9 rfl rfl)
theorem dX3_doing_101 : decode cX3_doing 101 = .ok (.aload_n 0, 1) := dk_42 (dk_at dksX3_doing_4 10 rfl rfl)
theorem dX3_doing_102 : decode cX3_doing 102 = .ok (.getfield 83, 3) := dk_180 0 83 (dk_at dksX3_doing_4 11 rfl rfl)
theorem dX3_doing_105 : decode cX3_doing 105 = .ok (.iload_n 2, 1) := dk_28 (dk_at dksX3_doing_4 14 rfl rfl)
theorem dX3_doing_106 : decode cX3_doing 106 = .ok (.aload_n 0, 1) := dk_42 (dk_at dksX3_doing_4 15 rfl rfl)
theorem dX3_doing_107 : decode cX3_doing 107 = .ok (.sipush 211, 3) := dk_17 0 211 (dk_at dksX3_doing_4 16 rfl rfl)
theorem dX3_doing_110 : decode cX3_doing 110 = .ok (.iconst 0, 1) := dk_3 (dk_at dksX3_doing_4 19 rfl rfl)
theorem dX3_doing_111 : decode cX3_doing 111 = .ok (.bipush 6, 2) := dk_16 6 (dk_at dksX3_doing_4 20 rfl rfl)
theorem dX3_doing_113 : decode cX3_doing 113 = .ok (.invokevirtual 128, 3) := dk_182 0 128 (dk_at dksX3_doing_5 0 rfl rfl)
theorem dX3_doing_116 : decode cX3_doing 116 = .ok (.iconst (-1), 1) := dk_2 (dk_at dksX3_doing_5 3 rfl rfl)
theorem dX3_doing_117 : decode cX3_doing 117 = .ok (.iload_n 1, 1) := dk_27 (dk_at dksX3_doing_5 4 rfl rfl)
theorem dX3_doing_118 : decode cX3_doing 118 = .ok (.invokespecial 134, 3) := dk_183 0 134 (dk_at dksX3_doing_5 5 rfl rfl)
theorem dX3_doing_121 : decode cX3_doing 121 = .ok (.areturn, 1) := dk_176 (dk_at dksX3_doing_5 8 rfl rfl)
theorem dX3_doing_122 : decode cX3_doing 122 = .ok (.aload_n 0, 1) := dk_42 (dk_at dksX3_doing_5 9 rfl rfl)
theorem dX3_doing_123 : decode cX3_doing 123 = .ok (.iconst 0, 1) := dk_3 (dk_at dksX3_doing_5 10 rfl rfl)
theorem dX3_doing_124 : decode cX3_doing 124 = .ok (.bipush 19, 2) := dk_16 19 (dk_at dksX3_doing_5 11 rfl rfl)
theorem dX3_doing_126 : decode cX3_doing 126 = .ok (.invokevirtual 126, 3) := dk_182 0 126 (dk_at dksX3_doing_5 13 rfl rfl)
theorem dX3_doing_129 : decode cX3_doing 129 = .ok (.istore_n 2, 1) := dk_61 (dk_at dksX3_doing_5 16 rfl rfl)
theorem dX3_doing_130 : decode cX3_doing 130 = .ok (.new 132, 3) := dk_187 0 132 (dk_at dksX3_doing_5 17 rfl rfl)
theorem dX3_doing_133 : decode cX3_doing 133 = .ok (.dup, 1) := dk_89 (dk_at dksX3_doing_5 20 rfl rfl)
theorem dX3_doing_134 : decode cX3_doing 134 = .ok (.aload_n 0, 1) := dk_42 (dk_at dksX3_doing_5 21 rfl rfl)
theorem dX3_doing_135 : decode cX3_doing 135 = .ok (.getfield 83, 3) := dk_180 0 83 (dk_at dksX3_doing_6 0 rfl rfl)
theorem dX3_doing_138 : decode cX3_doing 138 = .ok (.iload_n 2, 1) := dk_28 (dk_at dksX3_doing_6 3 rfl rfl)
theorem dX3_doing_139 : decode cX3_doing 139 = .ok (.aload_n 0, 1) := dk_42 (dk_at dksX3_doing_6 4 rfl rfl)
theorem dX3_doing_140 : decode cX3_doing 140 = .ok (.sipush 212, 3) := dk_17 0 212 (dk_at dksX3_doing_6 5 rfl rfl)
theorem dX3_doing_143 : decode cX3_doing 143 = .ok (.iconst 0, 1) := dk_3 (dk_at dksX3_doing_6 8 rfl rfl)
theorem dX3_doing_144 : decode cX3_doing 144 = .ok (.bipush 6, 2) := dk_16 6 (dk_at dksX3_doing_6 9 rfl rfl)
theorem dX3_doing_146 : decode cX3_doing 146 = .ok (.invokevirtual 128, 3) := dk_182 0 128 (dk_at dksX3_doing_6 11 rfl rfl)
theorem dX3_doing_149 : decode cX3_doing 149 = .ok (.iconst (-1), 1) := dk_2 (dk_at dksX3_doing_6 14 rfl rfl)
theorem dX3_doing_150 : decode cX3_doing 150 = .ok (.iload_n 1, 1) := dk_27 (dk_at dksX3_doing_6 15 rfl rfl)
theorem dX3_doing_151 : decode cX3_doing 151 = .ok (.invokespecial 134, 3) := dk_183 0 134 (dk_at dksX3_doing_6 16 rfl rfl)
theorem dX3_doing_154 : decode cX3_doing 154 = .ok (.areturn, 1) := dk_176 (dk_at dksX3_doing_6 19 rfl rfl)
theorem dX3_doing_155 : decode cX3_doing 155 = .ok (.new 132, 3) := dk_187 0 132 (dk_at dksX3_doing_6 20 rfl rfl)
theorem dX3_doing_158 : decode cX3_doing 158 = .ok (.dup, 1) := dk_89 (dk_at dksX3_doing_6 23 rfl rfl)
theorem dX3_doing_159 : decode cX3_doing 159 = .ok (.aload_n 0, 1) := dk_42 (dk_at dksX3_doing_7 0 rfl rfl)
theorem dX3_doing_160 : decode cX3_doing 160 = .ok (.getfield 83, 3) := dk_180 0 83 (dk_at dksX3_doing_7 1 rfl rfl)
theorem dX3_doing_163 : decode cX3_doing 163 = .ok (.aload_n 0, 1) := dk_42 (dk_at dksX3_doing_7 4 rfl rfl)
theorem dX3_doing_164 : decode cX3_doing 164 = .ok (.iconst 1, 1) := dk_4 (dk_at dksX3_doing_7 5 rfl rfl)
theorem dX3_doing_165 : decode cX3_doing 165 = .ok (.bipush 60, 2) := dk_16 60 (dk_at dksX3_doing_7 6 rfl rfl)
theorem dX3_doing_167 : decode cX3_doing 167 = .ok (.invokevirtual 126, 3) := dk_182 0 126 (dk_at dksX3_doing_7 8 rfl rfl)
theorem dX3_doing_170 : decode cX3_doing 170 = .ok (.iconst (-1), 1) := dk_2 (dk_at dksX3_doing_7 11 rfl rfl)
theorem dX3_doing_171 : decode cX3_doing 171 = .ok (.iconst (-1), 1) := dk_2 (dk_at dksX3_doing_7 12 rfl rfl)
theorem dX3_doing_172 : decode cX3_doing 172 = .ok (.iload_n 1, 1) := dk_27 (dk_at dksX3_doing_7 13 rfl rfl)
theorem dX3_doing_173 : decode cX3_doing 173 = .ok (.invokespecial 134, 3) := dk_183 0 134 (dk_at dksX3_doing_7 14 rfl rfl)
theorem dX3_doing_176 : decode cX3_doing 176 = .ok (.areturn, 1) := dk_176 (dk_at dksX3_doing_7 17 rfl rfl)
theorem dX3_doing_177 : decode cX3_doing 177 = .ok (.new 132, 3) := dk_187 0 132 (dk_at dksX3_doing_7 18 rfl rfl)
theorem dX3_doing_180 : decode cX3_doing 180 = .ok (.dup, 1) := dk_89 (dk_at dksX3_doing_7 21 rfl rfl)
theorem dX3_doing_181 : decode cX3_doing 181 = .ok (.aload_n 0, 1) := dk_42 (dk_at dksX3_doing_7 22 rfl rfl)
theorem dX3_doing_182 : decode cX3_doing 182 = .ok (.getfield 83, 3) := dk_180 0 83 (dk_at dksX3_doing_8 0 rfl rfl)
theorem dX3_doing_185 : decode cX3_doing 185 = .ok (.aload_n 0, 1) := dk_42 (dk_at dksX3_doing_8 3 rfl rfl)
theorem dX3_doing_186 : decode cX3_doing 186 = .ok (.iconst 0, 1) := dk_3 (dk_at dksX3_doing_8 4 rfl rfl)
theorem dX3_doing_187 : decode cX3_doing 187 = .ok (.bipush 6, 2) := dk_16 6 (dk_at dksX3_doing_8 5 rfl rfl)
theorem dX3_doing_189 : decode cX3_doing 189 = .ok (.invokevirtual 126, 3) := dk_182 0 126 (dk_at dksX3_doing_8 7 rfl rfl)
theorem dX3_doing_192 : decode cX3_doing 192 = .ok (.iconst (-1), 1) := dk_2 (dk_at dksX3_doing_8 10 rfl rfl)
theorem dX3_doing_193 : decode cX3_doing 193 = .ok (.iconst (-1), 1) := dk_2 (dk_at dksX3_doing_8 11 rfl rfl)
theorem dX3_doing_194 : decode cX3_doing 194 = .ok (.iload_n 1, 1) := dk_27 (dk_at dksX3_doing_8 12 rfl rfl)
theorem dX3_doing_195 : decode cX3_doing 195 = .ok (.invokespecial 134, 3) := dk_183 0 134 (dk_at dksX3_doing_8 13 rfl rfl)
theorem dX3_doing_198 : decode cX3_doing 198 = .ok (.areturn, 1) := dk_176 (dk_at dksX3_doing_8 16 rfl rfl)
abbrev cX3_behind : ByteArray := prog_16_method_11_code
def yX3_behind : MethodName := ⟨RX3, "behind", "(III)I"⟩
def dkwX3_behind_0 : List UInt8 := [42, 27, 182, 0, 122, 42, 28, 29, 182, 0, 126, 172]
abbrev dktX3_behind_0 : List UInt8 := dkwX3_behind_0 ++ []
theorem dksX3_behind_0 : cX3_behind.data.toList.drop 0 = dktX3_behind_0 := by decide +kernel
theorem dX3_behind_0 : decode cX3_behind 0 = .ok (.aload_n 0, 1) := dk_42 (dk_at dksX3_behind_0 0 rfl rfl)
theorem dX3_behind_1 : decode cX3_behind 1 = .ok (.iload_n 1, 1) := dk_27 (dk_at dksX3_behind_0 1 rfl rfl)
theorem dX3_behind_2 : decode cX3_behind 2 = .ok (.invokevirtual 122, 3) := dk_182 0 122 (dk_at dksX3_behind_0 2 rfl rfl)
theorem dX3_behind_5 : decode cX3_behind 5 = .ok (.aload_n 0, 1) := dk_42 (dk_at dksX3_behind_0 5 rfl rfl)
theorem dX3_behind_6 : decode cX3_behind 6 = .ok (.iload_n 2, 1) := dk_28 (dk_at dksX3_behind_0 6 rfl rfl)
theorem dX3_behind_7 : decode cX3_behind 7 = .ok (.iload_n 3, 1) := dk_29 (dk_at dksX3_behind_0 7 rfl rfl)
theorem dX3_behind_8 : decode cX3_behind 8 = .ok (.invokevirtual 126, 3) := dk_182 0 126 (dk_at dksX3_behind_0 8 rfl rfl)
theorem dX3_behind_11 : decode cX3_behind 11 = .ok (.ireturn, 1) := dk_172 (dk_at dksX3_behind_0 11 rfl rfl)
theorem q142 : (Jvm.Cond.initialized "ShutDays$Tokens") ∈ lw_all := lw_g (lw_at lw_m1 5 rfl) rfl
theorem q299 : (Jvm.Cond.instantiable "ShutDays$Tokens" (8 : Nat)) ∈ lw_all := lw_g (lw_at lw_m1 162 rfl) rfl
theorem q301 : (Jvm.Cond.instanceMethod ({ cls := "ShutDays$Tokens", name := "<init>", desc := "([BI)V" } : Jvm.MethodName)) ∈ lw_all := lw_g (lw_at lw_m1 164 rfl) rfl
theorem q302 : (Jvm.Cond.code ({ cls := "ShutDays$Tokens", name := "<init>", desc := "([BI)V" } : Jvm.MethodName) prog_16_method_1_code (3 : Nat) (Option.none : Option Jvm.ClassFile.FieldType)) ∈ lw_all := lw_g (lw_at lw_m1 165 rfl) rfl
theorem q303 : (Jvm.Cond.methodLink "ShutDays$Tokens" (3 : Nat) ({ cls := "java/lang/Object", name := "<init>", desc := "()V" } : Jvm.MethodName)) ∈ lw_all := lw_g (lw_at lw_m1 166 rfl) rfl
theorem q304 : (Jvm.Cond.fieldLink "ShutDays$Tokens" (9 : Nat) "ShutDays$Tokens" "text" "[B") ∈ lw_all := lw_g (lw_at lw_m1 167 rfl) rfl
theorem q305 : (Jvm.Cond.fieldLink "ShutDays$Tokens" (15 : Nat) "ShutDays$Tokens" "size" "I") ∈ lw_all := lw_g (lw_at lw_m1 168 rfl) rfl
theorem q306 : (Jvm.Cond.fieldLink "ShutDays$Tokens" (19 : Nat) "ShutDays$Tokens" "at" "I") ∈ lw_all := lw_g (lw_at lw_m1 169 rfl) rfl
theorem q307 : (Jvm.Cond.fieldLink "ShutDays$Tokens" (22 : Nat) "ShutDays$Tokens" "token" "I") ∈ lw_all := lw_g (lw_at lw_m1 170 rfl) rfl
theorem q308 : (Jvm.Cond.fieldLink "ShutDays$Tokens" (25 : Nat) "ShutDays$Tokens" "sort" "I") ∈ lw_all := lw_g (lw_at lw_m1 171 rfl) rfl
theorem q309 : (Jvm.Cond.fieldLink "ShutDays$Tokens" (43 : Nat) "ShutDays$Tokens" "number" "I") ∈ lw_all := lw_g (lw_at lw_m1 172 rfl) rfl
theorem q310 : (Jvm.Cond.fieldLink "ShutDays$Tokens" (77 : Nat) "ShutDays$Tokens" "open" "I") ∈ lw_all := lw_g (lw_at lw_m1 173 rfl) rfl
theorem q311 : (Jvm.Cond.fieldLink "ShutDays$Tokens" (83 : Nat) "ShutDays$Tokens" "kind" "I") ∈ lw_all := lw_g (lw_at lw_m1 174 rfl) rfl
theorem q312 : (Jvm.Cond.laysFinal "ShutDays$Tokens" "ShutDays$Tokens" "text" "[B") ∈ lw_all := lw_g (lw_at lw_m1 175 rfl) rfl
theorem q313 : (Jvm.Cond.soleField "ShutDays$Tokens" "text") ∈ lw_all := lw_g (lw_at lw_m1 176 rfl) rfl
theorem q314 : (Jvm.Cond.laysFinal "ShutDays$Tokens" "ShutDays$Tokens" "size" "I") ∈ lw_all := lw_g (lw_at lw_m1 177 rfl) rfl
theorem q315 : (Jvm.Cond.soleField "ShutDays$Tokens" "size") ∈ lw_all := lw_g (lw_at lw_m1 178 rfl) rfl
theorem q316 : (Jvm.Cond.lays "ShutDays$Tokens" "ShutDays$Tokens" "at" "I") ∈ lw_all := lw_g (lw_at lw_m1 179 rfl) rfl
theorem q317 : (Jvm.Cond.soleField "ShutDays$Tokens" "at") ∈ lw_all := lw_g (lw_at lw_m1 180 rfl) rfl
theorem q318 : (Jvm.Cond.lays "ShutDays$Tokens" "ShutDays$Tokens" "token" "I") ∈ lw_all := lw_g (lw_at lw_m1 181 rfl) rfl
theorem q319 : (Jvm.Cond.soleField "ShutDays$Tokens" "token") ∈ lw_all := lw_g (lw_at lw_m1 182 rfl) rfl
theorem q320 : (Jvm.Cond.lays "ShutDays$Tokens" "ShutDays$Tokens" "sort" "I") ∈ lw_all := lw_g (lw_at lw_m1 183 rfl) rfl
theorem q321 : (Jvm.Cond.soleField "ShutDays$Tokens" "sort") ∈ lw_all := lw_g (lw_at lw_m1 184 rfl) rfl
theorem q322 : (Jvm.Cond.lays "ShutDays$Tokens" "ShutDays$Tokens" "number" "I") ∈ lw_all := lw_g (lw_at lw_m1 185 rfl) rfl
theorem q323 : (Jvm.Cond.soleField "ShutDays$Tokens" "number") ∈ lw_all := lw_g (lw_at lw_m1 186 rfl) rfl
theorem q324 : (Jvm.Cond.lays "ShutDays$Tokens" "ShutDays$Tokens" "open" "I") ∈ lw_all := lw_g (lw_at lw_m1 187 rfl) rfl
theorem q325 : (Jvm.Cond.soleField "ShutDays$Tokens" "open") ∈ lw_all := lw_g (lw_at lw_m1 188 rfl) rfl
theorem q326 : (Jvm.Cond.lays "ShutDays$Tokens" "ShutDays$Tokens" "kind" "I") ∈ lw_all := lw_g (lw_at lw_m1 189 rfl) rfl
theorem q327 : (Jvm.Cond.soleField "ShutDays$Tokens" "kind") ∈ lw_all := lw_g (lw_at lw_m1 190 rfl) rfl
theorem q328 : (Jvm.Cond.superclass "ShutDays$Tokens" "java/lang/Object") ∈ lw_all := lw_g (lw_at lw_m1 191 rfl) rfl
theorem q330 : (Jvm.Cond.instanceMethod ({ cls := "ShutDays$Tokens", name := "read", desc := "()LShutDays$Text;" } : Jvm.MethodName)) ∈ lw_all := lw_g (lw_at lw_m1 193 rfl) rfl
theorem q331 : (Jvm.Cond.selects "ShutDays$Tokens" ({ cls := "ShutDays$Tokens", name := "read", desc := "()LShutDays$Text;" } : Jvm.MethodName) ({ cls := "ShutDays$Tokens", name := "read", desc := "()LShutDays$Text;" } : Jvm.MethodName)) ∈ lw_all := lw_g (lw_at lw_m1 194 rfl) rfl
theorem q332 : (Jvm.Cond.code ({ cls := "ShutDays$Tokens", name := "read", desc := "()LShutDays$Text;" } : Jvm.MethodName) prog_16_method_10_code (2 : Nat) (Option.some (Jvm.ClassFile.FieldType.object "ShutDays$Text"))) ∈ lw_all := lw_g (lw_at lw_m1 195 rfl) rfl
theorem q333 : (Jvm.Cond.classLink "ShutDays$Tokens" (80 : Nat) "ShutDays$Text") ∈ lw_all := lw_g (lw_at lw_m1 196 rfl) rfl
theorem q335 : (Jvm.Cond.methodLinkNest "ShutDays$Tokens" (82 : Nat) ({ cls := "ShutDays$Text", name := "<init>", desc := "()V" } : Jvm.MethodName) "ShutDays") ∈ lw_tbl := lw_at lw_m1 198 rfl
theorem q365 : (Jvm.Cond.fieldLinkNest "ShutDays$Tokens" (86 : Nat) "ShutDays$Text" "earns" "LShutDays$Sum;" "ShutDays") ∈ lw_tbl := lw_at lw_m1 228 rfl
theorem q367 : (Jvm.Cond.fieldLinkNest "ShutDays$Tokens" (90 : Nat) "ShutDays$Text" "loses" "LShutDays$Sum;" "ShutDays") ∈ lw_tbl := lw_at lw_m1 230 rfl
theorem q369 : (Jvm.Cond.fieldLinkNest "ShutDays$Tokens" (93 : Nat) "ShutDays$Text" "lets" "LShutDays$Asked;" "ShutDays") ∈ lw_tbl := lw_at lw_m1 232 rfl
theorem q371 : (Jvm.Cond.fieldLinkNest "ShutDays$Tokens" (97 : Nat) "ShutDays$Text" "clauses" "I" "ShutDays") ∈ lw_tbl := lw_at lw_m1 234 rfl
theorem q373 : (Jvm.Cond.fieldLinkNest "ShutDays$Tokens" (108 : Nat) "ShutDays$Text" "doings" "Ljava/util/ArrayList;" "ShutDays") ∈ lw_tbl := lw_at lw_m1 236 rfl
theorem q386 : (Jvm.Cond.methodLink "ShutDays$Tokens" (74 : Nat) ({ cls := "ShutDays$Tokens", name := "next", desc := "()V" } : Jvm.MethodName)) ∈ lw_all := lw_g (lw_at lw_m2 9 rfl) rfl
theorem q387 : (Jvm.Cond.privateMethod ({ cls := "ShutDays$Tokens", name := "next", desc := "()V" } : Jvm.MethodName)) ∈ lw_tbl := lw_at lw_m2 10 rfl
theorem q388 : (Jvm.Cond.instanceMethod ({ cls := "ShutDays$Tokens", name := "next", desc := "()V" } : Jvm.MethodName)) ∈ lw_all := lw_g (lw_at lw_m2 11 rfl) rfl
theorem q389 : (Jvm.Cond.code ({ cls := "ShutDays$Tokens", name := "next", desc := "()V" } : Jvm.MethodName) prog_16_method_4_code (3 : Nat) (Option.none : Option Jvm.ClassFile.FieldType)) ∈ lw_all := lw_g (lw_at lw_m2 12 rfl) rfl
theorem q390 : (Jvm.Cond.methodLink "ShutDays$Tokens" (28 : Nat) ({ cls := "ShutDays$Tokens", name := "isLetter", desc := "(I)Z" } : Jvm.MethodName)) ∈ lw_all := lw_g (lw_at lw_m2 13 rfl) rfl
theorem q391 : (Jvm.Cond.static ({ cls := "ShutDays$Tokens", name := "isLetter", desc := "(I)Z" } : Jvm.MethodName)) ∈ lw_all := lw_g (lw_at lw_m2 14 rfl) rfl
theorem q392 : (Jvm.Cond.code ({ cls := "ShutDays$Tokens", name := "isLetter", desc := "(I)Z" } : Jvm.MethodName) prog_16_method_2_code (1 : Nat) (Option.some Jvm.ClassFile.FieldType.boolean)) ∈ lw_all := lw_g (lw_at lw_m2 15 rfl) rfl
theorem q393 : (Jvm.Cond.fieldLink "ShutDays$Tokens" (32 : Nat) "ShutDays$Tokens" "WORDS" "[Ljava/lang/String;") ∈ lw_all := lw_g (lw_at lw_m2 16 rfl) rfl
theorem q394 : (Jvm.Cond.laysStatic "ShutDays$Tokens" "WORDS" "[Ljava/lang/String;") ∈ lw_tbl := lw_at lw_m2 17 rfl
theorem q395 : (Jvm.Cond.methodLink "ShutDays$Tokens" (36 : Nat) ({ cls := "ShutDays$Tokens", name := "isWord", desc := "(Ljava/lang/String;)Z" } : Jvm.MethodName)) ∈ lw_all := lw_g (lw_at lw_m2 18 rfl) rfl
theorem q396 : (Jvm.Cond.privateMethod ({ cls := "ShutDays$Tokens", name := "isWord", desc := "(Ljava/lang/String;)Z" } : Jvm.MethodName)) ∈ lw_tbl := lw_at lw_m2 19 rfl
theorem q397 : (Jvm.Cond.instanceMethod ({ cls := "ShutDays$Tokens", name := "isWord", desc := "(Ljava/lang/String;)Z" } : Jvm.MethodName)) ∈ lw_all := lw_g (lw_at lw_m2 20 rfl) rfl
theorem q398 : (Jvm.Cond.code ({ cls := "ShutDays$Tokens", name := "isWord", desc := "(Ljava/lang/String;)Z" } : Jvm.MethodName) prog_16_method_5_code (3 : Nat) (Option.some Jvm.ClassFile.FieldType.boolean)) ∈ lw_all := lw_g (lw_at lw_m2 21 rfl) rfl
theorem q399 : (Jvm.Cond.methodLink "ShutDays$Tokens" (55 : Nat) ({ cls := "java/lang/String", name := "length", desc := "()I" } : Jvm.MethodName)) ∈ lw_all := lw_g (lw_at lw_m2 22 rfl) rfl
theorem q409 : (Jvm.Cond.methodLink "ShutDays$Tokens" (61 : Nat) ({ cls := "java/lang/String", name := "charAt", desc := "(I)C" } : Jvm.MethodName)) ∈ lw_all := lw_g (lw_at lw_m2 32 rfl) rfl
theorem q447 : (Jvm.Cond.methodLink "ShutDays$Tokens" (40 : Nat) ({ cls := "ShutDays$Tokens", name := "isDigit", desc := "(I)Z" } : Jvm.MethodName)) ∈ lw_all := lw_g (lw_at lw_m2 70 rfl) rfl
theorem q448 : (Jvm.Cond.static ({ cls := "ShutDays$Tokens", name := "isDigit", desc := "(I)Z" } : Jvm.MethodName)) ∈ lw_all := lw_g (lw_at lw_m2 71 rfl) rfl
theorem q449 : (Jvm.Cond.code ({ cls := "ShutDays$Tokens", name := "isDigit", desc := "(I)Z" } : Jvm.MethodName) prog_16_method_3_code (1 : Nat) (Option.some Jvm.ClassFile.FieldType.boolean)) ∈ lw_all := lw_g (lw_at lw_m2 72 rfl) rfl
theorem q450 : (Jvm.Cond.constant "ShutDays$Tokens" (46 : Nat) (99999 : Int32)) ∈ lw_all := lw_g (lw_at lw_m2 73 rfl) rfl
theorem q451 : (Jvm.Cond.methodLink "ShutDays$Tokens" (47 : Nat) ({ cls := "java/lang/Math", name := "min", desc := "(II)I" } : Jvm.MethodName)) ∈ lw_all := lw_g (lw_at lw_m2 74 rfl) rfl
theorem q454 : (Jvm.Cond.stringRef "ShutDays$Tokens" (53 : Nat) "<>=#+-*/();") ∈ lw_tbl := lw_at lw_m2 77 rfl
theorem q455 : (Jvm.Cond.methodLink "ShutDays$Tokens" (70 : Nat) ({ cls := "ShutDays$Tokens", name := "wrong", desc := "(I)LShutDays$Wrong;" } : Jvm.MethodName)) ∈ lw_all := lw_g (lw_at lw_m2 78 rfl) rfl
theorem q456 : (Jvm.Cond.privateMethod ({ cls := "ShutDays$Tokens", name := "wrong", desc := "(I)LShutDays$Wrong;" } : Jvm.MethodName)) ∈ lw_tbl := lw_at lw_m2 79 rfl
theorem q457 : (Jvm.Cond.instanceMethod ({ cls := "ShutDays$Tokens", name := "wrong", desc := "(I)LShutDays$Wrong;" } : Jvm.MethodName)) ∈ lw_all := lw_g (lw_at lw_m2 80 rfl) rfl
theorem q458 : (Jvm.Cond.code ({ cls := "ShutDays$Tokens", name := "wrong", desc := "(I)LShutDays$Wrong;" } : Jvm.MethodName) prog_16_method_6_code (2 : Nat) (Option.some (Jvm.ClassFile.FieldType.object "ShutDays$Wrong"))) ∈ lw_all := lw_g (lw_at lw_m2 81 rfl) rfl
theorem q459 : (Jvm.Cond.classLink "ShutDays$Tokens" (65 : Nat) "ShutDays$Wrong") ∈ lw_all := lw_g (lw_at lw_m2 82 rfl) rfl
theorem q496 : (Jvm.Cond.methodLink "ShutDays$Tokens" (67 : Nat) ({ cls := "ShutDays$Wrong", name := "<init>", desc := "(II)V" } : Jvm.MethodName)) ∈ lw_all := lw_g (lw_at lw_m2 119 rfl) rfl
theorem q523 : (Jvm.Cond.methodLink "ShutDays$Tokens" (100 : Nat) ({ cls := "ShutDays$Tokens", name := "sum", desc := "()LShutDays$Sum;" } : Jvm.MethodName)) ∈ lw_all := lw_g (lw_at lw_m2 146 rfl) rfl
theorem q524 : (Jvm.Cond.privateMethod ({ cls := "ShutDays$Tokens", name := "sum", desc := "()LShutDays$Sum;" } : Jvm.MethodName)) ∈ lw_tbl := lw_at lw_m2 147 rfl
theorem q525 : (Jvm.Cond.instanceMethod ({ cls := "ShutDays$Tokens", name := "sum", desc := "()LShutDays$Sum;" } : Jvm.MethodName)) ∈ lw_all := lw_g (lw_at lw_m2 148 rfl) rfl
theorem q526 : (Jvm.Cond.code ({ cls := "ShutDays$Tokens", name := "sum", desc := "()LShutDays$Sum;" } : Jvm.MethodName) prog_16_method_17_code (3 : Nat) (Option.some (Jvm.ClassFile.FieldType.object "ShutDays$Sum"))) ∈ lw_all := lw_g (lw_at lw_m2 149 rfl) rfl
theorem q527 : (Jvm.Cond.classLink "ShutDays$Tokens" (179 : Nat) "ShutDays$Chain") ∈ lw_all := lw_g (lw_at lw_m2 150 rfl) rfl
theorem q529 : (Jvm.Cond.methodLink "ShutDays$Tokens" (181 : Nat) ({ cls := "ShutDays$Tokens", name := "product", desc := "()LShutDays$Sum;" } : Jvm.MethodName)) ∈ lw_all := lw_g (lw_at lw_m2 152 rfl) rfl
theorem q530 : (Jvm.Cond.privateMethod ({ cls := "ShutDays$Tokens", name := "product", desc := "()LShutDays$Sum;" } : Jvm.MethodName)) ∈ lw_tbl := lw_at lw_m2 153 rfl
theorem q531 : (Jvm.Cond.instanceMethod ({ cls := "ShutDays$Tokens", name := "product", desc := "()LShutDays$Sum;" } : Jvm.MethodName)) ∈ lw_all := lw_g (lw_at lw_m2 154 rfl) rfl
theorem q532 : (Jvm.Cond.code ({ cls := "ShutDays$Tokens", name := "product", desc := "()LShutDays$Sum;" } : Jvm.MethodName) prog_16_method_18_code (3 : Nat) (Option.some (Jvm.ClassFile.FieldType.object "ShutDays$Sum"))) ∈ lw_all := lw_g (lw_at lw_m2 155 rfl) rfl
theorem q533 : (Jvm.Cond.methodLink "ShutDays$Tokens" (193 : Nat) ({ cls := "ShutDays$Tokens", name := "one", desc := "()LShutDays$Sum;" } : Jvm.MethodName)) ∈ lw_all := lw_g (lw_at lw_m2 156 rfl) rfl
theorem q534 : (Jvm.Cond.privateMethod ({ cls := "ShutDays$Tokens", name := "one", desc := "()LShutDays$Sum;" } : Jvm.MethodName)) ∈ lw_tbl := lw_at lw_m2 157 rfl
theorem q535 : (Jvm.Cond.instanceMethod ({ cls := "ShutDays$Tokens", name := "one", desc := "()LShutDays$Sum;" } : Jvm.MethodName)) ∈ lw_all := lw_g (lw_at lw_m2 158 rfl) rfl
theorem q536 : (Jvm.Cond.code ({ cls := "ShutDays$Tokens", name := "one", desc := "()LShutDays$Sum;" } : Jvm.MethodName) prog_16_method_22_code (3 : Nat) (Option.some (Jvm.ClassFile.FieldType.object "ShutDays$Sum"))) ∈ lw_all := lw_g (lw_at lw_m2 159 rfl) rfl
theorem q537 : (Jvm.Cond.classLink "ShutDays$Tokens" (199 : Nat) "ShutDays$Plain") ∈ lw_all := lw_g (lw_at lw_m2 160 rfl) rfl
theorem q539 : (Jvm.Cond.methodLink "ShutDays$Tokens" (126 : Nat) ({ cls := "ShutDays$Tokens", name := "number", desc := "(II)I" } : Jvm.MethodName)) ∈ lw_all := lw_g (lw_at lw_m2 162 rfl) rfl
theorem q540 : (Jvm.Cond.privateMethod ({ cls := "ShutDays$Tokens", name := "number", desc := "(II)I" } : Jvm.MethodName)) ∈ lw_tbl := lw_at lw_m2 163 rfl
theorem q541 : (Jvm.Cond.instanceMethod ({ cls := "ShutDays$Tokens", name := "number", desc := "(II)I" } : Jvm.MethodName)) ∈ lw_all := lw_g (lw_at lw_m2 164 rfl) rfl
theorem q542 : (Jvm.Cond.code ({ cls := "ShutDays$Tokens", name := "number", desc := "(II)I" } : Jvm.MethodName) prog_16_method_8_code (4 : Nat) (Option.some Jvm.ClassFile.FieldType.int)) ∈ lw_all := lw_g (lw_at lw_m2 165 rfl) rfl
theorem q543 : (Jvm.Cond.methodLinkNest "ShutDays$Tokens" (201 : Nat) ({ cls := "ShutDays$Plain", name := "<init>", desc := "(I)V" } : Jvm.MethodName) "ShutDays") ∈ lw_tbl := lw_at lw_m2 166 rfl
theorem q554 : (Jvm.Cond.methodLink "ShutDays$Tokens" (203 : Nat) ({ cls := "ShutDays$Tokens", name := "digit", desc := "()LShutDays$Sum;" } : Jvm.MethodName)) ∈ lw_all := lw_g (lw_at lw_m2 177 rfl) rfl
theorem q555 : (Jvm.Cond.privateMethod ({ cls := "ShutDays$Tokens", name := "digit", desc := "()LShutDays$Sum;" } : Jvm.MethodName)) ∈ lw_tbl := lw_at lw_m2 178 rfl
theorem q556 : (Jvm.Cond.instanceMethod ({ cls := "ShutDays$Tokens", name := "digit", desc := "()LShutDays$Sum;" } : Jvm.MethodName)) ∈ lw_all := lw_g (lw_at lw_m2 179 rfl) rfl
theorem q557 : (Jvm.Cond.code ({ cls := "ShutDays$Tokens", name := "digit", desc := "()LShutDays$Sum;" } : Jvm.MethodName) prog_16_method_21_code (3 : Nat) (Option.some (Jvm.ClassFile.FieldType.object "ShutDays$Sum"))) ∈ lw_all := lw_g (lw_at lw_m2 180 rfl) rfl
theorem q558 : (Jvm.Cond.methodLink "ShutDays$Tokens" (162 : Nat) ({ cls := "ShutDays$Tokens", name := "opens", desc := "()V" } : Jvm.MethodName)) ∈ lw_all := lw_g (lw_at lw_m2 181 rfl) rfl
theorem q559 : (Jvm.Cond.privateMethod ({ cls := "ShutDays$Tokens", name := "opens", desc := "()V" } : Jvm.MethodName)) ∈ lw_tbl := lw_at lw_m2 182 rfl
theorem q560 : (Jvm.Cond.instanceMethod ({ cls := "ShutDays$Tokens", name := "opens", desc := "()V" } : Jvm.MethodName)) ∈ lw_all := lw_g (lw_at lw_m2 183 rfl) rfl
theorem q561 : (Jvm.Cond.code ({ cls := "ShutDays$Tokens", name := "opens", desc := "()V" } : Jvm.MethodName) prog_16_method_9_code (1 : Nat) (Option.none : Option Jvm.ClassFile.FieldType)) ∈ lw_all := lw_g (lw_at lw_m2 184 rfl) rfl
theorem q562 : (Jvm.Cond.methodLink "ShutDays$Tokens" (122 : Nat) ({ cls := "ShutDays$Tokens", name := "want", desc := "(I)V" } : Jvm.MethodName)) ∈ lw_all := lw_g (lw_at lw_m2 185 rfl) rfl
theorem q563 : (Jvm.Cond.privateMethod ({ cls := "ShutDays$Tokens", name := "want", desc := "(I)V" } : Jvm.MethodName)) ∈ lw_tbl := lw_at lw_m2 186 rfl
theorem q564 : (Jvm.Cond.instanceMethod ({ cls := "ShutDays$Tokens", name := "want", desc := "(I)V" } : Jvm.MethodName)) ∈ lw_all := lw_g (lw_at lw_m2 187 rfl) rfl
theorem q565 : (Jvm.Cond.code ({ cls := "ShutDays$Tokens", name := "want", desc := "(I)V" } : Jvm.MethodName) prog_16_method_7_code (2 : Nat) (Option.none : Option Jvm.ClassFile.FieldType)) ∈ lw_all := lw_g (lw_at lw_m2 188 rfl) rfl
theorem q566 : (Jvm.Cond.classLink "ShutDays$Tokens" (196 : Nat) "ShutDays$Digit") ∈ lw_all := lw_g (lw_at lw_m2 189 rfl) rfl
theorem q568 : (Jvm.Cond.methodLinkNest "ShutDays$Tokens" (198 : Nat) ({ cls := "ShutDays$Digit", name := "<init>", desc := "(LShutDays$Sum;LShutDays$Sum;)V" } : Jvm.MethodName) "ShutDays") ∈ lw_tbl := lw_at lw_m2 191 rfl
theorem q579 : (Jvm.Cond.methodLink "ShutDays$Tokens" (206 : Nat) ({ cls := "ShutDays$Tokens", name := "nameNow", desc := "()I" } : Jvm.MethodName)) ∈ lw_all := lw_g (lw_at lw_m2 202 rfl) rfl
theorem q580 : (Jvm.Cond.privateMethod ({ cls := "ShutDays$Tokens", name := "nameNow", desc := "()I" } : Jvm.MethodName)) ∈ lw_tbl := lw_at lw_m2 203 rfl
theorem q581 : (Jvm.Cond.instanceMethod ({ cls := "ShutDays$Tokens", name := "nameNow", desc := "()I" } : Jvm.MethodName)) ∈ lw_all := lw_g (lw_at lw_m2 204 rfl) rfl
theorem q582 : (Jvm.Cond.code ({ cls := "ShutDays$Tokens", name := "nameNow", desc := "()I" } : Jvm.MethodName) prog_16_method_19_code (1 : Nat) (Option.some Jvm.ClassFile.FieldType.int)) ∈ lw_all := lw_g (lw_at lw_m2 205 rfl) rfl
theorem q583 : (Jvm.Cond.methodLink "ShutDays$Tokens" (209 : Nat) ({ cls := "ShutDays$Tokens", name := "mayName", desc := "(I)Z" } : Jvm.MethodName)) ∈ lw_all := lw_g (lw_at lw_m2 206 rfl) rfl
theorem q584 : (Jvm.Cond.privateMethod ({ cls := "ShutDays$Tokens", name := "mayName", desc := "(I)Z" } : Jvm.MethodName)) ∈ lw_tbl := lw_at lw_m2 207 rfl
theorem q585 : (Jvm.Cond.instanceMethod ({ cls := "ShutDays$Tokens", name := "mayName", desc := "(I)Z" } : Jvm.MethodName)) ∈ lw_all := lw_g (lw_at lw_m2 208 rfl) rfl
theorem q586 : (Jvm.Cond.code ({ cls := "ShutDays$Tokens", name := "mayName", desc := "(I)Z" } : Jvm.MethodName) prog_16_method_20_code (2 : Nat) (Option.some Jvm.ClassFile.FieldType.boolean)) ∈ lw_all := lw_g (lw_at lw_m2 209 rfl) rfl
theorem q587 : (Jvm.Cond.classLink "ShutDays$Tokens" (212 : Nat) "ShutDays$Name") ∈ lw_all := lw_g (lw_at lw_m2 210 rfl) rfl
theorem q589 : (Jvm.Cond.methodLinkNest "ShutDays$Tokens" (214 : Nat) ({ cls := "ShutDays$Name", name := "<init>", desc := "(I)V" } : Jvm.MethodName) "ShutDays") ∈ lw_tbl := lw_at lw_m2 212 rfl
theorem q597 : (Jvm.Cond.classLink "ShutDays$Tokens" (215 : Nat) "ShutDays$Minus") ∈ lw_all := lw_g (lw_at lw_m2 220 rfl) rfl
theorem q599 : (Jvm.Cond.methodLinkNest "ShutDays$Tokens" (217 : Nat) ({ cls := "ShutDays$Minus", name := "<init>", desc := "(LShutDays$Sum;)V" } : Jvm.MethodName) "ShutDays") ∈ lw_tbl := lw_at lw_m2 222 rfl
theorem q607 : (Jvm.Cond.methodLink "ShutDays$Tokens" (184 : Nat) ({ cls := "ShutDays$Chain", name := "<init>", desc := "(LShutDays$Sum;)V" } : Jvm.MethodName)) ∈ lw_all := lw_g (lw_at lw_m2 230 rfl) rfl
theorem q623 : (Jvm.Cond.methodLink "ShutDays$Tokens" (187 : Nat) ({ cls := "ShutDays$Chain", name := "add", desc := "(ILShutDays$Sum;)V" } : Jvm.MethodName)) ∈ lw_all := lw_g (lw_at lw_m3 6 rfl) rfl
theorem q692 : (Jvm.Cond.selects "ShutDays$Tokens" ({ cls := "java/lang/Object", name := "getClass", desc := "()Ljava/lang/Class;" } : Jvm.MethodName) ({ cls := "java/lang/Object", name := "getClass", desc := "()Ljava/lang/Class;" } : Jvm.MethodName)) ∈ lw_all := lw_g (lw_at lw_m3 75 rfl) rfl
theorem q708 : (Jvm.Cond.methodLink "ShutDays$Tokens" (190 : Nat) ({ cls := "ShutDays$Chain", name := "itself", desc := "()LShutDays$Sum;" } : Jvm.MethodName)) ∈ lw_all := lw_g (lw_at lw_m3 91 rfl) rfl
theorem q716 : (Jvm.Cond.methodLink "ShutDays$Tokens" (104 : Nat) ({ cls := "ShutDays$Tokens", name := "either", desc := "()LShutDays$Asked;" } : Jvm.MethodName)) ∈ lw_all := lw_g (lw_at lw_m3 99 rfl) rfl
theorem q717 : (Jvm.Cond.privateMethod ({ cls := "ShutDays$Tokens", name := "either", desc := "()LShutDays$Asked;" } : Jvm.MethodName)) ∈ lw_tbl := lw_at lw_m3 100 rfl
theorem q718 : (Jvm.Cond.instanceMethod ({ cls := "ShutDays$Tokens", name := "either", desc := "()LShutDays$Asked;" } : Jvm.MethodName)) ∈ lw_all := lw_g (lw_at lw_m3 101 rfl) rfl
theorem q719 : (Jvm.Cond.code ({ cls := "ShutDays$Tokens", name := "either", desc := "()LShutDays$Asked;" } : Jvm.MethodName) prog_16_method_13_code (2 : Nat) (Option.some (Jvm.ClassFile.FieldType.object "ShutDays$Asked"))) ∈ lw_all := lw_g (lw_at lw_m3 102 rfl) rfl
theorem q720 : (Jvm.Cond.classLink "ShutDays$Tokens" (117 : Nat) "java/util/ArrayList") ∈ lw_all := lw_g (lw_at lw_m3 103 rfl) rfl
theorem q721 : (Jvm.Cond.methodLink "ShutDays$Tokens" (137 : Nat) ({ cls := "java/util/ArrayList", name := "<init>", desc := "()V" } : Jvm.MethodName)) ∈ lw_all := lw_g (lw_at lw_m3 104 rfl) rfl
theorem q722 : (Jvm.Cond.methodLink "ShutDays$Tokens" (138 : Nat) ({ cls := "ShutDays$Tokens", name := "both", desc := "()LShutDays$Asked;" } : Jvm.MethodName)) ∈ lw_all := lw_g (lw_at lw_m3 105 rfl) rfl
theorem q723 : (Jvm.Cond.privateMethod ({ cls := "ShutDays$Tokens", name := "both", desc := "()LShutDays$Asked;" } : Jvm.MethodName)) ∈ lw_tbl := lw_at lw_m3 106 rfl
theorem q724 : (Jvm.Cond.instanceMethod ({ cls := "ShutDays$Tokens", name := "both", desc := "()LShutDays$Asked;" } : Jvm.MethodName)) ∈ lw_all := lw_g (lw_at lw_m3 107 rfl) rfl
theorem q725 : (Jvm.Cond.code ({ cls := "ShutDays$Tokens", name := "both", desc := "()LShutDays$Asked;" } : Jvm.MethodName) prog_16_method_14_code (2 : Nat) (Option.some (Jvm.ClassFile.FieldType.object "ShutDays$Asked"))) ∈ lw_all := lw_g (lw_at lw_m3 108 rfl) rfl
theorem q726 : (Jvm.Cond.methodLink "ShutDays$Tokens" (154 : Nat) ({ cls := "ShutDays$Tokens", name := "ask", desc := "()LShutDays$Asked;" } : Jvm.MethodName)) ∈ lw_all := lw_g (lw_at lw_m3 109 rfl) rfl
theorem q727 : (Jvm.Cond.privateMethod ({ cls := "ShutDays$Tokens", name := "ask", desc := "()LShutDays$Asked;" } : Jvm.MethodName)) ∈ lw_tbl := lw_at lw_m3 110 rfl
theorem q728 : (Jvm.Cond.instanceMethod ({ cls := "ShutDays$Tokens", name := "ask", desc := "()LShutDays$Asked;" } : Jvm.MethodName)) ∈ lw_all := lw_g (lw_at lw_m3 111 rfl) rfl
theorem q729 : (Jvm.Cond.code ({ cls := "ShutDays$Tokens", name := "ask", desc := "()LShutDays$Asked;" } : Jvm.MethodName) prog_16_method_16_code (3 : Nat) (Option.some (Jvm.ClassFile.FieldType.object "ShutDays$Asked"))) ∈ lw_all := lw_g (lw_at lw_m3 112 rfl) rfl
theorem q730 : (Jvm.Cond.classLink "ShutDays$Tokens" (165 : Nat) "ShutDays$Not") ∈ lw_all := lw_g (lw_at lw_m3 113 rfl) rfl
theorem q732 : (Jvm.Cond.methodLinkNest "ShutDays$Tokens" (167 : Nat) ({ cls := "ShutDays$Not", name := "<init>", desc := "(LShutDays$Asked;)V" } : Jvm.MethodName) "ShutDays") ∈ lw_tbl := lw_at lw_m3 115 rfl
theorem q740 : (Jvm.Cond.methodLink "ShutDays$Tokens" (170 : Nat) ({ cls := "ShutDays$Tokens", name := "divides", desc := "(LShutDays$Sum;)LShutDays$Asked;" } : Jvm.MethodName)) ∈ lw_all := lw_g (lw_at lw_m3 123 rfl) rfl
theorem q741 : (Jvm.Cond.privateMethod ({ cls := "ShutDays$Tokens", name := "divides", desc := "(LShutDays$Sum;)LShutDays$Asked;" } : Jvm.MethodName)) ∈ lw_tbl := lw_at lw_m3 124 rfl
theorem q742 : (Jvm.Cond.instanceMethod ({ cls := "ShutDays$Tokens", name := "divides", desc := "(LShutDays$Sum;)LShutDays$Asked;" } : Jvm.MethodName)) ∈ lw_all := lw_g (lw_at lw_m3 125 rfl) rfl
theorem q743 : (Jvm.Cond.code ({ cls := "ShutDays$Tokens", name := "divides", desc := "(LShutDays$Sum;)LShutDays$Asked;" } : Jvm.MethodName) prog_16_method_15_code (2 : Nat) (Option.some (Jvm.ClassFile.FieldType.object "ShutDays$Asked"))) ∈ lw_all := lw_g (lw_at lw_m3 126 rfl) rfl
theorem q744 : (Jvm.Cond.classLink "ShutDays$Tokens" (157 : Nat) "ShutDays$Divides") ∈ lw_all := lw_g (lw_at lw_m3 127 rfl) rfl
theorem q746 : (Jvm.Cond.methodLinkNest "ShutDays$Tokens" (159 : Nat) ({ cls := "ShutDays$Divides", name := "<init>", desc := "(LShutDays$Sum;LShutDays$Sum;)V" } : Jvm.MethodName) "ShutDays") ∈ lw_tbl := lw_at lw_m3 129 rfl
theorem q757 : (Jvm.Cond.classLink "ShutDays$Tokens" (174 : Nat) "ShutDays$Compared") ∈ lw_all := lw_g (lw_at lw_m3 140 rfl) rfl
theorem q759 : (Jvm.Cond.methodLinkNest "ShutDays$Tokens" (176 : Nat) ({ cls := "ShutDays$Compared", name := "<init>", desc := "(ILShutDays$Sum;LShutDays$Sum;)V" } : Jvm.MethodName) "ShutDays") ∈ lw_tbl := lw_at lw_m3 142 rfl
theorem q773 : (Jvm.Cond.methodLink "ShutDays$Tokens" (116 : Nat) ({ cls := "java/util/ArrayList", name := "add", desc := "(Ljava/lang/Object;)Z" } : Jvm.MethodName)) ∈ lw_all := lw_g (lw_at lw_m3 156 rfl) rfl
theorem q774 : (Jvm.Cond.methodLink "ShutDays$Tokens" (141 : Nat) ({ cls := "java/util/ArrayList", name := "size", desc := "()I" } : Jvm.MethodName)) ∈ lw_all := lw_g (lw_at lw_m3 157 rfl) rfl
theorem q778 : (Jvm.Cond.methodLink "ShutDays$Tokens" (143 : Nat) ({ cls := "java/util/ArrayList", name := "get", desc := "(I)Ljava/lang/Object;" } : Jvm.MethodName)) ∈ lw_all := lw_g (lw_at lw_m3 161 rfl) rfl
theorem q790 : (Jvm.Cond.classLink "ShutDays$Tokens" (147 : Nat) "ShutDays$Asked") ∈ lw_all := lw_g (lw_at lw_m3 173 rfl) rfl
theorem q791 : (Jvm.Cond.classLink "ShutDays$Tokens" (149 : Nat) "ShutDays$All") ∈ lw_all := lw_g (lw_at lw_m3 174 rfl) rfl
theorem q793 : (Jvm.Cond.methodLinkNest "ShutDays$Tokens" (151 : Nat) ({ cls := "ShutDays$All", name := "<init>", desc := "(ZLjava/util/ArrayList;)V" } : Jvm.MethodName) "ShutDays") ∈ lw_tbl := lw_at lw_m3 176 rfl
theorem q804 : (Jvm.Cond.methodLink "ShutDays$Tokens" (112 : Nat) ({ cls := "ShutDays$Tokens", name := "doing", desc := "(I)LShutDays$Doing;" } : Jvm.MethodName)) ∈ lw_all := lw_g (lw_at lw_m3 187 rfl) rfl
theorem q805 : (Jvm.Cond.privateMethod ({ cls := "ShutDays$Tokens", name := "doing", desc := "(I)LShutDays$Doing;" } : Jvm.MethodName)) ∈ lw_tbl := lw_at lw_m3 188 rfl
theorem q806 : (Jvm.Cond.instanceMethod ({ cls := "ShutDays$Tokens", name := "doing", desc := "(I)LShutDays$Doing;" } : Jvm.MethodName)) ∈ lw_all := lw_g (lw_at lw_m3 189 rfl) rfl
theorem q807 : (Jvm.Cond.code ({ cls := "ShutDays$Tokens", name := "doing", desc := "(I)LShutDays$Doing;" } : Jvm.MethodName) prog_16_method_12_code (4 : Nat) (Option.some (Jvm.ClassFile.FieldType.object "ShutDays$Doing"))) ∈ lw_all := lw_g (lw_at lw_m3 190 rfl) rfl
theorem q808 : (Jvm.Cond.methodLink "ShutDays$Tokens" (128 : Nat) ({ cls := "ShutDays$Tokens", name := "behind", desc := "(III)I" } : Jvm.MethodName)) ∈ lw_all := lw_g (lw_at lw_m3 191 rfl) rfl
theorem q809 : (Jvm.Cond.privateMethod ({ cls := "ShutDays$Tokens", name := "behind", desc := "(III)I" } : Jvm.MethodName)) ∈ lw_tbl := lw_at lw_m3 192 rfl
theorem q810 : (Jvm.Cond.instanceMethod ({ cls := "ShutDays$Tokens", name := "behind", desc := "(III)I" } : Jvm.MethodName)) ∈ lw_all := lw_g (lw_at lw_m3 193 rfl) rfl
theorem q811 : (Jvm.Cond.code ({ cls := "ShutDays$Tokens", name := "behind", desc := "(III)I" } : Jvm.MethodName) prog_16_method_11_code (4 : Nat) (Option.some Jvm.ClassFile.FieldType.int)) ∈ lw_all := lw_g (lw_at lw_m3 194 rfl) rfl
theorem q812 : (Jvm.Cond.classLink "ShutDays$Tokens" (132 : Nat) "ShutDays$Doing") ∈ lw_all := lw_g (lw_at lw_m3 195 rfl) rfl
theorem q814 : (Jvm.Cond.methodLinkNest "ShutDays$Tokens" (134 : Nat) ({ cls := "ShutDays$Doing", name := "<init>", desc := "(IIIII)V" } : Jvm.MethodName) "ShutDays") ∈ lw_tbl := lw_at lw_m3 197 rfl
theorem q2032 : (Jvm.Cond.castable "ShutDays$Tokens" "java/lang/Object") ∈ lw_tbl := lw_at lw_m8 215 rfl
theorem q2060 : (Jvm.Cond.stringRef "ShutDays$Tokens" (218 : Nat) "earns") ∈ lw_tbl := lw_at lw_m9 3 rfl
theorem q2061 : (Jvm.Cond.stringRef "ShutDays$Tokens" (219 : Nat) "loses") ∈ lw_tbl := lw_at lw_m9 4 rfl
theorem q2062 : (Jvm.Cond.stringRef "ShutDays$Tokens" (220 : Nat) "lets") ∈ lw_tbl := lw_at lw_m9 5 rfl
theorem q2063 : (Jvm.Cond.stringRef "ShutDays$Tokens" (221 : Nat) "house") ∈ lw_tbl := lw_at lw_m9 6 rfl
theorem q2064 : (Jvm.Cond.stringRef "ShutDays$Tokens" (223 : Nat) "knock") ∈ lw_tbl := lw_at lw_m9 7 rfl
theorem q2065 : (Jvm.Cond.stringRef "ShutDays$Tokens" (225 : Nat) "marry") ∈ lw_tbl := lw_at lw_m9 8 rfl
theorem q2066 : (Jvm.Cond.stringRef "ShutDays$Tokens" (227 : Nat) "hat") ∈ lw_tbl := lw_at lw_m9 9 rfl
theorem q2067 : (Jvm.Cond.stringRef "ShutDays$Tokens" (229 : Nat) "forget") ∈ lw_tbl := lw_at lw_m9 10 rfl
theorem q2068 : (Jvm.Cond.stringRef "ShutDays$Tokens" (231 : Nat) "day") ∈ lw_tbl := lw_at lw_m9 11 rfl
theorem q2069 : (Jvm.Cond.stringRef "ShutDays$Tokens" (233 : Nat) "purse") ∈ lw_tbl := lw_at lw_m9 12 rfl
theorem q2070 : (Jvm.Cond.stringRef "ShutDays$Tokens" (235 : Nat) "friends") ∈ lw_tbl := lw_at lw_m9 13 rfl
theorem q2071 : (Jvm.Cond.stringRef "ShutDays$Tokens" (237 : Nat) "to") ∈ lw_tbl := lw_at lw_m9 14 rfl
theorem q2072 : (Jvm.Cond.stringRef "ShutDays$Tokens" (239 : Nat) "of") ∈ lw_tbl := lw_at lw_m9 15 rfl
theorem q2073 : (Jvm.Cond.stringRef "ShutDays$Tokens" (241 : Nat) "or") ∈ lw_tbl := lw_at lw_m9 16 rfl
theorem q2074 : (Jvm.Cond.stringRef "ShutDays$Tokens" (243 : Nat) "and") ∈ lw_tbl := lw_at lw_m9 17 rfl
theorem q2075 : (Jvm.Cond.stringRef "ShutDays$Tokens" (245 : Nat) "not") ∈ lw_tbl := lw_at lw_m9 18 rfl
theorem q2076 : (Jvm.Cond.stringRef "ShutDays$Tokens" (247 : Nat) "divides") ∈ lw_tbl := lw_at lw_m9 19 rfl
theorem q2077 : (Jvm.Cond.stringRef "ShutDays$Tokens" (248 : Nat) "digit") ∈ lw_tbl := lw_at lw_m9 20 rfl
theorem q2078 : (Jvm.Cond.stringRef "ShutDays$Tokens" (249 : Nat) "date") ∈ lw_tbl := lw_at lw_m9 21 rfl
theorem q2079 : (Jvm.Cond.stringRef "ShutDays$Tokens" (251 : Nat) "days") ∈ lw_tbl := lw_at lw_m9 22 rfl
theorem q2080 : (Jvm.Cond.stringRef "ShutDays$Tokens" (253 : Nat) "open") ∈ lw_tbl := lw_at lw_m9 23 rfl
theorem q2081 : (Jvm.Cond.stringRef "ShutDays$Tokens" (254 : Nat) "beside") ∈ lw_tbl := lw_at lw_m9 24 rfl
theorem in_X3 : ∀ w ∈ wsX30, w ∈ lw_all := lw_in wsX30 [312, 314, 316, 318, 320, 322, 324, 326] (by decide +kernel) (by decide +kernel)
/-! ShutDays$Text -/
set_option maxRecDepth 100000
def RX4 : String := "ShutDays$Text"
def TX4 : u_T := fun k => match k with
  | 0 => ("ShutDays$Text", "earns", "LShutDays$Sum;", false)
  | 1 => ("ShutDays$Text", "loses", "LShutDays$Sum;", false)
  | 2 => ("ShutDays$Text", "lets", "LShutDays$Asked;", false)
  | 3 => ("ShutDays$Text", "clauses", "I", false)
  | _ => ("ShutDays$Text", "doings", "Ljava/util/ArrayList;", true)
def tyX4 : Nat → FieldType := fun k => match k with
  | 0 => .object "ShutDays$Sum"
  | 1 => .object "ShutDays$Sum"
  | 2 => .object "ShutDays$Asked"
  | 3 => .int
  | _ => .object "java/util/ArrayList"
abbrev wsX40 : List Cond := u_ws RX4 TX4 5
theorem nmX4 : ∀ a, a < 5 → ∀ b, b < 5 → a ≠ b → (TX4 a).2.1 ≠ (TX4 b).2.1 := by decide +kernel
theorem tyX4_ok : ∀ k, k < 5 → parseFieldDescriptor (TX4 k).2.2.1 = some (tyX4 k) := by decide +kernel
abbrev cX4_init : ByteArray := prog_15_method_1_code
def yX4_init : MethodName := ⟨RX4, "<init>", "()V"⟩
def dkwX4_init_0 : List UInt8 := [42, 183, 0, 1, 42, 187, 0, 7, 89, 183, 0, 9, 181, 0, 10, 177]
abbrev dktX4_init_0 : List UInt8 := dkwX4_init_0 ++ []
theorem dksX4_init_0 : cX4_init.data.toList.drop 0 = dktX4_init_0 := by decide +kernel
theorem dX4_init_0 : decode cX4_init 0 = .ok (.aload_n 0, 1) := dk_42 (dk_at dksX4_init_0 0 rfl rfl)
theorem dX4_init_1 : decode cX4_init 1 = .ok (.invokespecial 1, 3) := dk_183 0 1 (dk_at dksX4_init_0 1 rfl rfl)
theorem dX4_init_4 : decode cX4_init 4 = .ok (.aload_n 0, 1) := dk_42 (dk_at dksX4_init_0 4 rfl rfl)
theorem dX4_init_5 : decode cX4_init 5 = .ok (.new 7, 3) := dk_187 0 7 (dk_at dksX4_init_0 5 rfl rfl)
theorem dX4_init_8 : decode cX4_init 8 = .ok (.dup, 1) := dk_89 (dk_at dksX4_init_0 8 rfl rfl)
theorem dX4_init_9 : decode cX4_init 9 = .ok (.invokespecial 9, 3) := dk_183 0 9 (dk_at dksX4_init_0 9 rfl rfl)
theorem dX4_init_12 : decode cX4_init 12 = .ok (.putfield 10, 3) := dk_181 0 10 (dk_at dksX4_init_0 12 rfl rfl)
theorem dX4_init_15 : decode cX4_init 15 = .ok (.return_, 1) := dk_177 (dk_at dksX4_init_0 15 rfl rfl)
theorem q143 : (Jvm.Cond.initialized "ShutDays$Text") ∈ lw_all := lw_g (lw_at lw_m1 6 rfl) rfl
theorem q334 : (Jvm.Cond.instantiable "ShutDays$Text" (5 : Nat)) ∈ lw_all := lw_g (lw_at lw_m1 197 rfl) rfl
theorem q336 : (Jvm.Cond.instanceMethod ({ cls := "ShutDays$Text", name := "<init>", desc := "()V" } : Jvm.MethodName)) ∈ lw_all := lw_g (lw_at lw_m1 199 rfl) rfl
theorem q337 : (Jvm.Cond.code ({ cls := "ShutDays$Text", name := "<init>", desc := "()V" } : Jvm.MethodName) prog_15_method_1_code (1 : Nat) (Option.none : Option Jvm.ClassFile.FieldType)) ∈ lw_all := lw_g (lw_at lw_m1 200 rfl) rfl
theorem q338 : (Jvm.Cond.methodLink "ShutDays$Text" (1 : Nat) ({ cls := "java/lang/Object", name := "<init>", desc := "()V" } : Jvm.MethodName)) ∈ lw_all := lw_g (lw_at lw_m1 201 rfl) rfl
theorem q339 : (Jvm.Cond.classLink "ShutDays$Text" (7 : Nat) "java/util/ArrayList") ∈ lw_all := lw_g (lw_at lw_m1 202 rfl) rfl
theorem q341 : (Jvm.Cond.methodLink "ShutDays$Text" (9 : Nat) ({ cls := "java/util/ArrayList", name := "<init>", desc := "()V" } : Jvm.MethodName)) ∈ lw_all := lw_g (lw_at lw_m1 204 rfl) rfl
theorem q372 : (Jvm.Cond.fieldLink "ShutDays$Text" (10 : Nat) "ShutDays$Text" "doings" "Ljava/util/ArrayList;") ∈ lw_all := lw_g (lw_at lw_m1 235 rfl) rfl
theorem q375 : (Jvm.Cond.lays "ShutDays$Text" "ShutDays$Text" "earns" "LShutDays$Sum;") ∈ lw_all := lw_g (lw_at lw_m1 238 rfl) rfl
theorem q376 : (Jvm.Cond.soleField "ShutDays$Text" "earns") ∈ lw_all := lw_g (lw_at lw_m1 239 rfl) rfl
theorem q377 : (Jvm.Cond.lays "ShutDays$Text" "ShutDays$Text" "loses" "LShutDays$Sum;") ∈ lw_all := lw_g (lw_at lw_m2 0 rfl) rfl
theorem q378 : (Jvm.Cond.soleField "ShutDays$Text" "loses") ∈ lw_all := lw_g (lw_at lw_m2 1 rfl) rfl
theorem q379 : (Jvm.Cond.lays "ShutDays$Text" "ShutDays$Text" "lets" "LShutDays$Asked;") ∈ lw_all := lw_g (lw_at lw_m2 2 rfl) rfl
theorem q380 : (Jvm.Cond.soleField "ShutDays$Text" "lets") ∈ lw_all := lw_g (lw_at lw_m2 3 rfl) rfl
theorem q381 : (Jvm.Cond.lays "ShutDays$Text" "ShutDays$Text" "clauses" "I") ∈ lw_all := lw_g (lw_at lw_m2 4 rfl) rfl
theorem q382 : (Jvm.Cond.soleField "ShutDays$Text" "clauses") ∈ lw_all := lw_g (lw_at lw_m2 5 rfl) rfl
theorem q383 : (Jvm.Cond.laysFinal "ShutDays$Text" "ShutDays$Text" "doings" "Ljava/util/ArrayList;") ∈ lw_all := lw_g (lw_at lw_m2 6 rfl) rfl
theorem q384 : (Jvm.Cond.soleField "ShutDays$Text" "doings") ∈ lw_all := lw_g (lw_at lw_m2 7 rfl) rfl
theorem q385 : (Jvm.Cond.superclass "ShutDays$Text" "java/lang/Object") ∈ lw_all := lw_g (lw_at lw_m2 8 rfl) rfl
theorem q691 : (Jvm.Cond.selects "ShutDays$Text" ({ cls := "java/lang/Object", name := "getClass", desc := "()Ljava/lang/Class;" } : Jvm.MethodName) ({ cls := "java/lang/Object", name := "getClass", desc := "()Ljava/lang/Class;" } : Jvm.MethodName)) ∈ lw_all := lw_g (lw_at lw_m3 74 rfl) rfl
theorem q2027 : (Jvm.Cond.castable "ShutDays$Text" "java/lang/Object") ∈ lw_tbl := lw_at lw_m8 210 rfl
theorem in_X4 : ∀ w ∈ wsX40, w ∈ lw_all := lw_in wsX40 [375, 377, 379, 381, 383] (by decide +kernel) (by decide +kernel)
/-! ShutDays$Wrong -/
set_option maxRecDepth 100000
def RX5 : String := "ShutDays$Wrong"
def TX5 : u_T := fun k => match k with
  | 0 => ("java/lang/Throwable", "cause", "Ljava/lang/Throwable;", false)
  | 1 => ("java/lang/Throwable", "stackTrace", "[Ljava/lang/StackTraceElement;", false)
  | 2 => ("java/lang/Throwable", "suppressedExceptions", "Ljava/util/List;", false)
  | 3 => ("java/lang/Throwable", "detailMessage", "Ljava/lang/String;", false)
  | 4 => ("java/lang/Throwable", "backtrace", "Ljava/lang/Object;", false)
  | 5 => ("java/lang/Throwable", "depth", "I", false)
  | 6 => ("ShutDays$Wrong", "fault", "I", true)
  | _ => ("ShutDays$Wrong", "place", "I", true)
def tyX5 : Nat → FieldType := fun k => match k with
  | 0 => .object "java/lang/Throwable"
  | 1 => .array (.object "java/lang/StackTraceElement")
  | 2 => .object "java/util/List"
  | 3 => .object "java/lang/String"
  | 4 => .object "java/lang/Object"
  | 5 => .int
  | 6 => .int
  | _ => .int
abbrev wsX50 : List Cond := u_ws RX5 TX5 8
theorem nmX5 : ∀ a, a < 8 → ∀ b, b < 8 → a ≠ b → (TX5 a).2.1 ≠ (TX5 b).2.1 := by decide +kernel
theorem tyX5_ok : ∀ k, k < 8 → parseFieldDescriptor (TX5 k).2.2.1 = some (tyX5 k) := by decide +kernel
abbrev cX5_init : ByteArray := prog_17_method_1_code
def yX5_init : MethodName := ⟨RX5, "<init>", "(II)V"⟩
def dkwX5_init_0 : List UInt8 := [42, 183, 0, 1, 42, 27, 181, 0, 7, 42, 28, 181, 0, 13, 177]
abbrev dktX5_init_0 : List UInt8 := dkwX5_init_0 ++ []
theorem dksX5_init_0 : cX5_init.data.toList.drop 0 = dktX5_init_0 := by decide +kernel
theorem dX5_init_0 : decode cX5_init 0 = .ok (.aload_n 0, 1) := dk_42 (dk_at dksX5_init_0 0 rfl rfl)
theorem dX5_init_1 : decode cX5_init 1 = .ok (.invokespecial 1, 3) := dk_183 0 1 (dk_at dksX5_init_0 1 rfl rfl)
theorem dX5_init_4 : decode cX5_init 4 = .ok (.aload_n 0, 1) := dk_42 (dk_at dksX5_init_0 4 rfl rfl)
theorem dX5_init_5 : decode cX5_init 5 = .ok (.iload_n 1, 1) := dk_27 (dk_at dksX5_init_0 5 rfl rfl)
theorem dX5_init_6 : decode cX5_init 6 = .ok (.putfield 7, 3) := dk_181 0 7 (dk_at dksX5_init_0 6 rfl rfl)
theorem dX5_init_9 : decode cX5_init 9 = .ok (.aload_n 0, 1) := dk_42 (dk_at dksX5_init_0 9 rfl rfl)
theorem dX5_init_10 : decode cX5_init 10 = .ok (.iload_n 2, 1) := dk_28 (dk_at dksX5_init_0 10 rfl rfl)
theorem dX5_init_11 : decode cX5_init 11 = .ok (.putfield 13, 3) := dk_181 0 13 (dk_at dksX5_init_0 11 rfl rfl)
theorem dX5_init_14 : decode cX5_init 14 = .ok (.return_, 1) := dk_177 (dk_at dksX5_init_0 14 rfl rfl)
theorem q154 : (Jvm.Cond.initialized "ShutDays$Wrong") ∈ lw_all := lw_g (lw_at lw_m1 17 rfl) rfl
theorem q460 : (Jvm.Cond.instantiable "ShutDays$Wrong" (8 : Nat)) ∈ lw_all := lw_g (lw_at lw_m2 83 rfl) rfl
theorem q461 : (Jvm.Cond.castable "ShutDays$Wrong" "ShutDays$Wrong") ∈ lw_tbl := lw_at lw_m2 84 rfl
theorem q466 : (Jvm.Cond.selects "ShutDays$Wrong" ({ cls := "java/lang/Throwable", name := "fillInStackTrace", desc := "(I)Ljava/lang/Throwable;" } : Jvm.MethodName) ({ cls := "java/lang/Throwable", name := "fillInStackTrace", desc := "(I)Ljava/lang/Throwable;" } : Jvm.MethodName)) ∈ lw_all := lw_g (lw_at lw_m2 89 rfl) rfl
theorem q467 : (Jvm.Cond.selects "ShutDays$Wrong" ({ cls := "java/lang/Throwable", name := "fillInStackTrace", desc := "()Ljava/lang/Throwable;" } : Jvm.MethodName) ({ cls := "java/lang/Throwable", name := "fillInStackTrace", desc := "()Ljava/lang/Throwable;" } : Jvm.MethodName)) ∈ lw_all := lw_g (lw_at lw_m2 90 rfl) rfl
theorem q468 : (Jvm.Cond.lays "ShutDays$Wrong" "java/lang/Throwable" "cause" "Ljava/lang/Throwable;") ∈ lw_all := lw_g (lw_at lw_m2 91 rfl) rfl
theorem q470 : (Jvm.Cond.lays "ShutDays$Wrong" "java/lang/Throwable" "stackTrace" "[Ljava/lang/StackTraceElement;") ∈ lw_all := lw_g (lw_at lw_m2 93 rfl) rfl
theorem q472 : (Jvm.Cond.lays "ShutDays$Wrong" "java/lang/Throwable" "suppressedExceptions" "Ljava/util/List;") ∈ lw_all := lw_g (lw_at lw_m2 95 rfl) rfl
theorem q474 : (Jvm.Cond.lays "ShutDays$Wrong" "java/lang/Throwable" "detailMessage" "Ljava/lang/String;") ∈ lw_all := lw_g (lw_at lw_m2 97 rfl) rfl
theorem q476 : (Jvm.Cond.lays "ShutDays$Wrong" "java/lang/Throwable" "backtrace" "Ljava/lang/Object;") ∈ lw_all := lw_g (lw_at lw_m2 99 rfl) rfl
theorem q497 : (Jvm.Cond.instanceMethod ({ cls := "ShutDays$Wrong", name := "<init>", desc := "(II)V" } : Jvm.MethodName)) ∈ lw_all := lw_g (lw_at lw_m2 120 rfl) rfl
theorem q498 : (Jvm.Cond.code ({ cls := "ShutDays$Wrong", name := "<init>", desc := "(II)V" } : Jvm.MethodName) prog_17_method_1_code (3 : Nat) (Option.none : Option Jvm.ClassFile.FieldType)) ∈ lw_all := lw_g (lw_at lw_m2 121 rfl) rfl
theorem q499 : (Jvm.Cond.methodLink "ShutDays$Wrong" (1 : Nat) ({ cls := "java/lang/Exception", name := "<init>", desc := "()V" } : Jvm.MethodName)) ∈ lw_all := lw_g (lw_at lw_m2 122 rfl) rfl
theorem q503 : (Jvm.Cond.fieldLink "ShutDays$Wrong" (7 : Nat) "ShutDays$Wrong" "fault" "I") ∈ lw_all := lw_g (lw_at lw_m2 126 rfl) rfl
theorem q505 : (Jvm.Cond.fieldLink "ShutDays$Wrong" (13 : Nat) "ShutDays$Wrong" "place" "I") ∈ lw_all := lw_g (lw_at lw_m2 128 rfl) rfl
theorem q511 : (Jvm.Cond.laysFinal "ShutDays$Wrong" "ShutDays$Wrong" "fault" "I") ∈ lw_all := lw_g (lw_at lw_m2 134 rfl) rfl
theorem q512 : (Jvm.Cond.soleField "ShutDays$Wrong" "fault") ∈ lw_all := lw_g (lw_at lw_m2 135 rfl) rfl
theorem q513 : (Jvm.Cond.laysFinal "ShutDays$Wrong" "ShutDays$Wrong" "place" "I") ∈ lw_all := lw_g (lw_at lw_m2 136 rfl) rfl
theorem q514 : (Jvm.Cond.soleField "ShutDays$Wrong" "place") ∈ lw_all := lw_g (lw_at lw_m2 137 rfl) rfl
theorem q519 : (Jvm.Cond.lays "ShutDays$Wrong" "java/lang/Throwable" "depth" "I") ∈ lw_all := lw_g (lw_at lw_m2 142 rfl) rfl
theorem q522 : (Jvm.Cond.superclass "ShutDays$Wrong" "java/lang/Exception") ∈ lw_all := lw_g (lw_at lw_m2 145 rfl) rfl
theorem q693 : (Jvm.Cond.selects "ShutDays$Wrong" ({ cls := "java/lang/Object", name := "getClass", desc := "()Ljava/lang/Class;" } : Jvm.MethodName) ({ cls := "java/lang/Object", name := "getClass", desc := "()Ljava/lang/Class;" } : Jvm.MethodName)) ∈ lw_all := lw_g (lw_at lw_m3 76 rfl) rfl
theorem q2034 : (Jvm.Cond.castable "ShutDays$Wrong" "java/lang/Object") ∈ lw_tbl := lw_at lw_m8 217 rfl
theorem in_X5 : ∀ w ∈ wsX50, w ∈ lw_all := lw_in wsX50 [468, 470, 472, 474, 476, 519, 511, 513] (by decide +kernel) (by decide +kernel)
/-! ShutDays$Chain -/
set_option maxRecDepth 100000
def RX6 : String := "ShutDays$Chain"
def TX6 : u_T := fun k => match k with
  | 0 => ("ShutDays$Chain", "first", "LShutDays$Sum;", true)
  | 1 => ("ShutDays$Chain", "more", "Ljava/util/ArrayList;", true)
  | _ => ("ShutDays$Chain", "signs", "Ljava/util/ArrayList;", true)
def tyX6 : Nat → FieldType := fun k => match k with
  | 0 => .object "ShutDays$Sum"
  | 1 => .object "java/util/ArrayList"
  | _ => .object "java/util/ArrayList"
abbrev wsX60 : List Cond := u_ws RX6 TX6 3
theorem nmX6 : ∀ a, a < 3 → ∀ b, b < 3 → a ≠ b → (TX6 a).2.1 ≠ (TX6 b).2.1 := by decide +kernel
theorem tyX6_ok : ∀ k, k < 3 → parseFieldDescriptor (TX6 k).2.2.1 = some (tyX6 k) := by decide +kernel
abbrev cX6_init : ByteArray := prog_4_method_1_code
def yX6_init : MethodName := ⟨RX6, "<init>", "(LShutDays$Sum;)V"⟩
def dkwX6_init_1 : List UInt8 := [181, 0, 18, 42, 43, 181, 0, 21, 177]
abbrev dktX6_init_1 : List UInt8 := dkwX6_init_1 ++ []
def dkwX6_init_0 : List UInt8 := [42, 183, 0, 3, 42, 187, 0, 9, 89, 183, 0, 11, 181, 0, 12, 42, 187, 0, 9, 89, 183, 0, 11]
abbrev dktX6_init_0 : List UInt8 := dkwX6_init_0 ++ dktX6_init_1
theorem dksX6_init_0 : cX6_init.data.toList.drop 0 = dktX6_init_0 := by decide +kernel
theorem dksX6_init_1 : cX6_init.data.toList.drop 23 = dktX6_init_1 := dk_seg dksX6_init_0 23 rfl rfl
theorem dX6_init_0 : decode cX6_init 0 = .ok (.aload_n 0, 1) := dk_42 (dk_at dksX6_init_0 0 rfl rfl)
theorem dX6_init_1 : decode cX6_init 1 = .ok (.invokespecial 3, 3) := dk_183 0 3 (dk_at dksX6_init_0 1 rfl rfl)
theorem dX6_init_4 : decode cX6_init 4 = .ok (.aload_n 0, 1) := dk_42 (dk_at dksX6_init_0 4 rfl rfl)
theorem dX6_init_5 : decode cX6_init 5 = .ok (.new 9, 3) := dk_187 0 9 (dk_at dksX6_init_0 5 rfl rfl)
theorem dX6_init_8 : decode cX6_init 8 = .ok (.dup, 1) := dk_89 (dk_at dksX6_init_0 8 rfl rfl)
theorem dX6_init_9 : decode cX6_init 9 = .ok (.invokespecial 11, 3) := dk_183 0 11 (dk_at dksX6_init_0 9 rfl rfl)
theorem dX6_init_12 : decode cX6_init 12 = .ok (.putfield 12, 3) := dk_181 0 12 (dk_at dksX6_init_0 12 rfl rfl)
theorem dX6_init_15 : decode cX6_init 15 = .ok (.aload_n 0, 1) := dk_42 (dk_at dksX6_init_0 15 rfl rfl)
theorem dX6_init_16 : decode cX6_init 16 = .ok (.new 9, 3) := dk_187 0 9 (dk_at dksX6_init_0 16 rfl rfl)
theorem dX6_init_19 : decode cX6_init 19 = .ok (.dup, 1) := dk_89 (dk_at dksX6_init_0 19 rfl rfl)
theorem dX6_init_20 : decode cX6_init 20 = .ok (.invokespecial 11, 3) := dk_183 0 11 (dk_at dksX6_init_0 20 rfl rfl)
theorem dX6_init_23 : decode cX6_init 23 = .ok (.putfield 18, 3) := dk_181 0 18 (dk_at dksX6_init_1 0 rfl rfl)
theorem dX6_init_26 : decode cX6_init 26 = .ok (.aload_n 0, 1) := dk_42 (dk_at dksX6_init_1 3 rfl rfl)
theorem dX6_init_27 : decode cX6_init 27 = .ok (.aload_n 1, 1) := dk_43 (dk_at dksX6_init_1 4 rfl rfl)
theorem dX6_init_28 : decode cX6_init 28 = .ok (.putfield 21, 3) := dk_181 0 21 (dk_at dksX6_init_1 5 rfl rfl)
theorem dX6_init_31 : decode cX6_init 31 = .ok (.return_, 1) := dk_177 (dk_at dksX6_init_1 8 rfl rfl)
abbrev cX6_add : ByteArray := prog_4_method_2_code
def yX6_add : MethodName := ⟨RX6, "add", "(ILShutDays$Sum;)V"⟩
def dkwX6_add_0 : List UInt8 := [42, 180, 0, 18, 27, 184, 0, 25, 182, 0, 31, 87, 42, 180, 0, 12, 44, 182, 0, 31, 87, 177]
abbrev dktX6_add_0 : List UInt8 := dkwX6_add_0 ++ []
theorem dksX6_add_0 : cX6_add.data.toList.drop 0 = dktX6_add_0 := by decide +kernel
theorem dX6_add_0 : decode cX6_add 0 = .ok (.aload_n 0, 1) := dk_42 (dk_at dksX6_add_0 0 rfl rfl)
theorem dX6_add_1 : decode cX6_add 1 = .ok (.getfield 18, 3) := dk_180 0 18 (dk_at dksX6_add_0 1 rfl rfl)
theorem dX6_add_4 : decode cX6_add 4 = .ok (.iload_n 1, 1) := dk_27 (dk_at dksX6_add_0 4 rfl rfl)
theorem dX6_add_5 : decode cX6_add 5 = .ok (.invokestatic 25, 3) := dk_184 0 25 (dk_at dksX6_add_0 5 rfl rfl)
theorem dX6_add_8 : decode cX6_add 8 = .ok (.invokevirtual 31, 3) := dk_182 0 31 (dk_at dksX6_add_0 8 rfl rfl)
theorem dX6_add_11 : decode cX6_add 11 = .ok (.pop, 1) := dk_87 (dk_at dksX6_add_0 11 rfl rfl)
theorem dX6_add_12 : decode cX6_add 12 = .ok (.aload_n 0, 1) := dk_42 (dk_at dksX6_add_0 12 rfl rfl)
theorem dX6_add_13 : decode cX6_add 13 = .ok (.getfield 12, 3) := dk_180 0 12 (dk_at dksX6_add_0 13 rfl rfl)
theorem dX6_add_16 : decode cX6_add 16 = .ok (.aload_n 2, 1) := dk_44 (dk_at dksX6_add_0 16 rfl rfl)
theorem dX6_add_17 : decode cX6_add 17 = .ok (.invokevirtual 31, 3) := dk_182 0 31 (dk_at dksX6_add_0 17 rfl rfl)
theorem dX6_add_20 : decode cX6_add 20 = .ok (.pop, 1) := dk_87 (dk_at dksX6_add_0 20 rfl rfl)
theorem dX6_add_21 : decode cX6_add 21 = .ok (.return_, 1) := dk_177 (dk_at dksX6_add_0 21 rfl rfl)
abbrev cX6_itself : ByteArray := prog_4_method_3_code
def yX6_itself : MethodName := ⟨RX6, "itself", "()LShutDays$Sum;"⟩
def dkwX6_itself_0 : List UInt8 := [42, 180, 0, 12, 182, 0, 35, 153, 0, 10, 42, 180, 0, 21, 167, 0, 4, 42, 176]
abbrev dktX6_itself_0 : List UInt8 := dkwX6_itself_0 ++ []
theorem dksX6_itself_0 : cX6_itself.data.toList.drop 0 = dktX6_itself_0 := by decide +kernel
theorem dX6_itself_0 : decode cX6_itself 0 = .ok (.aload_n 0, 1) := dk_42 (dk_at dksX6_itself_0 0 rfl rfl)
theorem dX6_itself_1 : decode cX6_itself 1 = .ok (.getfield 12, 3) := dk_180 0 12 (dk_at dksX6_itself_0 1 rfl rfl)
theorem dX6_itself_4 : decode cX6_itself 4 = .ok (.invokevirtual 35, 3) := dk_182 0 35 (dk_at dksX6_itself_0 4 rfl rfl)
theorem dX6_itself_7 : decode cX6_itself 7 = .ok (.ifCond .eq 10, 3) := dk_153 0 10 (dk_at dksX6_itself_0 7 rfl rfl)
theorem dX6_itself_10 : decode cX6_itself 10 = .ok (.aload_n 0, 1) := dk_42 (dk_at dksX6_itself_0 10 rfl rfl)
theorem dX6_itself_11 : decode cX6_itself 11 = .ok (.getfield 21, 3) := dk_180 0 21 (dk_at dksX6_itself_0 11 rfl rfl)
theorem dX6_itself_14 : decode cX6_itself 14 = .ok (.goto 4, 3) := dk_167 0 4 (dk_at dksX6_itself_0 14 rfl rfl)
theorem dX6_itself_17 : decode cX6_itself 17 = .ok (.aload_n 0, 1) := dk_42 (dk_at dksX6_itself_0 17 rfl rfl)
theorem dX6_itself_18 : decode cX6_itself 18 = .ok (.areturn, 1) := dk_176 (dk_at dksX6_itself_0 18 rfl rfl)
abbrev cX6_of : ByteArray := prog_4_method_4_code
def yX6_of : MethodName := ⟨RX6, "of", "([I)J"⟩
def dkwX6_of_6 : List UInt8 := [32, 173]
abbrev dktX6_of_6 : List UInt8 := dkwX6_of_6 ++ []
def dkwX6_of_5 : List UInt8 := [109, 55, 8, 20, 0, 56, 20, 0, 58, 22, 8, 184, 0, 60, 184, 0, 66, 65, 132, 4, 1, 167, 255, 130]
abbrev dktX6_of_5 : List UInt8 := dkwX6_of_5 ++ dktX6_of_6
def dkwX6_of_4 : List UInt8 := [160, 0, 10, 32, 22, 5, 105, 167, 0, 18, 22, 5, 9, 148, 154, 0, 7, 9, 167, 0, 7, 32, 22, 5]
abbrev dktX6_of_4 : List UInt8 := dkwX6_of_4 ++ dktX6_of_5
def dkwX6_of_3 : List UInt8 := [22, 5, 97, 167, 0, 46, 21, 7, 16, 45, 160, 0, 10, 32, 22, 5, 101, 167, 0, 32, 21, 7, 16, 42]
abbrev dktX6_of_3 : List UInt8 := dkwX6_of_3 ++ dktX6_of_4
def dkwX6_of_2 : List UInt8 := [180, 0, 18, 21, 4, 182, 0, 49, 192, 0, 26, 182, 0, 53, 54, 7, 21, 7, 16, 43, 160, 0, 10, 32]
abbrev dktX6_of_2 : List UInt8 := dkwX6_of_2 ++ dktX6_of_3
def dkwX6_of_1 : List UInt8 := [162, 0, 120, 42, 180, 0, 12, 21, 4, 182, 0, 49, 192, 0, 40, 43, 185, 0, 39, 2, 0, 55, 5, 42]
abbrev dktX6_of_1 : List UInt8 := dkwX6_of_1 ++ dktX6_of_2
def dkwX6_of_0 : List UInt8 := [42, 180, 0, 21, 43, 185, 0, 39, 2, 0, 65, 3, 54, 4, 21, 4, 42, 180, 0, 12, 182, 0, 45]
abbrev dktX6_of_0 : List UInt8 := dkwX6_of_0 ++ dktX6_of_1
theorem dksX6_of_0 : cX6_of.data.toList.drop 0 = dktX6_of_0 := by decide +kernel
theorem dksX6_of_1 : cX6_of.data.toList.drop 23 = dktX6_of_1 := dk_seg dksX6_of_0 23 rfl rfl
theorem dksX6_of_2 : cX6_of.data.toList.drop 47 = dktX6_of_2 := dk_seg dksX6_of_1 24 rfl rfl
theorem dksX6_of_3 : cX6_of.data.toList.drop 71 = dktX6_of_3 := dk_seg dksX6_of_2 24 rfl rfl
theorem dksX6_of_4 : cX6_of.data.toList.drop 95 = dktX6_of_4 := dk_seg dksX6_of_3 24 rfl rfl
theorem dksX6_of_5 : cX6_of.data.toList.drop 119 = dktX6_of_5 := dk_seg dksX6_of_4 24 rfl rfl
theorem dksX6_of_6 : cX6_of.data.toList.drop 143 = dktX6_of_6 := dk_seg dksX6_of_5 24 rfl rfl
theorem dX6_of_0 : decode cX6_of 0 = .ok (.aload_n 0, 1) := dk_42 (dk_at dksX6_of_0 0 rfl rfl)
theorem dX6_of_1 : decode cX6_of 1 = .ok (.getfield 21, 3) := dk_180 0 21 (dk_at dksX6_of_0 1 rfl rfl)
theorem dX6_of_4 : decode cX6_of 4 = .ok (.aload_n 1, 1) := dk_43 (dk_at dksX6_of_0 4 rfl rfl)
theorem dX6_of_5 : decode cX6_of 5 = .ok (.invokeinterface 39 2, 5) := by decide +kernel
theorem dX6_of_10 : decode cX6_of 10 = .ok (.lstore_n 2, 1) := dk_65 (dk_at dksX6_of_0 10 rfl rfl)
theorem dX6_of_11 : decode cX6_of 11 = .ok (.iconst 0, 1) := dk_3 (dk_at dksX6_of_0 11 rfl rfl)
theorem dX6_of_12 : decode cX6_of 12 = .ok (.istore 4, 2) := dk_54 4 (dk_at dksX6_of_0 12 rfl rfl)
theorem dX6_of_14 : decode cX6_of 14 = .ok (.iload 4, 2) := dk_21 4 (dk_at dksX6_of_0 14 rfl rfl)
theorem dX6_of_16 : decode cX6_of 16 = .ok (.aload_n 0, 1) := dk_42 (dk_at dksX6_of_0 16 rfl rfl)
theorem dX6_of_17 : decode cX6_of 17 = .ok (.getfield 12, 3) := dk_180 0 12 (dk_at dksX6_of_0 17 rfl rfl)
theorem dX6_of_20 : decode cX6_of 20 = .ok (.invokevirtual 45, 3) := dk_182 0 45 (dk_at dksX6_of_0 20 rfl rfl)
theorem dX6_of_23 : decode cX6_of 23 = .ok (.if_icmp .ge 120, 3) := dk_162 0 120 (dk_at dksX6_of_1 0 rfl rfl)
theorem dX6_of_26 : decode cX6_of 26 = .ok (.aload_n 0, 1) := dk_42 (dk_at dksX6_of_1 3 rfl rfl)
theorem dX6_of_27 : decode cX6_of 27 = .ok (.getfield 12, 3) := dk_180 0 12 (dk_at dksX6_of_1 4 rfl rfl)
theorem dX6_of_30 : decode cX6_of 30 = .ok (.iload 4, 2) := dk_21 4 (dk_at dksX6_of_1 7 rfl rfl)
theorem dX6_of_32 : decode cX6_of 32 = .ok (.invokevirtual 49, 3) := dk_182 0 49 (dk_at dksX6_of_1 9 rfl rfl)
theorem dX6_of_35 : decode cX6_of 35 = .ok (.checkcast 40, 3) := dk_192 0 40 (dk_at dksX6_of_1 12 rfl rfl)
theorem dX6_of_38 : decode cX6_of 38 = .ok (.aload_n 1, 1) := dk_43 (dk_at dksX6_of_1 15 rfl rfl)
theorem dX6_of_39 : decode cX6_of 39 = .ok (.invokeinterface 39 2, 5) := by decide +kernel
theorem dX6_of_44 : decode cX6_of 44 = .ok (.lstore 5, 2) := dk_55 5 (dk_at dksX6_of_1 21 rfl rfl)
theorem dX6_of_46 : decode cX6_of 46 = .ok (.aload_n 0, 1) := dk_42 (dk_at dksX6_of_1 23 rfl rfl)
theorem dX6_of_47 : decode cX6_of 47 = .ok (.getfield 18, 3) := dk_180 0 18 (dk_at dksX6_of_2 0 rfl rfl)
theorem dX6_of_50 : decode cX6_of 50 = .ok (.iload 4, 2) := dk_21 4 (dk_at dksX6_of_2 3 rfl rfl)
theorem dX6_of_52 : decode cX6_of 52 = .ok (.invokevirtual 49, 3) := dk_182 0 49 (dk_at dksX6_of_2 5 rfl rfl)
theorem dX6_of_55 : decode cX6_of 55 = .ok (.checkcast 26, 3) := dk_192 0 26 (dk_at dksX6_of_2 8 rfl rfl)
theorem dX6_of_58 : decode cX6_of 58 = .ok (.invokevirtual 53, 3) := dk_182 0 53 (dk_at dksX6_of_2 11 rfl rfl)
theorem dX6_of_61 : decode cX6_of 61 = .ok (.istore 7, 2) := dk_54 7 (dk_at dksX6_of_2 14 rfl rfl)
theorem dX6_of_63 : decode cX6_of 63 = .ok (.iload 7, 2) := dk_21 7 (dk_at dksX6_of_2 16 rfl rfl)
theorem dX6_of_65 : decode cX6_of 65 = .ok (.bipush 43, 2) := dk_16 43 (dk_at dksX6_of_2 18 rfl rfl)
theorem dX6_of_67 : decode cX6_of 67 = .ok (.if_icmp .ne 10, 3) := dk_160 0 10 (dk_at dksX6_of_2 20 rfl rfl)
theorem dX6_of_70 : decode cX6_of 70 = .ok (.lload_n 2, 1) := dk_32 (dk_at dksX6_of_2 23 rfl rfl)
theorem dX6_of_71 : decode cX6_of 71 = .ok (.lload 5, 2) := dk_22 5 (dk_at dksX6_of_3 0 rfl rfl)
theorem dX6_of_73 : decode cX6_of 73 = .ok (.ladd, 1) := dk_97 (dk_at dksX6_of_3 2 rfl rfl)
theorem dX6_of_74 : decode cX6_of 74 = .ok (.goto 46, 3) := dk_167 0 46 (dk_at dksX6_of_3 3 rfl rfl)
theorem dX6_of_77 : decode cX6_of 77 = .ok (.iload 7, 2) := dk_21 7 (dk_at dksX6_of_3 6 rfl rfl)
theorem dX6_of_79 : decode cX6_of 79 = .ok (.bipush 45, 2) := dk_16 45 (dk_at dksX6_of_3 8 rfl rfl)
theorem dX6_of_81 : decode cX6_of 81 = .ok (.if_icmp .ne 10, 3) := dk_160 0 10 (dk_at dksX6_of_3 10 rfl rfl)
theorem dX6_of_84 : decode cX6_of 84 = .ok (.lload_n 2, 1) := dk_32 (dk_at dksX6_of_3 13 rfl rfl)
theorem dX6_of_85 : decode cX6_of 85 = .ok (.lload 5, 2) := dk_22 5 (dk_at dksX6_of_3 14 rfl rfl)
theorem dX6_of_87 : decode cX6_of 87 = .ok (.lsub, 1) := dk_101 (dk_at dksX6_of_3 16 rfl rfl)
theorem dX6_of_88 : decode cX6_of 88 = .ok (.goto 32, 3) := dk_167 0 32 (dk_at dksX6_of_3 17 rfl rfl)
theorem dX6_of_91 : decode cX6_of 91 = .ok (.iload 7, 2) := dk_21 7 (dk_at dksX6_of_3 20 rfl rfl)
theorem dX6_of_93 : decode cX6_of 93 = .ok (.bipush 42, 2) := dk_16 42 (dk_at dksX6_of_3 22 rfl rfl)
theorem dX6_of_95 : decode cX6_of 95 = .ok (.if_icmp .ne 10, 3) := dk_160 0 10 (dk_at dksX6_of_4 0 rfl rfl)
theorem dX6_of_98 : decode cX6_of 98 = .ok (.lload_n 2, 1) := dk_32 (dk_at dksX6_of_4 3 rfl rfl)
theorem dX6_of_99 : decode cX6_of 99 = .ok (.lload 5, 2) := dk_22 5 (dk_at dksX6_of_4 4 rfl rfl)
theorem dX6_of_101 : decode cX6_of 101 = .ok (.lmul, 1) := dk_105 (dk_at dksX6_of_4 6 rfl rfl)
theorem dX6_of_102 : decode cX6_of 102 = .ok (.goto 18, 3) := dk_167 0 18 (dk_at dksX6_of_4 7 rfl rfl)
theorem dX6_of_105 : decode cX6_of 105 = .ok (.lload 5, 2) := dk_22 5 (dk_at dksX6_of_4 10 rfl rfl)
theorem dX6_of_107 : decode cX6_of 107 = .ok (.lconst 0, 1) := dk_9 (dk_at dksX6_of_4 12 rfl rfl)
theorem dX6_of_108 : decode cX6_of 108 = .ok (.lcmp, 1) := dk_148 (dk_at dksX6_of_4 13 rfl rfl)
theorem dX6_of_109 : decode cX6_of 109 = .ok (.ifCond .ne 7, 3) := dk_154 0 7 (dk_at dksX6_of_4 14 rfl rfl)
theorem dX6_of_112 : decode cX6_of 112 = .ok (.lconst 0, 1) := dk_9 (dk_at dksX6_of_4 17 rfl rfl)
theorem dX6_of_113 : decode cX6_of 113 = .ok (.goto 7, 3) := dk_167 0 7 (dk_at dksX6_of_4 18 rfl rfl)
theorem dX6_of_116 : decode cX6_of 116 = .ok (.lload_n 2, 1) := dk_32 (dk_at dksX6_of_4 21 rfl rfl)
theorem dX6_of_117 : decode cX6_of 117 = .ok (.lload 5, 2) := dk_22 5 (dk_at dksX6_of_4 22 rfl rfl)
theorem dX6_of_119 : decode cX6_of 119 = .ok (.ldiv, 1) := dk_109 (dk_at dksX6_of_5 0 rfl rfl)
theorem dX6_of_120 : decode cX6_of 120 = .ok (.lstore 8, 2) := dk_55 8 (dk_at dksX6_of_5 1 rfl rfl)
theorem dX6_of_122 : decode cX6_of 122 = .ok (.ldc2_w 56, 3) := dk_20 0 56 (dk_at dksX6_of_5 3 rfl rfl)
theorem dX6_of_125 : decode cX6_of 125 = .ok (.ldc2_w 58, 3) := dk_20 0 58 (dk_at dksX6_of_5 6 rfl rfl)
theorem dX6_of_128 : decode cX6_of 128 = .ok (.lload 8, 2) := dk_22 8 (dk_at dksX6_of_5 9 rfl rfl)
theorem dX6_of_130 : decode cX6_of 130 = .ok (.invokestatic 60, 3) := dk_184 0 60 (dk_at dksX6_of_5 11 rfl rfl)
theorem dX6_of_133 : decode cX6_of 133 = .ok (.invokestatic 66, 3) := dk_184 0 66 (dk_at dksX6_of_5 14 rfl rfl)
theorem dX6_of_136 : decode cX6_of 136 = .ok (.lstore_n 2, 1) := dk_65 (dk_at dksX6_of_5 17 rfl rfl)
theorem dX6_of_137 : decode cX6_of 137 = .ok (.iinc 4 1, 3) := dk_132 4 1 (dk_at dksX6_of_5 18 rfl rfl)
theorem dX6_of_140 : decode cX6_of 140 = .ok (.goto (-126), 3) := dk_167 255 130 (dk_at dksX6_of_5 21 rfl rfl)
theorem dX6_of_143 : decode cX6_of 143 = .ok (.lload_n 2, 1) := dk_32 (dk_at dksX6_of_6 0 rfl rfl)
theorem dX6_of_144 : decode cX6_of 144 = .ok (.lreturn, 1) := dk_173 (dk_at dksX6_of_6 1 rfl rfl)
theorem q155 : (Jvm.Cond.initialized "ShutDays$Chain") ∈ lw_all := lw_g (lw_at lw_m1 18 rfl) rfl
theorem q528 : (Jvm.Cond.instantiable "ShutDays$Chain" (3 : Nat)) ∈ lw_all := lw_g (lw_at lw_m2 151 rfl) rfl
theorem q608 : (Jvm.Cond.instanceMethod ({ cls := "ShutDays$Chain", name := "<init>", desc := "(LShutDays$Sum;)V" } : Jvm.MethodName)) ∈ lw_all := lw_g (lw_at lw_m2 231 rfl) rfl
theorem q609 : (Jvm.Cond.code ({ cls := "ShutDays$Chain", name := "<init>", desc := "(LShutDays$Sum;)V" } : Jvm.MethodName) prog_4_method_1_code (2 : Nat) (Option.none : Option Jvm.ClassFile.FieldType)) ∈ lw_all := lw_g (lw_at lw_m2 232 rfl) rfl
theorem q610 : (Jvm.Cond.methodLink "ShutDays$Chain" (3 : Nat) ({ cls := "java/lang/Object", name := "<init>", desc := "()V" } : Jvm.MethodName)) ∈ lw_all := lw_g (lw_at lw_m2 233 rfl) rfl
theorem q611 : (Jvm.Cond.classLink "ShutDays$Chain" (9 : Nat) "java/util/ArrayList") ∈ lw_all := lw_g (lw_at lw_m2 234 rfl) rfl
theorem q612 : (Jvm.Cond.methodLink "ShutDays$Chain" (11 : Nat) ({ cls := "java/util/ArrayList", name := "<init>", desc := "()V" } : Jvm.MethodName)) ∈ lw_all := lw_g (lw_at lw_m2 235 rfl) rfl
theorem q613 : (Jvm.Cond.fieldLink "ShutDays$Chain" (21 : Nat) "ShutDays$Chain" "first" "LShutDays$Sum;") ∈ lw_all := lw_g (lw_at lw_m2 236 rfl) rfl
theorem q614 : (Jvm.Cond.fieldLink "ShutDays$Chain" (12 : Nat) "ShutDays$Chain" "more" "Ljava/util/ArrayList;") ∈ lw_all := lw_g (lw_at lw_m2 237 rfl) rfl
theorem q615 : (Jvm.Cond.fieldLink "ShutDays$Chain" (18 : Nat) "ShutDays$Chain" "signs" "Ljava/util/ArrayList;") ∈ lw_all := lw_g (lw_at lw_m2 238 rfl) rfl
theorem q616 : (Jvm.Cond.laysFinal "ShutDays$Chain" "ShutDays$Chain" "first" "LShutDays$Sum;") ∈ lw_all := lw_g (lw_at lw_m2 239 rfl) rfl
theorem q617 : (Jvm.Cond.soleField "ShutDays$Chain" "first") ∈ lw_all := lw_g (lw_at lw_m3 0 rfl) rfl
theorem q618 : (Jvm.Cond.laysFinal "ShutDays$Chain" "ShutDays$Chain" "more" "Ljava/util/ArrayList;") ∈ lw_all := lw_g (lw_at lw_m3 1 rfl) rfl
theorem q619 : (Jvm.Cond.soleField "ShutDays$Chain" "more") ∈ lw_all := lw_g (lw_at lw_m3 2 rfl) rfl
theorem q620 : (Jvm.Cond.laysFinal "ShutDays$Chain" "ShutDays$Chain" "signs" "Ljava/util/ArrayList;") ∈ lw_all := lw_g (lw_at lw_m3 3 rfl) rfl
theorem q621 : (Jvm.Cond.soleField "ShutDays$Chain" "signs") ∈ lw_all := lw_g (lw_at lw_m3 4 rfl) rfl
theorem q622 : (Jvm.Cond.superclass "ShutDays$Chain" "java/lang/Object") ∈ lw_all := lw_g (lw_at lw_m3 5 rfl) rfl
theorem q624 : (Jvm.Cond.instanceMethod ({ cls := "ShutDays$Chain", name := "add", desc := "(ILShutDays$Sum;)V" } : Jvm.MethodName)) ∈ lw_all := lw_g (lw_at lw_m3 7 rfl) rfl
theorem q625 : (Jvm.Cond.selects "ShutDays$Chain" ({ cls := "ShutDays$Chain", name := "add", desc := "(ILShutDays$Sum;)V" } : Jvm.MethodName) ({ cls := "ShutDays$Chain", name := "add", desc := "(ILShutDays$Sum;)V" } : Jvm.MethodName)) ∈ lw_all := lw_g (lw_at lw_m3 8 rfl) rfl
theorem q626 : (Jvm.Cond.code ({ cls := "ShutDays$Chain", name := "add", desc := "(ILShutDays$Sum;)V" } : Jvm.MethodName) prog_4_method_2_code (3 : Nat) (Option.none : Option Jvm.ClassFile.FieldType)) ∈ lw_all := lw_g (lw_at lw_m3 9 rfl) rfl
theorem q627 : (Jvm.Cond.methodLink "ShutDays$Chain" (25 : Nat) ({ cls := "java/lang/Integer", name := "valueOf", desc := "(I)Ljava/lang/Integer;" } : Jvm.MethodName)) ∈ lw_all := lw_g (lw_at lw_m3 10 rfl) rfl
theorem q647 : (Jvm.Cond.methodLink "ShutDays$Chain" (31 : Nat) ({ cls := "java/util/ArrayList", name := "add", desc := "(Ljava/lang/Object;)Z" } : Jvm.MethodName)) ∈ lw_all := lw_g (lw_at lw_m3 30 rfl) rfl
theorem q681 : (Jvm.Cond.selects "ShutDays$Chain" ({ cls := "java/lang/Object", name := "getClass", desc := "()Ljava/lang/Class;" } : Jvm.MethodName) ({ cls := "java/lang/Object", name := "getClass", desc := "()Ljava/lang/Class;" } : Jvm.MethodName)) ∈ lw_all := lw_g (lw_at lw_m3 64 rfl) rfl
theorem q709 : (Jvm.Cond.instanceMethod ({ cls := "ShutDays$Chain", name := "itself", desc := "()LShutDays$Sum;" } : Jvm.MethodName)) ∈ lw_all := lw_g (lw_at lw_m3 92 rfl) rfl
theorem q710 : (Jvm.Cond.selects "ShutDays$Chain" ({ cls := "ShutDays$Chain", name := "itself", desc := "()LShutDays$Sum;" } : Jvm.MethodName) ({ cls := "ShutDays$Chain", name := "itself", desc := "()LShutDays$Sum;" } : Jvm.MethodName)) ∈ lw_all := lw_g (lw_at lw_m3 93 rfl) rfl
theorem q711 : (Jvm.Cond.code ({ cls := "ShutDays$Chain", name := "itself", desc := "()LShutDays$Sum;" } : Jvm.MethodName) prog_4_method_3_code (1 : Nat) (Option.some (Jvm.ClassFile.FieldType.object "ShutDays$Sum"))) ∈ lw_all := lw_g (lw_at lw_m3 94 rfl) rfl
theorem q712 : (Jvm.Cond.methodLink "ShutDays$Chain" (35 : Nat) ({ cls := "java/util/ArrayList", name := "isEmpty", desc := "()Z" } : Jvm.MethodName)) ∈ lw_all := lw_g (lw_at lw_m3 95 rfl) rfl
theorem q908 : (Jvm.Cond.castable "ShutDays$Chain" "ShutDays$Sum") ∈ lw_tbl := lw_at lw_m4 51 rfl
theorem q909 : (Jvm.Cond.selects "ShutDays$Chain" ({ cls := "ShutDays$Sum", name := "of", desc := "([I)J" } : Jvm.MethodName) ({ cls := "ShutDays$Chain", name := "of", desc := "([I)J" } : Jvm.MethodName)) ∈ lw_all := lw_g (lw_at lw_m4 52 rfl) rfl
theorem q910 : (Jvm.Cond.unhidden "ShutDays$Chain" "of" "([I)J") ∈ lw_tbl := lw_at lw_m4 53 rfl
theorem q911 : (Jvm.Cond.instanceMethod ({ cls := "ShutDays$Chain", name := "of", desc := "([I)J" } : Jvm.MethodName)) ∈ lw_all := lw_g (lw_at lw_m4 54 rfl) rfl
theorem q912 : (Jvm.Cond.publicMethod ({ cls := "ShutDays$Chain", name := "of", desc := "([I)J" } : Jvm.MethodName)) ∈ lw_tbl := lw_at lw_m4 55 rfl
theorem q913 : (Jvm.Cond.code ({ cls := "ShutDays$Chain", name := "of", desc := "([I)J" } : Jvm.MethodName) prog_4_method_4_code (10 : Nat) (Option.some Jvm.ClassFile.FieldType.long)) ∈ lw_all := lw_g (lw_at lw_m4 56 rfl) rfl
theorem q914 : (Jvm.Cond.interfaceEntry "ShutDays$Chain" (39 : Nat)) ∈ lw_tbl := lw_at lw_m4 57 rfl
theorem q915 : (Jvm.Cond.methodLink "ShutDays$Chain" (39 : Nat) ({ cls := "ShutDays$Sum", name := "of", desc := "([I)J" } : Jvm.MethodName)) ∈ lw_all := lw_g (lw_at lw_m4 58 rfl) rfl
theorem q949 : (Jvm.Cond.methodLink "ShutDays$Chain" (45 : Nat) ({ cls := "java/util/ArrayList", name := "size", desc := "()I" } : Jvm.MethodName)) ∈ lw_all := lw_g (lw_at lw_m4 92 rfl) rfl
theorem q950 : (Jvm.Cond.methodLink "ShutDays$Chain" (49 : Nat) ({ cls := "java/util/ArrayList", name := "get", desc := "(I)Ljava/lang/Object;" } : Jvm.MethodName)) ∈ lw_all := lw_g (lw_at lw_m4 93 rfl) rfl
theorem q951 : (Jvm.Cond.classLink "ShutDays$Chain" (40 : Nat) "ShutDays$Sum") ∈ lw_all := lw_g (lw_at lw_m4 94 rfl) rfl
theorem q952 : (Jvm.Cond.classLink "ShutDays$Chain" (26 : Nat) "java/lang/Integer") ∈ lw_all := lw_g (lw_at lw_m4 95 rfl) rfl
theorem q953 : (Jvm.Cond.methodLink "ShutDays$Chain" (53 : Nat) ({ cls := "java/lang/Integer", name := "intValue", desc := "()I" } : Jvm.MethodName)) ∈ lw_all := lw_g (lw_at lw_m4 96 rfl) rfl
theorem q957 : (Jvm.Cond.constantLong "ShutDays$Chain" (56 : Nat) (-1000000 : Int64)) ∈ lw_all := lw_g (lw_at lw_m4 100 rfl) rfl
theorem q958 : (Jvm.Cond.constantLong "ShutDays$Chain" (58 : Nat) (1000000 : Int64)) ∈ lw_all := lw_g (lw_at lw_m4 101 rfl) rfl
theorem q959 : (Jvm.Cond.methodLink "ShutDays$Chain" (60 : Nat) ({ cls := "java/lang/Math", name := "min", desc := "(JJ)J" } : Jvm.MethodName)) ∈ lw_all := lw_g (lw_at lw_m4 102 rfl) rfl
theorem q962 : (Jvm.Cond.methodLink "ShutDays$Chain" (66 : Nat) ({ cls := "java/lang/Math", name := "max", desc := "(JJ)J" } : Jvm.MethodName)) ∈ lw_all := lw_g (lw_at lw_m4 105 rfl) rfl
theorem q2035 : (Jvm.Cond.castable "ShutDays$Chain" "java/lang/Object") ∈ lw_tbl := lw_at lw_m8 218 rfl
theorem in_X6 : ∀ w ∈ wsX60, w ∈ lw_all := lw_in wsX60 [616, 618, 620] (by decide +kernel) (by decide +kernel)
/-! ShutDays$Plain -/
set_option maxRecDepth 100000
def RX7 : String := "ShutDays$Plain"
def TX7 : u_T := fun k => match k with
  | _ => ("ShutDays$Plain", "n", "I", true)
def tyX7 : Nat → FieldType := fun k => match k with
  | _ => .int
abbrev wsX70 : List Cond := u_ws RX7 TX7 1
theorem nmX7 : ∀ a, a < 1 → ∀ b, b < 1 → a ≠ b → (TX7 a).2.1 ≠ (TX7 b).2.1 := by decide +kernel
theorem tyX7_ok : ∀ k, k < 1 → parseFieldDescriptor (TX7 k).2.2.1 = some (tyX7 k) := by decide +kernel
abbrev cX7_init : ByteArray := prog_12_method_1_code
def yX7_init : MethodName := ⟨RX7, "<init>", "(I)V"⟩
def dkwX7_init_0 : List UInt8 := [42, 183, 0, 1, 42, 27, 181, 0, 7, 177]
abbrev dktX7_init_0 : List UInt8 := dkwX7_init_0 ++ []
theorem dksX7_init_0 : cX7_init.data.toList.drop 0 = dktX7_init_0 := by decide +kernel
theorem dX7_init_0 : decode cX7_init 0 = .ok (.aload_n 0, 1) := dk_42 (dk_at dksX7_init_0 0 rfl rfl)
theorem dX7_init_1 : decode cX7_init 1 = .ok (.invokespecial 1, 3) := dk_183 0 1 (dk_at dksX7_init_0 1 rfl rfl)
theorem dX7_init_4 : decode cX7_init 4 = .ok (.aload_n 0, 1) := dk_42 (dk_at dksX7_init_0 4 rfl rfl)
theorem dX7_init_5 : decode cX7_init 5 = .ok (.iload_n 1, 1) := dk_27 (dk_at dksX7_init_0 5 rfl rfl)
theorem dX7_init_6 : decode cX7_init 6 = .ok (.putfield 7, 3) := dk_181 0 7 (dk_at dksX7_init_0 6 rfl rfl)
theorem dX7_init_9 : decode cX7_init 9 = .ok (.return_, 1) := dk_177 (dk_at dksX7_init_0 9 rfl rfl)
abbrev cX7_of : ByteArray := prog_12_method_2_code
def yX7_of : MethodName := ⟨RX7, "of", "([I)J"⟩
def dkwX7_of_0 : List UInt8 := [42, 180, 0, 7, 133, 173]
abbrev dktX7_of_0 : List UInt8 := dkwX7_of_0 ++ []
theorem dksX7_of_0 : cX7_of.data.toList.drop 0 = dktX7_of_0 := by decide +kernel
theorem dX7_of_0 : decode cX7_of 0 = .ok (.aload_n 0, 1) := dk_42 (dk_at dksX7_of_0 0 rfl rfl)
theorem dX7_of_1 : decode cX7_of 1 = .ok (.getfield 7, 3) := dk_180 0 7 (dk_at dksX7_of_0 1 rfl rfl)
theorem dX7_of_4 : decode cX7_of 4 = .ok (.i2l, 1) := dk_133 (dk_at dksX7_of_0 4 rfl rfl)
theorem dX7_of_5 : decode cX7_of 5 = .ok (.lreturn, 1) := dk_173 (dk_at dksX7_of_0 5 rfl rfl)
theorem q157 : (Jvm.Cond.initialized "ShutDays$Plain") ∈ lw_all := lw_g (lw_at lw_m1 20 rfl) rfl
theorem q538 : (Jvm.Cond.instantiable "ShutDays$Plain" (1 : Nat)) ∈ lw_all := lw_g (lw_at lw_m2 161 rfl) rfl
theorem q544 : (Jvm.Cond.instanceMethod ({ cls := "ShutDays$Plain", name := "<init>", desc := "(I)V" } : Jvm.MethodName)) ∈ lw_all := lw_g (lw_at lw_m2 167 rfl) rfl
theorem q545 : (Jvm.Cond.code ({ cls := "ShutDays$Plain", name := "<init>", desc := "(I)V" } : Jvm.MethodName) prog_12_method_1_code (2 : Nat) (Option.none : Option Jvm.ClassFile.FieldType)) ∈ lw_all := lw_g (lw_at lw_m2 168 rfl) rfl
theorem q546 : (Jvm.Cond.methodLink "ShutDays$Plain" (1 : Nat) ({ cls := "java/lang/Record", name := "<init>", desc := "()V" } : Jvm.MethodName)) ∈ lw_all := lw_g (lw_at lw_m2 169 rfl) rfl
theorem q550 : (Jvm.Cond.fieldLink "ShutDays$Plain" (7 : Nat) "ShutDays$Plain" "n" "I") ∈ lw_all := lw_g (lw_at lw_m2 173 rfl) rfl
theorem q551 : (Jvm.Cond.laysFinal "ShutDays$Plain" "ShutDays$Plain" "n" "I") ∈ lw_all := lw_g (lw_at lw_m2 174 rfl) rfl
theorem q552 : (Jvm.Cond.soleField "ShutDays$Plain" "n") ∈ lw_all := lw_g (lw_at lw_m2 175 rfl) rfl
theorem q553 : (Jvm.Cond.superclass "ShutDays$Plain" "java/lang/Record") ∈ lw_all := lw_g (lw_at lw_m2 176 rfl) rfl
theorem q689 : (Jvm.Cond.selects "ShutDays$Plain" ({ cls := "java/lang/Object", name := "getClass", desc := "()Ljava/lang/Class;" } : Jvm.MethodName) ({ cls := "java/lang/Object", name := "getClass", desc := "()Ljava/lang/Class;" } : Jvm.MethodName)) ∈ lw_all := lw_g (lw_at lw_m3 72 rfl) rfl
theorem q938 : (Jvm.Cond.castable "ShutDays$Plain" "ShutDays$Sum") ∈ lw_tbl := lw_at lw_m4 81 rfl
theorem q939 : (Jvm.Cond.selects "ShutDays$Plain" ({ cls := "ShutDays$Sum", name := "of", desc := "([I)J" } : Jvm.MethodName) ({ cls := "ShutDays$Plain", name := "of", desc := "([I)J" } : Jvm.MethodName)) ∈ lw_all := lw_g (lw_at lw_m4 82 rfl) rfl
theorem q940 : (Jvm.Cond.unhidden "ShutDays$Plain" "of" "([I)J") ∈ lw_tbl := lw_at lw_m4 83 rfl
theorem q941 : (Jvm.Cond.instanceMethod ({ cls := "ShutDays$Plain", name := "of", desc := "([I)J" } : Jvm.MethodName)) ∈ lw_all := lw_g (lw_at lw_m4 84 rfl) rfl
theorem q942 : (Jvm.Cond.publicMethod ({ cls := "ShutDays$Plain", name := "of", desc := "([I)J" } : Jvm.MethodName)) ∈ lw_tbl := lw_at lw_m4 85 rfl
theorem q943 : (Jvm.Cond.code ({ cls := "ShutDays$Plain", name := "of", desc := "([I)J" } : Jvm.MethodName) prog_12_method_2_code (2 : Nat) (Option.some Jvm.ClassFile.FieldType.long)) ∈ lw_all := lw_g (lw_at lw_m4 86 rfl) rfl
theorem q2036 : (Jvm.Cond.castable "ShutDays$Plain" "java/lang/Object") ∈ lw_tbl := lw_at lw_m8 219 rfl
theorem in_X7 : ∀ w ∈ wsX70, w ∈ lw_all := lw_in wsX70 [551] (by decide +kernel) (by decide +kernel)
/-! ShutDays$Digit -/
set_option maxRecDepth 100000
def RX8 : String := "ShutDays$Digit"
def TX8 : u_T := fun k => match k with
  | 0 => ("ShutDays$Digit", "place", "LShutDays$Sum;", true)
  | _ => ("ShutDays$Digit", "a", "LShutDays$Sum;", true)
def tyX8 : Nat → FieldType := fun k => match k with
  | 0 => .object "ShutDays$Sum"
  | _ => .object "ShutDays$Sum"
abbrev wsX80 : List Cond := u_ws RX8 TX8 2
theorem nmX8 : ∀ a, a < 2 → ∀ b, b < 2 → a ≠ b → (TX8 a).2.1 ≠ (TX8 b).2.1 := by decide +kernel
theorem tyX8_ok : ∀ k, k < 2 → parseFieldDescriptor (TX8 k).2.2.1 = some (tyX8 k) := by decide +kernel
abbrev cX8_init : ByteArray := prog_6_method_1_code
def yX8_init : MethodName := ⟨RX8, "<init>", "(LShutDays$Sum;LShutDays$Sum;)V"⟩
def dkwX8_init_0 : List UInt8 := [42, 183, 0, 1, 42, 43, 181, 0, 7, 42, 44, 181, 0, 13, 177]
abbrev dktX8_init_0 : List UInt8 := dkwX8_init_0 ++ []
theorem dksX8_init_0 : cX8_init.data.toList.drop 0 = dktX8_init_0 := by decide +kernel
theorem dX8_init_0 : decode cX8_init 0 = .ok (.aload_n 0, 1) := dk_42 (dk_at dksX8_init_0 0 rfl rfl)
theorem dX8_init_1 : decode cX8_init 1 = .ok (.invokespecial 1, 3) := dk_183 0 1 (dk_at dksX8_init_0 1 rfl rfl)
theorem dX8_init_4 : decode cX8_init 4 = .ok (.aload_n 0, 1) := dk_42 (dk_at dksX8_init_0 4 rfl rfl)
theorem dX8_init_5 : decode cX8_init 5 = .ok (.aload_n 1, 1) := dk_43 (dk_at dksX8_init_0 5 rfl rfl)
theorem dX8_init_6 : decode cX8_init 6 = .ok (.putfield 7, 3) := dk_181 0 7 (dk_at dksX8_init_0 6 rfl rfl)
theorem dX8_init_9 : decode cX8_init 9 = .ok (.aload_n 0, 1) := dk_42 (dk_at dksX8_init_0 9 rfl rfl)
theorem dX8_init_10 : decode cX8_init 10 = .ok (.aload_n 2, 1) := dk_44 (dk_at dksX8_init_0 10 rfl rfl)
theorem dX8_init_11 : decode cX8_init 11 = .ok (.putfield 13, 3) := dk_181 0 13 (dk_at dksX8_init_0 11 rfl rfl)
theorem dX8_init_14 : decode cX8_init 14 = .ok (.return_, 1) := dk_177 (dk_at dksX8_init_0 14 rfl rfl)
abbrev cX8_of : ByteArray := prog_6_method_2_code
def yX8_of : MethodName := ⟨RX8, "of", "([I)J"⟩
def dkwX8_of_3 : List UInt8 := [20, 0, 30, 113, 173]
abbrev dktX8_of_3 : List UInt8 := dkwX8_of_3 ++ []
def dkwX8_of_2 : List UInt8 := [148, 156, 0, 20, 22, 4, 20, 0, 30, 109, 55, 4, 22, 6, 10, 97, 55, 6, 167, 255, 235, 22, 4]
abbrev dktX8_of_2 : List UInt8 := dkwX8_of_2 ++ dktX8_of_3
def dkwX8_of_1 : List UInt8 := [55, 4, 32, 9, 148, 155, 0, 11, 32, 20, 0, 28, 148, 158, 0, 5, 9, 173, 9, 55, 6, 22, 6, 32]
abbrev dktX8_of_1 : List UInt8 := dkwX8_of_1 ++ dktX8_of_2
def dkwX8_of_0 : List UInt8 := [42, 180, 0, 7, 43, 185, 0, 16, 2, 0, 65, 42, 180, 0, 13, 43, 185, 0, 16, 2, 0, 184, 0, 22]
abbrev dktX8_of_0 : List UInt8 := dkwX8_of_0 ++ dktX8_of_1
theorem dksX8_of_0 : cX8_of.data.toList.drop 0 = dktX8_of_0 := by decide +kernel
theorem dksX8_of_1 : cX8_of.data.toList.drop 24 = dktX8_of_1 := dk_seg dksX8_of_0 24 rfl rfl
theorem dksX8_of_2 : cX8_of.data.toList.drop 48 = dktX8_of_2 := dk_seg dksX8_of_1 24 rfl rfl
theorem dksX8_of_3 : cX8_of.data.toList.drop 71 = dktX8_of_3 := dk_seg dksX8_of_2 23 rfl rfl
theorem dX8_of_0 : decode cX8_of 0 = .ok (.aload_n 0, 1) := dk_42 (dk_at dksX8_of_0 0 rfl rfl)
theorem dX8_of_1 : decode cX8_of 1 = .ok (.getfield 7, 3) := dk_180 0 7 (dk_at dksX8_of_0 1 rfl rfl)
theorem dX8_of_4 : decode cX8_of 4 = .ok (.aload_n 1, 1) := dk_43 (dk_at dksX8_of_0 4 rfl rfl)
theorem dX8_of_5 : decode cX8_of 5 = .ok (.invokeinterface 16 2, 5) := by decide +kernel
theorem dX8_of_10 : decode cX8_of 10 = .ok (.lstore_n 2, 1) := dk_65 (dk_at dksX8_of_0 10 rfl rfl)
theorem dX8_of_11 : decode cX8_of 11 = .ok (.aload_n 0, 1) := dk_42 (dk_at dksX8_of_0 11 rfl rfl)
theorem dX8_of_12 : decode cX8_of 12 = .ok (.getfield 13, 3) := dk_180 0 13 (dk_at dksX8_of_0 12 rfl rfl)
theorem dX8_of_15 : decode cX8_of 15 = .ok (.aload_n 1, 1) := dk_43 (dk_at dksX8_of_0 15 rfl rfl)
theorem dX8_of_16 : decode cX8_of 16 = .ok (.invokeinterface 16 2, 5) := by decide +kernel
theorem dX8_of_21 : decode cX8_of 21 = .ok (.invokestatic 22, 3) := dk_184 0 22 (dk_at dksX8_of_0 21 rfl rfl)
theorem dX8_of_24 : decode cX8_of 24 = .ok (.lstore 4, 2) := dk_55 4 (dk_at dksX8_of_1 0 rfl rfl)
theorem dX8_of_26 : decode cX8_of 26 = .ok (.lload_n 2, 1) := dk_32 (dk_at dksX8_of_1 2 rfl rfl)
theorem dX8_of_27 : decode cX8_of 27 = .ok (.lconst 0, 1) := dk_9 (dk_at dksX8_of_1 3 rfl rfl)
theorem dX8_of_28 : decode cX8_of 28 = .ok (.lcmp, 1) := dk_148 (dk_at dksX8_of_1 4 rfl rfl)
theorem dX8_of_29 : decode cX8_of 29 = .ok (.ifCond .lt 11, 3) := dk_155 0 11 (dk_at dksX8_of_1 5 rfl rfl)
theorem dX8_of_32 : decode cX8_of 32 = .ok (.lload_n 2, 1) := dk_32 (dk_at dksX8_of_1 8 rfl rfl)
theorem dX8_of_33 : decode cX8_of 33 = .ok (.ldc2_w 28, 3) := dk_20 0 28 (dk_at dksX8_of_1 9 rfl rfl)
theorem dX8_of_36 : decode cX8_of 36 = .ok (.lcmp, 1) := dk_148 (dk_at dksX8_of_1 12 rfl rfl)
theorem dX8_of_37 : decode cX8_of 37 = .ok (.ifCond .le 5, 3) := dk_158 0 5 (dk_at dksX8_of_1 13 rfl rfl)
theorem dX8_of_40 : decode cX8_of 40 = .ok (.lconst 0, 1) := dk_9 (dk_at dksX8_of_1 16 rfl rfl)
theorem dX8_of_41 : decode cX8_of 41 = .ok (.lreturn, 1) := dk_173 (dk_at dksX8_of_1 17 rfl rfl)
theorem dX8_of_42 : decode cX8_of 42 = .ok (.lconst 0, 1) := dk_9 (dk_at dksX8_of_1 18 rfl rfl)
theorem dX8_of_43 : decode cX8_of 43 = .ok (.lstore 6, 2) := dk_55 6 (dk_at dksX8_of_1 19 rfl rfl)
theorem dX8_of_45 : decode cX8_of 45 = .ok (.lload 6, 2) := dk_22 6 (dk_at dksX8_of_1 21 rfl rfl)
theorem dX8_of_47 : decode cX8_of 47 = .ok (.lload_n 2, 1) := dk_32 (dk_at dksX8_of_1 23 rfl rfl)
theorem dX8_of_48 : decode cX8_of 48 = .ok (.lcmp, 1) := dk_148 (dk_at dksX8_of_2 0 rfl rfl)
theorem dX8_of_49 : decode cX8_of 49 = .ok (.ifCond .ge 20, 3) := dk_156 0 20 (dk_at dksX8_of_2 1 rfl rfl)
theorem dX8_of_52 : decode cX8_of 52 = .ok (.lload 4, 2) := dk_22 4 (dk_at dksX8_of_2 4 rfl rfl)
theorem dX8_of_54 : decode cX8_of 54 = .ok (.ldc2_w 30, 3) := dk_20 0 30 (dk_at dksX8_of_2 6 rfl rfl)
theorem dX8_of_57 : decode cX8_of 57 = .ok (.ldiv, 1) := dk_109 (dk_at dksX8_of_2 9 rfl rfl)
theorem dX8_of_58 : decode cX8_of 58 = .ok (.lstore 4, 2) := dk_55 4 (dk_at dksX8_of_2 10 rfl rfl)
theorem dX8_of_60 : decode cX8_of 60 = .ok (.lload 6, 2) := dk_22 6 (dk_at dksX8_of_2 12 rfl rfl)
theorem dX8_of_62 : decode cX8_of 62 = .ok (.lconst 1, 1) := dk_10 (dk_at dksX8_of_2 14 rfl rfl)
theorem dX8_of_63 : decode cX8_of 63 = .ok (.ladd, 1) := dk_97 (dk_at dksX8_of_2 15 rfl rfl)
theorem dX8_of_64 : decode cX8_of 64 = .ok (.lstore 6, 2) := dk_55 6 (dk_at dksX8_of_2 16 rfl rfl)
theorem dX8_of_66 : decode cX8_of 66 = .ok (.goto (-21), 3) := dk_167 255 235 (dk_at dksX8_of_2 18 rfl rfl)
theorem dX8_of_69 : decode cX8_of 69 = .ok (.lload 4, 2) := dk_22 4 (dk_at dksX8_of_2 21 rfl rfl)
theorem dX8_of_71 : decode cX8_of 71 = .ok (.ldc2_w 30, 3) := dk_20 0 30 (dk_at dksX8_of_3 0 rfl rfl)
theorem dX8_of_74 : decode cX8_of 74 = .ok (.lrem, 1) := dk_113 (dk_at dksX8_of_3 3 rfl rfl)
theorem dX8_of_75 : decode cX8_of 75 = .ok (.lreturn, 1) := dk_173 (dk_at dksX8_of_3 4 rfl rfl)
theorem q158 : (Jvm.Cond.initialized "ShutDays$Digit") ∈ lw_all := lw_g (lw_at lw_m1 21 rfl) rfl
theorem q567 : (Jvm.Cond.instantiable "ShutDays$Digit" (2 : Nat)) ∈ lw_all := lw_g (lw_at lw_m2 190 rfl) rfl
theorem q569 : (Jvm.Cond.instanceMethod ({ cls := "ShutDays$Digit", name := "<init>", desc := "(LShutDays$Sum;LShutDays$Sum;)V" } : Jvm.MethodName)) ∈ lw_all := lw_g (lw_at lw_m2 192 rfl) rfl
theorem q570 : (Jvm.Cond.code ({ cls := "ShutDays$Digit", name := "<init>", desc := "(LShutDays$Sum;LShutDays$Sum;)V" } : Jvm.MethodName) prog_6_method_1_code (3 : Nat) (Option.none : Option Jvm.ClassFile.FieldType)) ∈ lw_all := lw_g (lw_at lw_m2 193 rfl) rfl
theorem q571 : (Jvm.Cond.methodLink "ShutDays$Digit" (1 : Nat) ({ cls := "java/lang/Record", name := "<init>", desc := "()V" } : Jvm.MethodName)) ∈ lw_all := lw_g (lw_at lw_m2 194 rfl) rfl
theorem q572 : (Jvm.Cond.fieldLink "ShutDays$Digit" (7 : Nat) "ShutDays$Digit" "place" "LShutDays$Sum;") ∈ lw_all := lw_g (lw_at lw_m2 195 rfl) rfl
theorem q573 : (Jvm.Cond.fieldLink "ShutDays$Digit" (13 : Nat) "ShutDays$Digit" "a" "LShutDays$Sum;") ∈ lw_all := lw_g (lw_at lw_m2 196 rfl) rfl
theorem q574 : (Jvm.Cond.laysFinal "ShutDays$Digit" "ShutDays$Digit" "place" "LShutDays$Sum;") ∈ lw_all := lw_g (lw_at lw_m2 197 rfl) rfl
theorem q575 : (Jvm.Cond.soleField "ShutDays$Digit" "place") ∈ lw_all := lw_g (lw_at lw_m2 198 rfl) rfl
theorem q576 : (Jvm.Cond.laysFinal "ShutDays$Digit" "ShutDays$Digit" "a" "LShutDays$Sum;") ∈ lw_all := lw_g (lw_at lw_m2 199 rfl) rfl
theorem q577 : (Jvm.Cond.soleField "ShutDays$Digit" "a") ∈ lw_all := lw_g (lw_at lw_m2 200 rfl) rfl
theorem q578 : (Jvm.Cond.superclass "ShutDays$Digit" "java/lang/Record") ∈ lw_all := lw_g (lw_at lw_m2 201 rfl) rfl
theorem q683 : (Jvm.Cond.selects "ShutDays$Digit" ({ cls := "java/lang/Object", name := "getClass", desc := "()Ljava/lang/Class;" } : Jvm.MethodName) ({ cls := "java/lang/Object", name := "getClass", desc := "()Ljava/lang/Class;" } : Jvm.MethodName)) ∈ lw_all := lw_g (lw_at lw_m3 66 rfl) rfl
theorem q916 : (Jvm.Cond.castable "ShutDays$Digit" "ShutDays$Sum") ∈ lw_tbl := lw_at lw_m4 59 rfl
theorem q917 : (Jvm.Cond.selects "ShutDays$Digit" ({ cls := "ShutDays$Sum", name := "of", desc := "([I)J" } : Jvm.MethodName) ({ cls := "ShutDays$Digit", name := "of", desc := "([I)J" } : Jvm.MethodName)) ∈ lw_all := lw_g (lw_at lw_m4 60 rfl) rfl
theorem q918 : (Jvm.Cond.unhidden "ShutDays$Digit" "of" "([I)J") ∈ lw_tbl := lw_at lw_m4 61 rfl
theorem q919 : (Jvm.Cond.instanceMethod ({ cls := "ShutDays$Digit", name := "of", desc := "([I)J" } : Jvm.MethodName)) ∈ lw_all := lw_g (lw_at lw_m4 62 rfl) rfl
theorem q920 : (Jvm.Cond.publicMethod ({ cls := "ShutDays$Digit", name := "of", desc := "([I)J" } : Jvm.MethodName)) ∈ lw_tbl := lw_at lw_m4 63 rfl
theorem q921 : (Jvm.Cond.code ({ cls := "ShutDays$Digit", name := "of", desc := "([I)J" } : Jvm.MethodName) prog_6_method_2_code (8 : Nat) (Option.some Jvm.ClassFile.FieldType.long)) ∈ lw_all := lw_g (lw_at lw_m4 64 rfl) rfl
theorem q922 : (Jvm.Cond.interfaceEntry "ShutDays$Digit" (16 : Nat)) ∈ lw_tbl := lw_at lw_m4 65 rfl
theorem q923 : (Jvm.Cond.methodLink "ShutDays$Digit" (16 : Nat) ({ cls := "ShutDays$Sum", name := "of", desc := "([I)J" } : Jvm.MethodName)) ∈ lw_all := lw_g (lw_at lw_m4 66 rfl) rfl
theorem q944 : (Jvm.Cond.methodLink "ShutDays$Digit" (22 : Nat) ({ cls := "java/lang/Math", name := "abs", desc := "(J)J" } : Jvm.MethodName)) ∈ lw_all := lw_g (lw_at lw_m4 87 rfl) rfl
theorem q947 : (Jvm.Cond.constantLong "ShutDays$Digit" (28 : Nat) (9 : Int64)) ∈ lw_all := lw_g (lw_at lw_m4 90 rfl) rfl
theorem q948 : (Jvm.Cond.constantLong "ShutDays$Digit" (30 : Nat) (10 : Int64)) ∈ lw_all := lw_g (lw_at lw_m4 91 rfl) rfl
theorem q2037 : (Jvm.Cond.castable "ShutDays$Digit" "java/lang/Object") ∈ lw_tbl := lw_at lw_m8 220 rfl
theorem in_X8 : ∀ w ∈ wsX80, w ∈ lw_all := lw_in wsX80 [574, 576] (by decide +kernel) (by decide +kernel)
/-! ShutDays$Name -/
set_option maxRecDepth 100000
def RX9 : String := "ShutDays$Name"
def TX9 : u_T := fun k => match k with
  | _ => ("ShutDays$Name", "which", "I", true)
def tyX9 : Nat → FieldType := fun k => match k with
  | _ => .int
abbrev wsX90 : List Cond := u_ws RX9 TX9 1
theorem nmX9 : ∀ a, a < 1 → ∀ b, b < 1 → a ≠ b → (TX9 a).2.1 ≠ (TX9 b).2.1 := by decide +kernel
theorem tyX9_ok : ∀ k, k < 1 → parseFieldDescriptor (TX9 k).2.2.1 = some (tyX9 k) := by decide +kernel
abbrev cX9_init : ByteArray := prog_10_method_1_code
def yX9_init : MethodName := ⟨RX9, "<init>", "(I)V"⟩
def dkwX9_init_0 : List UInt8 := [42, 183, 0, 1, 42, 27, 181, 0, 7, 177]
abbrev dktX9_init_0 : List UInt8 := dkwX9_init_0 ++ []
theorem dksX9_init_0 : cX9_init.data.toList.drop 0 = dktX9_init_0 := by decide +kernel
theorem dX9_init_0 : decode cX9_init 0 = .ok (.aload_n 0, 1) := dk_42 (dk_at dksX9_init_0 0 rfl rfl)
theorem dX9_init_1 : decode cX9_init 1 = .ok (.invokespecial 1, 3) := dk_183 0 1 (dk_at dksX9_init_0 1 rfl rfl)
theorem dX9_init_4 : decode cX9_init 4 = .ok (.aload_n 0, 1) := dk_42 (dk_at dksX9_init_0 4 rfl rfl)
theorem dX9_init_5 : decode cX9_init 5 = .ok (.iload_n 1, 1) := dk_27 (dk_at dksX9_init_0 5 rfl rfl)
theorem dX9_init_6 : decode cX9_init 6 = .ok (.putfield 7, 3) := dk_181 0 7 (dk_at dksX9_init_0 6 rfl rfl)
theorem dX9_init_9 : decode cX9_init 9 = .ok (.return_, 1) := dk_177 (dk_at dksX9_init_0 9 rfl rfl)
abbrev cX9_of : ByteArray := prog_10_method_2_code
def yX9_of : MethodName := ⟨RX9, "of", "([I)J"⟩
def dkwX9_of_0 : List UInt8 := [43, 42, 180, 0, 7, 46, 133, 173]
abbrev dktX9_of_0 : List UInt8 := dkwX9_of_0 ++ []
theorem dksX9_of_0 : cX9_of.data.toList.drop 0 = dktX9_of_0 := by decide +kernel
theorem dX9_of_0 : decode cX9_of 0 = .ok (.aload_n 1, 1) := dk_43 (dk_at dksX9_of_0 0 rfl rfl)
theorem dX9_of_1 : decode cX9_of 1 = .ok (.aload_n 0, 1) := dk_42 (dk_at dksX9_of_0 1 rfl rfl)
theorem dX9_of_2 : decode cX9_of 2 = .ok (.getfield 7, 3) := dk_180 0 7 (dk_at dksX9_of_0 2 rfl rfl)
theorem dX9_of_5 : decode cX9_of 5 = .ok (.iaload, 1) := dk_46 (dk_at dksX9_of_0 5 rfl rfl)
theorem dX9_of_6 : decode cX9_of 6 = .ok (.i2l, 1) := dk_133 (dk_at dksX9_of_0 6 rfl rfl)
theorem dX9_of_7 : decode cX9_of 7 = .ok (.lreturn, 1) := dk_173 (dk_at dksX9_of_0 7 rfl rfl)
theorem q159 : (Jvm.Cond.initialized "ShutDays$Name") ∈ lw_all := lw_g (lw_at lw_m1 22 rfl) rfl
theorem q588 : (Jvm.Cond.instantiable "ShutDays$Name" (1 : Nat)) ∈ lw_all := lw_g (lw_at lw_m2 211 rfl) rfl
theorem q590 : (Jvm.Cond.instanceMethod ({ cls := "ShutDays$Name", name := "<init>", desc := "(I)V" } : Jvm.MethodName)) ∈ lw_all := lw_g (lw_at lw_m2 213 rfl) rfl
theorem q591 : (Jvm.Cond.code ({ cls := "ShutDays$Name", name := "<init>", desc := "(I)V" } : Jvm.MethodName) prog_10_method_1_code (2 : Nat) (Option.none : Option Jvm.ClassFile.FieldType)) ∈ lw_all := lw_g (lw_at lw_m2 214 rfl) rfl
theorem q592 : (Jvm.Cond.methodLink "ShutDays$Name" (1 : Nat) ({ cls := "java/lang/Record", name := "<init>", desc := "()V" } : Jvm.MethodName)) ∈ lw_all := lw_g (lw_at lw_m2 215 rfl) rfl
theorem q593 : (Jvm.Cond.fieldLink "ShutDays$Name" (7 : Nat) "ShutDays$Name" "which" "I") ∈ lw_all := lw_g (lw_at lw_m2 216 rfl) rfl
theorem q594 : (Jvm.Cond.laysFinal "ShutDays$Name" "ShutDays$Name" "which" "I") ∈ lw_all := lw_g (lw_at lw_m2 217 rfl) rfl
theorem q595 : (Jvm.Cond.soleField "ShutDays$Name" "which") ∈ lw_all := lw_g (lw_at lw_m2 218 rfl) rfl
theorem q596 : (Jvm.Cond.superclass "ShutDays$Name" "java/lang/Record") ∈ lw_all := lw_g (lw_at lw_m2 219 rfl) rfl
theorem q687 : (Jvm.Cond.selects "ShutDays$Name" ({ cls := "java/lang/Object", name := "getClass", desc := "()Ljava/lang/Class;" } : Jvm.MethodName) ({ cls := "java/lang/Object", name := "getClass", desc := "()Ljava/lang/Class;" } : Jvm.MethodName)) ∈ lw_all := lw_g (lw_at lw_m3 70 rfl) rfl
theorem q932 : (Jvm.Cond.castable "ShutDays$Name" "ShutDays$Sum") ∈ lw_tbl := lw_at lw_m4 75 rfl
theorem q933 : (Jvm.Cond.selects "ShutDays$Name" ({ cls := "ShutDays$Sum", name := "of", desc := "([I)J" } : Jvm.MethodName) ({ cls := "ShutDays$Name", name := "of", desc := "([I)J" } : Jvm.MethodName)) ∈ lw_all := lw_g (lw_at lw_m4 76 rfl) rfl
theorem q934 : (Jvm.Cond.unhidden "ShutDays$Name" "of" "([I)J") ∈ lw_tbl := lw_at lw_m4 77 rfl
theorem q935 : (Jvm.Cond.instanceMethod ({ cls := "ShutDays$Name", name := "of", desc := "([I)J" } : Jvm.MethodName)) ∈ lw_all := lw_g (lw_at lw_m4 78 rfl) rfl
theorem q936 : (Jvm.Cond.publicMethod ({ cls := "ShutDays$Name", name := "of", desc := "([I)J" } : Jvm.MethodName)) ∈ lw_tbl := lw_at lw_m4 79 rfl
theorem q937 : (Jvm.Cond.code ({ cls := "ShutDays$Name", name := "of", desc := "([I)J" } : Jvm.MethodName) prog_10_method_2_code (2 : Nat) (Option.some Jvm.ClassFile.FieldType.long)) ∈ lw_all := lw_g (lw_at lw_m4 80 rfl) rfl
theorem q2038 : (Jvm.Cond.castable "ShutDays$Name" "java/lang/Object") ∈ lw_tbl := lw_at lw_m8 221 rfl
theorem in_X9 : ∀ w ∈ wsX90, w ∈ lw_all := lw_in wsX90 [594] (by decide +kernel) (by decide +kernel)
/-! ShutDays$Minus -/
set_option maxRecDepth 100000
def RX10 : String := "ShutDays$Minus"
def TX10 : u_T := fun k => match k with
  | _ => ("ShutDays$Minus", "x", "LShutDays$Sum;", true)
def tyX10 : Nat → FieldType := fun k => match k with
  | _ => .object "ShutDays$Sum"
abbrev wsX100 : List Cond := u_ws RX10 TX10 1
theorem nmX10 : ∀ a, a < 1 → ∀ b, b < 1 → a ≠ b → (TX10 a).2.1 ≠ (TX10 b).2.1 := by decide +kernel
theorem tyX10_ok : ∀ k, k < 1 → parseFieldDescriptor (TX10 k).2.2.1 = some (tyX10 k) := by decide +kernel
abbrev cX10_init : ByteArray := prog_9_method_1_code
def yX10_init : MethodName := ⟨RX10, "<init>", "(LShutDays$Sum;)V"⟩
def dkwX10_init_0 : List UInt8 := [42, 183, 0, 1, 42, 43, 181, 0, 7, 177]
abbrev dktX10_init_0 : List UInt8 := dkwX10_init_0 ++ []
theorem dksX10_init_0 : cX10_init.data.toList.drop 0 = dktX10_init_0 := by decide +kernel
theorem dX10_init_0 : decode cX10_init 0 = .ok (.aload_n 0, 1) := dk_42 (dk_at dksX10_init_0 0 rfl rfl)
theorem dX10_init_1 : decode cX10_init 1 = .ok (.invokespecial 1, 3) := dk_183 0 1 (dk_at dksX10_init_0 1 rfl rfl)
theorem dX10_init_4 : decode cX10_init 4 = .ok (.aload_n 0, 1) := dk_42 (dk_at dksX10_init_0 4 rfl rfl)
theorem dX10_init_5 : decode cX10_init 5 = .ok (.aload_n 1, 1) := dk_43 (dk_at dksX10_init_0 5 rfl rfl)
theorem dX10_init_6 : decode cX10_init 6 = .ok (.putfield 7, 3) := dk_181 0 7 (dk_at dksX10_init_0 6 rfl rfl)
theorem dX10_init_9 : decode cX10_init 9 = .ok (.return_, 1) := dk_177 (dk_at dksX10_init_0 9 rfl rfl)
abbrev cX10_of : ByteArray := prog_9_method_2_code
def yX10_of : MethodName := ⟨RX10, "of", "([I)J"⟩
def dkwX10_of_0 : List UInt8 := [42, 180, 0, 7, 43, 185, 0, 13, 2, 0, 117, 173]
abbrev dktX10_of_0 : List UInt8 := dkwX10_of_0 ++ []
theorem dksX10_of_0 : cX10_of.data.toList.drop 0 = dktX10_of_0 := by decide +kernel
theorem dX10_of_0 : decode cX10_of 0 = .ok (.aload_n 0, 1) := dk_42 (dk_at dksX10_of_0 0 rfl rfl)
theorem dX10_of_1 : decode cX10_of 1 = .ok (.getfield 7, 3) := dk_180 0 7 (dk_at dksX10_of_0 1 rfl rfl)
theorem dX10_of_4 : decode cX10_of 4 = .ok (.aload_n 1, 1) := dk_43 (dk_at dksX10_of_0 4 rfl rfl)
theorem dX10_of_5 : decode cX10_of 5 = .ok (.invokeinterface 13 2, 5) := by decide +kernel
theorem dX10_of_10 : decode cX10_of 10 = .ok (.lneg, 1) := dk_117 (dk_at dksX10_of_0 10 rfl rfl)
theorem dX10_of_11 : decode cX10_of 11 = .ok (.lreturn, 1) := dk_173 (dk_at dksX10_of_0 11 rfl rfl)
theorem q160 : (Jvm.Cond.initialized "ShutDays$Minus") ∈ lw_all := lw_g (lw_at lw_m1 23 rfl) rfl
theorem q598 : (Jvm.Cond.instantiable "ShutDays$Minus" (1 : Nat)) ∈ lw_all := lw_g (lw_at lw_m2 221 rfl) rfl
theorem q600 : (Jvm.Cond.instanceMethod ({ cls := "ShutDays$Minus", name := "<init>", desc := "(LShutDays$Sum;)V" } : Jvm.MethodName)) ∈ lw_all := lw_g (lw_at lw_m2 223 rfl) rfl
theorem q601 : (Jvm.Cond.code ({ cls := "ShutDays$Minus", name := "<init>", desc := "(LShutDays$Sum;)V" } : Jvm.MethodName) prog_9_method_1_code (2 : Nat) (Option.none : Option Jvm.ClassFile.FieldType)) ∈ lw_all := lw_g (lw_at lw_m2 224 rfl) rfl
theorem q602 : (Jvm.Cond.methodLink "ShutDays$Minus" (1 : Nat) ({ cls := "java/lang/Record", name := "<init>", desc := "()V" } : Jvm.MethodName)) ∈ lw_all := lw_g (lw_at lw_m2 225 rfl) rfl
theorem q603 : (Jvm.Cond.fieldLink "ShutDays$Minus" (7 : Nat) "ShutDays$Minus" "x" "LShutDays$Sum;") ∈ lw_all := lw_g (lw_at lw_m2 226 rfl) rfl
theorem q604 : (Jvm.Cond.laysFinal "ShutDays$Minus" "ShutDays$Minus" "x" "LShutDays$Sum;") ∈ lw_all := lw_g (lw_at lw_m2 227 rfl) rfl
theorem q605 : (Jvm.Cond.soleField "ShutDays$Minus" "x") ∈ lw_all := lw_g (lw_at lw_m2 228 rfl) rfl
theorem q606 : (Jvm.Cond.superclass "ShutDays$Minus" "java/lang/Record") ∈ lw_all := lw_g (lw_at lw_m2 229 rfl) rfl
theorem q686 : (Jvm.Cond.selects "ShutDays$Minus" ({ cls := "java/lang/Object", name := "getClass", desc := "()Ljava/lang/Class;" } : Jvm.MethodName) ({ cls := "java/lang/Object", name := "getClass", desc := "()Ljava/lang/Class;" } : Jvm.MethodName)) ∈ lw_all := lw_g (lw_at lw_m3 69 rfl) rfl
theorem q924 : (Jvm.Cond.castable "ShutDays$Minus" "ShutDays$Sum") ∈ lw_tbl := lw_at lw_m4 67 rfl
theorem q925 : (Jvm.Cond.selects "ShutDays$Minus" ({ cls := "ShutDays$Sum", name := "of", desc := "([I)J" } : Jvm.MethodName) ({ cls := "ShutDays$Minus", name := "of", desc := "([I)J" } : Jvm.MethodName)) ∈ lw_all := lw_g (lw_at lw_m4 68 rfl) rfl
theorem q926 : (Jvm.Cond.unhidden "ShutDays$Minus" "of" "([I)J") ∈ lw_tbl := lw_at lw_m4 69 rfl
theorem q927 : (Jvm.Cond.instanceMethod ({ cls := "ShutDays$Minus", name := "of", desc := "([I)J" } : Jvm.MethodName)) ∈ lw_all := lw_g (lw_at lw_m4 70 rfl) rfl
theorem q928 : (Jvm.Cond.publicMethod ({ cls := "ShutDays$Minus", name := "of", desc := "([I)J" } : Jvm.MethodName)) ∈ lw_tbl := lw_at lw_m4 71 rfl
theorem q929 : (Jvm.Cond.code ({ cls := "ShutDays$Minus", name := "of", desc := "([I)J" } : Jvm.MethodName) prog_9_method_2_code (2 : Nat) (Option.some Jvm.ClassFile.FieldType.long)) ∈ lw_all := lw_g (lw_at lw_m4 72 rfl) rfl
theorem q930 : (Jvm.Cond.interfaceEntry "ShutDays$Minus" (13 : Nat)) ∈ lw_tbl := lw_at lw_m4 73 rfl
theorem q931 : (Jvm.Cond.methodLink "ShutDays$Minus" (13 : Nat) ({ cls := "ShutDays$Sum", name := "of", desc := "([I)J" } : Jvm.MethodName)) ∈ lw_all := lw_g (lw_at lw_m4 74 rfl) rfl
theorem q2039 : (Jvm.Cond.castable "ShutDays$Minus" "java/lang/Object") ∈ lw_tbl := lw_at lw_m8 222 rfl
theorem in_X10 : ∀ w ∈ wsX100, w ∈ lw_all := lw_in wsX100 [604] (by decide +kernel) (by decide +kernel)
/-! ShutDays$Not -/
set_option maxRecDepth 100000
def RX11 : String := "ShutDays$Not"
def TX11 : u_T := fun k => match k with
  | _ => ("ShutDays$Not", "x", "LShutDays$Asked;", true)
def tyX11 : Nat → FieldType := fun k => match k with
  | _ => .object "ShutDays$Asked"
abbrev wsX110 : List Cond := u_ws RX11 TX11 1
theorem nmX11 : ∀ a, a < 1 → ∀ b, b < 1 → a ≠ b → (TX11 a).2.1 ≠ (TX11 b).2.1 := by decide +kernel
theorem tyX11_ok : ∀ k, k < 1 → parseFieldDescriptor (TX11 k).2.2.1 = some (tyX11 k) := by decide +kernel
abbrev cX11_init : ByteArray := prog_11_method_1_code
def yX11_init : MethodName := ⟨RX11, "<init>", "(LShutDays$Asked;)V"⟩
def dkwX11_init_0 : List UInt8 := [42, 183, 0, 1, 42, 43, 181, 0, 7, 177]
abbrev dktX11_init_0 : List UInt8 := dkwX11_init_0 ++ []
theorem dksX11_init_0 : cX11_init.data.toList.drop 0 = dktX11_init_0 := by decide +kernel
theorem dX11_init_0 : decode cX11_init 0 = .ok (.aload_n 0, 1) := dk_42 (dk_at dksX11_init_0 0 rfl rfl)
theorem dX11_init_1 : decode cX11_init 1 = .ok (.invokespecial 1, 3) := dk_183 0 1 (dk_at dksX11_init_0 1 rfl rfl)
theorem dX11_init_4 : decode cX11_init 4 = .ok (.aload_n 0, 1) := dk_42 (dk_at dksX11_init_0 4 rfl rfl)
theorem dX11_init_5 : decode cX11_init 5 = .ok (.aload_n 1, 1) := dk_43 (dk_at dksX11_init_0 5 rfl rfl)
theorem dX11_init_6 : decode cX11_init 6 = .ok (.putfield 7, 3) := dk_181 0 7 (dk_at dksX11_init_0 6 rfl rfl)
theorem dX11_init_9 : decode cX11_init 9 = .ok (.return_, 1) := dk_177 (dk_at dksX11_init_0 9 rfl rfl)
abbrev cX11_is : ByteArray := prog_11_method_2_code
def yX11_is : MethodName := ⟨RX11, "is", "([I)Z"⟩
def dkwX11_is_0 : List UInt8 := [42, 180, 0, 7, 43, 185, 0, 13, 2, 0, 154, 0, 7, 4, 167, 0, 4, 3, 172]
abbrev dktX11_is_0 : List UInt8 := dkwX11_is_0 ++ []
theorem dksX11_is_0 : cX11_is.data.toList.drop 0 = dktX11_is_0 := by decide +kernel
theorem dX11_is_0 : decode cX11_is 0 = .ok (.aload_n 0, 1) := dk_42 (dk_at dksX11_is_0 0 rfl rfl)
theorem dX11_is_1 : decode cX11_is 1 = .ok (.getfield 7, 3) := dk_180 0 7 (dk_at dksX11_is_0 1 rfl rfl)
theorem dX11_is_4 : decode cX11_is 4 = .ok (.aload_n 1, 1) := dk_43 (dk_at dksX11_is_0 4 rfl rfl)
theorem dX11_is_5 : decode cX11_is 5 = .ok (.invokeinterface 13 2, 5) := by decide +kernel
theorem dX11_is_10 : decode cX11_is 10 = .ok (.ifCond .ne 7, 3) := dk_154 0 7 (dk_at dksX11_is_0 10 rfl rfl)
theorem dX11_is_13 : decode cX11_is 13 = .ok (.iconst 1, 1) := dk_4 (dk_at dksX11_is_0 13 rfl rfl)
theorem dX11_is_14 : decode cX11_is 14 = .ok (.goto 4, 3) := dk_167 0 4 (dk_at dksX11_is_0 14 rfl rfl)
theorem dX11_is_17 : decode cX11_is 17 = .ok (.iconst 0, 1) := dk_3 (dk_at dksX11_is_0 17 rfl rfl)
theorem dX11_is_18 : decode cX11_is 18 = .ok (.ireturn, 1) := dk_172 (dk_at dksX11_is_0 18 rfl rfl)
theorem q166 : (Jvm.Cond.initialized "ShutDays$Not") ∈ lw_all := lw_g (lw_at lw_m1 29 rfl) rfl
theorem q688 : (Jvm.Cond.selects "ShutDays$Not" ({ cls := "java/lang/Object", name := "getClass", desc := "()Ljava/lang/Class;" } : Jvm.MethodName) ({ cls := "java/lang/Object", name := "getClass", desc := "()Ljava/lang/Class;" } : Jvm.MethodName)) ∈ lw_all := lw_g (lw_at lw_m3 71 rfl) rfl
theorem q731 : (Jvm.Cond.instantiable "ShutDays$Not" (1 : Nat)) ∈ lw_all := lw_g (lw_at lw_m3 114 rfl) rfl
theorem q733 : (Jvm.Cond.instanceMethod ({ cls := "ShutDays$Not", name := "<init>", desc := "(LShutDays$Asked;)V" } : Jvm.MethodName)) ∈ lw_all := lw_g (lw_at lw_m3 116 rfl) rfl
theorem q734 : (Jvm.Cond.code ({ cls := "ShutDays$Not", name := "<init>", desc := "(LShutDays$Asked;)V" } : Jvm.MethodName) prog_11_method_1_code (2 : Nat) (Option.none : Option Jvm.ClassFile.FieldType)) ∈ lw_all := lw_g (lw_at lw_m3 117 rfl) rfl
theorem q735 : (Jvm.Cond.methodLink "ShutDays$Not" (1 : Nat) ({ cls := "java/lang/Record", name := "<init>", desc := "()V" } : Jvm.MethodName)) ∈ lw_all := lw_g (lw_at lw_m3 118 rfl) rfl
theorem q736 : (Jvm.Cond.fieldLink "ShutDays$Not" (7 : Nat) "ShutDays$Not" "x" "LShutDays$Asked;") ∈ lw_all := lw_g (lw_at lw_m3 119 rfl) rfl
theorem q737 : (Jvm.Cond.laysFinal "ShutDays$Not" "ShutDays$Not" "x" "LShutDays$Asked;") ∈ lw_all := lw_g (lw_at lw_m3 120 rfl) rfl
theorem q738 : (Jvm.Cond.soleField "ShutDays$Not" "x") ∈ lw_all := lw_g (lw_at lw_m3 121 rfl) rfl
theorem q739 : (Jvm.Cond.superclass "ShutDays$Not" "java/lang/Record") ∈ lw_all := lw_g (lw_at lw_m3 122 rfl) rfl
theorem q1023 : (Jvm.Cond.castable "ShutDays$Not" "ShutDays$Asked") ∈ lw_tbl := lw_at lw_m4 166 rfl
theorem q1024 : (Jvm.Cond.selects "ShutDays$Not" ({ cls := "ShutDays$Asked", name := "is", desc := "([I)Z" } : Jvm.MethodName) ({ cls := "ShutDays$Not", name := "is", desc := "([I)Z" } : Jvm.MethodName)) ∈ lw_all := lw_g (lw_at lw_m4 167 rfl) rfl
theorem q1025 : (Jvm.Cond.unhidden "ShutDays$Not" "is" "([I)Z") ∈ lw_tbl := lw_at lw_m4 168 rfl
theorem q1026 : (Jvm.Cond.instanceMethod ({ cls := "ShutDays$Not", name := "is", desc := "([I)Z" } : Jvm.MethodName)) ∈ lw_all := lw_g (lw_at lw_m4 169 rfl) rfl
theorem q1027 : (Jvm.Cond.publicMethod ({ cls := "ShutDays$Not", name := "is", desc := "([I)Z" } : Jvm.MethodName)) ∈ lw_tbl := lw_at lw_m4 170 rfl
theorem q1028 : (Jvm.Cond.code ({ cls := "ShutDays$Not", name := "is", desc := "([I)Z" } : Jvm.MethodName) prog_11_method_2_code (2 : Nat) (Option.some Jvm.ClassFile.FieldType.boolean)) ∈ lw_all := lw_g (lw_at lw_m4 171 rfl) rfl
theorem q1029 : (Jvm.Cond.interfaceEntry "ShutDays$Not" (13 : Nat)) ∈ lw_tbl := lw_at lw_m4 172 rfl
theorem q1030 : (Jvm.Cond.methodLink "ShutDays$Not" (13 : Nat) ({ cls := "ShutDays$Asked", name := "is", desc := "([I)Z" } : Jvm.MethodName)) ∈ lw_all := lw_g (lw_at lw_m4 173 rfl) rfl
theorem q2041 : (Jvm.Cond.castable "ShutDays$Not" "java/lang/Object") ∈ lw_tbl := lw_at lw_m8 224 rfl
theorem in_X11 : ∀ w ∈ wsX110, w ∈ lw_all := lw_in wsX110 [737] (by decide +kernel) (by decide +kernel)
/-! ShutDays$Divides -/
set_option maxRecDepth 100000
def RX12 : String := "ShutDays$Divides"
def TX12 : u_T := fun k => match k with
  | 0 => ("ShutDays$Divides", "a", "LShutDays$Sum;", true)
  | _ => ("ShutDays$Divides", "b", "LShutDays$Sum;", true)
def tyX12 : Nat → FieldType := fun k => match k with
  | 0 => .object "ShutDays$Sum"
  | _ => .object "ShutDays$Sum"
abbrev wsX120 : List Cond := u_ws RX12 TX12 2
theorem nmX12 : ∀ a, a < 2 → ∀ b, b < 2 → a ≠ b → (TX12 a).2.1 ≠ (TX12 b).2.1 := by decide +kernel
theorem tyX12_ok : ∀ k, k < 2 → parseFieldDescriptor (TX12 k).2.2.1 = some (tyX12 k) := by decide +kernel
abbrev cX12_init : ByteArray := prog_7_method_1_code
def yX12_init : MethodName := ⟨RX12, "<init>", "(LShutDays$Sum;LShutDays$Sum;)V"⟩
def dkwX12_init_0 : List UInt8 := [42, 183, 0, 1, 42, 43, 181, 0, 7, 42, 44, 181, 0, 13, 177]
abbrev dktX12_init_0 : List UInt8 := dkwX12_init_0 ++ []
theorem dksX12_init_0 : cX12_init.data.toList.drop 0 = dktX12_init_0 := by decide +kernel
theorem dX12_init_0 : decode cX12_init 0 = .ok (.aload_n 0, 1) := dk_42 (dk_at dksX12_init_0 0 rfl rfl)
theorem dX12_init_1 : decode cX12_init 1 = .ok (.invokespecial 1, 3) := dk_183 0 1 (dk_at dksX12_init_0 1 rfl rfl)
theorem dX12_init_4 : decode cX12_init 4 = .ok (.aload_n 0, 1) := dk_42 (dk_at dksX12_init_0 4 rfl rfl)
theorem dX12_init_5 : decode cX12_init 5 = .ok (.aload_n 1, 1) := dk_43 (dk_at dksX12_init_0 5 rfl rfl)
theorem dX12_init_6 : decode cX12_init 6 = .ok (.putfield 7, 3) := dk_181 0 7 (dk_at dksX12_init_0 6 rfl rfl)
theorem dX12_init_9 : decode cX12_init 9 = .ok (.aload_n 0, 1) := dk_42 (dk_at dksX12_init_0 9 rfl rfl)
theorem dX12_init_10 : decode cX12_init 10 = .ok (.aload_n 2, 1) := dk_44 (dk_at dksX12_init_0 10 rfl rfl)
theorem dX12_init_11 : decode cX12_init 11 = .ok (.putfield 13, 3) := dk_181 0 13 (dk_at dksX12_init_0 11 rfl rfl)
theorem dX12_init_14 : decode cX12_init 14 = .ok (.return_, 1) := dk_177 (dk_at dksX12_init_0 14 rfl rfl)
abbrev cX12_is : ByteArray := prog_7_method_2_code
def yX12_is : MethodName := ⟨RX12, "is", "([I)Z"⟩
def dkwX12_is_2 : List UInt8 := [9, 148, 154, 0, 7, 4, 167, 0, 4, 3, 172]
abbrev dktX12_is_2 : List UInt8 := dkwX12_is_2 ++ []
def dkwX12_is_1 : List UInt8 := [9, 148, 154, 0, 18, 22, 4, 9, 148, 154, 0, 7, 4, 167, 0, 21, 3, 167, 0, 17, 22, 4, 32, 113]
abbrev dktX12_is_1 : List UInt8 := dkwX12_is_1 ++ dktX12_is_2
def dkwX12_is_0 : List UInt8 := [42, 180, 0, 7, 43, 185, 0, 16, 2, 0, 65, 42, 180, 0, 13, 43, 185, 0, 16, 2, 0, 55, 4, 32]
abbrev dktX12_is_0 : List UInt8 := dkwX12_is_0 ++ dktX12_is_1
theorem dksX12_is_0 : cX12_is.data.toList.drop 0 = dktX12_is_0 := by decide +kernel
theorem dksX12_is_1 : cX12_is.data.toList.drop 24 = dktX12_is_1 := dk_seg dksX12_is_0 24 rfl rfl
theorem dksX12_is_2 : cX12_is.data.toList.drop 48 = dktX12_is_2 := dk_seg dksX12_is_1 24 rfl rfl
theorem dX12_is_0 : decode cX12_is 0 = .ok (.aload_n 0, 1) := dk_42 (dk_at dksX12_is_0 0 rfl rfl)
theorem dX12_is_1 : decode cX12_is 1 = .ok (.getfield 7, 3) := dk_180 0 7 (dk_at dksX12_is_0 1 rfl rfl)
theorem dX12_is_4 : decode cX12_is 4 = .ok (.aload_n 1, 1) := dk_43 (dk_at dksX12_is_0 4 rfl rfl)
theorem dX12_is_5 : decode cX12_is 5 = .ok (.invokeinterface 16 2, 5) := by decide +kernel
theorem dX12_is_10 : decode cX12_is 10 = .ok (.lstore_n 2, 1) := dk_65 (dk_at dksX12_is_0 10 rfl rfl)
theorem dX12_is_11 : decode cX12_is 11 = .ok (.aload_n 0, 1) := dk_42 (dk_at dksX12_is_0 11 rfl rfl)
theorem dX12_is_12 : decode cX12_is 12 = .ok (.getfield 13, 3) := dk_180 0 13 (dk_at dksX12_is_0 12 rfl rfl)
theorem dX12_is_15 : decode cX12_is 15 = .ok (.aload_n 1, 1) := dk_43 (dk_at dksX12_is_0 15 rfl rfl)
theorem dX12_is_16 : decode cX12_is 16 = .ok (.invokeinterface 16 2, 5) := by decide +kernel
theorem dX12_is_21 : decode cX12_is 21 = .ok (.lstore 4, 2) := dk_55 4 (dk_at dksX12_is_0 21 rfl rfl)
theorem dX12_is_23 : decode cX12_is 23 = .ok (.lload_n 2, 1) := dk_32 (dk_at dksX12_is_0 23 rfl rfl)
theorem dX12_is_24 : decode cX12_is 24 = .ok (.lconst 0, 1) := dk_9 (dk_at dksX12_is_1 0 rfl rfl)
theorem dX12_is_25 : decode cX12_is 25 = .ok (.lcmp, 1) := dk_148 (dk_at dksX12_is_1 1 rfl rfl)
theorem dX12_is_26 : decode cX12_is 26 = .ok (.ifCond .ne 18, 3) := dk_154 0 18 (dk_at dksX12_is_1 2 rfl rfl)
theorem dX12_is_29 : decode cX12_is 29 = .ok (.lload 4, 2) := dk_22 4 (dk_at dksX12_is_1 5 rfl rfl)
theorem dX12_is_31 : decode cX12_is 31 = .ok (.lconst 0, 1) := dk_9 (dk_at dksX12_is_1 7 rfl rfl)
theorem dX12_is_32 : decode cX12_is 32 = .ok (.lcmp, 1) := dk_148 (dk_at dksX12_is_1 8 rfl rfl)
theorem dX12_is_33 : decode cX12_is 33 = .ok (.ifCond .ne 7, 3) := dk_154 0 7 (dk_at dksX12_is_1 9 rfl rfl)
theorem dX12_is_36 : decode cX12_is 36 = .ok (.iconst 1, 1) := dk_4 (dk_at dksX12_is_1 12 rfl rfl)
theorem dX12_is_37 : decode cX12_is 37 = .ok (.goto 21, 3) := dk_167 0 21 (dk_at dksX12_is_1 13 rfl rfl)
theorem dX12_is_40 : decode cX12_is 40 = .ok (.iconst 0, 1) := dk_3 (dk_at dksX12_is_1 16 rfl rfl)
theorem dX12_is_41 : decode cX12_is 41 = .ok (.goto 17, 3) := dk_167 0 17 (dk_at dksX12_is_1 17 rfl rfl)
theorem dX12_is_44 : decode cX12_is 44 = .ok (.lload 4, 2) := dk_22 4 (dk_at dksX12_is_1 20 rfl rfl)
theorem dX12_is_46 : decode cX12_is 46 = .ok (.lload_n 2, 1) := dk_32 (dk_at dksX12_is_1 22 rfl rfl)
theorem dX12_is_47 : decode cX12_is 47 = .ok (.lrem, 1) := dk_113 (dk_at dksX12_is_1 23 rfl rfl)
theorem dX12_is_48 : decode cX12_is 48 = .ok (.lconst 0, 1) := dk_9 (dk_at dksX12_is_2 0 rfl rfl)
theorem dX12_is_49 : decode cX12_is 49 = .ok (.lcmp, 1) := dk_148 (dk_at dksX12_is_2 1 rfl rfl)
theorem dX12_is_50 : decode cX12_is 50 = .ok (.ifCond .ne 7, 3) := dk_154 0 7 (dk_at dksX12_is_2 2 rfl rfl)
theorem dX12_is_53 : decode cX12_is 53 = .ok (.iconst 1, 1) := dk_4 (dk_at dksX12_is_2 5 rfl rfl)
theorem dX12_is_54 : decode cX12_is 54 = .ok (.goto 4, 3) := dk_167 0 4 (dk_at dksX12_is_2 6 rfl rfl)
theorem dX12_is_57 : decode cX12_is 57 = .ok (.iconst 0, 1) := dk_3 (dk_at dksX12_is_2 9 rfl rfl)
theorem dX12_is_58 : decode cX12_is 58 = .ok (.ireturn, 1) := dk_172 (dk_at dksX12_is_2 10 rfl rfl)
theorem q167 : (Jvm.Cond.initialized "ShutDays$Divides") ∈ lw_all := lw_g (lw_at lw_m1 30 rfl) rfl
theorem q684 : (Jvm.Cond.selects "ShutDays$Divides" ({ cls := "java/lang/Object", name := "getClass", desc := "()Ljava/lang/Class;" } : Jvm.MethodName) ({ cls := "java/lang/Object", name := "getClass", desc := "()Ljava/lang/Class;" } : Jvm.MethodName)) ∈ lw_all := lw_g (lw_at lw_m3 67 rfl) rfl
theorem q745 : (Jvm.Cond.instantiable "ShutDays$Divides" (2 : Nat)) ∈ lw_all := lw_g (lw_at lw_m3 128 rfl) rfl
theorem q747 : (Jvm.Cond.instanceMethod ({ cls := "ShutDays$Divides", name := "<init>", desc := "(LShutDays$Sum;LShutDays$Sum;)V" } : Jvm.MethodName)) ∈ lw_all := lw_g (lw_at lw_m3 130 rfl) rfl
theorem q748 : (Jvm.Cond.code ({ cls := "ShutDays$Divides", name := "<init>", desc := "(LShutDays$Sum;LShutDays$Sum;)V" } : Jvm.MethodName) prog_7_method_1_code (3 : Nat) (Option.none : Option Jvm.ClassFile.FieldType)) ∈ lw_all := lw_g (lw_at lw_m3 131 rfl) rfl
theorem q749 : (Jvm.Cond.methodLink "ShutDays$Divides" (1 : Nat) ({ cls := "java/lang/Record", name := "<init>", desc := "()V" } : Jvm.MethodName)) ∈ lw_all := lw_g (lw_at lw_m3 132 rfl) rfl
theorem q750 : (Jvm.Cond.fieldLink "ShutDays$Divides" (7 : Nat) "ShutDays$Divides" "a" "LShutDays$Sum;") ∈ lw_all := lw_g (lw_at lw_m3 133 rfl) rfl
theorem q751 : (Jvm.Cond.fieldLink "ShutDays$Divides" (13 : Nat) "ShutDays$Divides" "b" "LShutDays$Sum;") ∈ lw_all := lw_g (lw_at lw_m3 134 rfl) rfl
theorem q752 : (Jvm.Cond.laysFinal "ShutDays$Divides" "ShutDays$Divides" "a" "LShutDays$Sum;") ∈ lw_all := lw_g (lw_at lw_m3 135 rfl) rfl
theorem q753 : (Jvm.Cond.soleField "ShutDays$Divides" "a") ∈ lw_all := lw_g (lw_at lw_m3 136 rfl) rfl
theorem q754 : (Jvm.Cond.laysFinal "ShutDays$Divides" "ShutDays$Divides" "b" "LShutDays$Sum;") ∈ lw_all := lw_g (lw_at lw_m3 137 rfl) rfl
theorem q755 : (Jvm.Cond.soleField "ShutDays$Divides" "b") ∈ lw_all := lw_g (lw_at lw_m3 138 rfl) rfl
theorem q756 : (Jvm.Cond.superclass "ShutDays$Divides" "java/lang/Record") ∈ lw_all := lw_g (lw_at lw_m3 139 rfl) rfl
theorem q1015 : (Jvm.Cond.castable "ShutDays$Divides" "ShutDays$Asked") ∈ lw_tbl := lw_at lw_m4 158 rfl
theorem q1016 : (Jvm.Cond.selects "ShutDays$Divides" ({ cls := "ShutDays$Asked", name := "is", desc := "([I)Z" } : Jvm.MethodName) ({ cls := "ShutDays$Divides", name := "is", desc := "([I)Z" } : Jvm.MethodName)) ∈ lw_all := lw_g (lw_at lw_m4 159 rfl) rfl
theorem q1017 : (Jvm.Cond.unhidden "ShutDays$Divides" "is" "([I)Z") ∈ lw_tbl := lw_at lw_m4 160 rfl
theorem q1018 : (Jvm.Cond.instanceMethod ({ cls := "ShutDays$Divides", name := "is", desc := "([I)Z" } : Jvm.MethodName)) ∈ lw_all := lw_g (lw_at lw_m4 161 rfl) rfl
theorem q1019 : (Jvm.Cond.publicMethod ({ cls := "ShutDays$Divides", name := "is", desc := "([I)Z" } : Jvm.MethodName)) ∈ lw_tbl := lw_at lw_m4 162 rfl
theorem q1020 : (Jvm.Cond.code ({ cls := "ShutDays$Divides", name := "is", desc := "([I)Z" } : Jvm.MethodName) prog_7_method_2_code (6 : Nat) (Option.some Jvm.ClassFile.FieldType.boolean)) ∈ lw_all := lw_g (lw_at lw_m4 163 rfl) rfl
theorem q1021 : (Jvm.Cond.interfaceEntry "ShutDays$Divides" (16 : Nat)) ∈ lw_tbl := lw_at lw_m4 164 rfl
theorem q1022 : (Jvm.Cond.methodLink "ShutDays$Divides" (16 : Nat) ({ cls := "ShutDays$Sum", name := "of", desc := "([I)J" } : Jvm.MethodName)) ∈ lw_all := lw_g (lw_at lw_m4 165 rfl) rfl
theorem q2042 : (Jvm.Cond.castable "ShutDays$Divides" "java/lang/Object") ∈ lw_tbl := lw_at lw_m8 225 rfl
theorem in_X12 : ∀ w ∈ wsX120, w ∈ lw_all := lw_in wsX120 [752, 754] (by decide +kernel) (by decide +kernel)
/-! ShutDays$Compared -/
set_option maxRecDepth 100000
def RX13 : String := "ShutDays$Compared"
def TX13 : u_T := fun k => match k with
  | 0 => ("ShutDays$Compared", "sign", "I", true)
  | 1 => ("ShutDays$Compared", "a", "LShutDays$Sum;", true)
  | _ => ("ShutDays$Compared", "b", "LShutDays$Sum;", true)
def tyX13 : Nat → FieldType := fun k => match k with
  | 0 => .int
  | 1 => .object "ShutDays$Sum"
  | _ => .object "ShutDays$Sum"
abbrev wsX130 : List Cond := u_ws RX13 TX13 3
theorem nmX13 : ∀ a, a < 3 → ∀ b, b < 3 → a ≠ b → (TX13 a).2.1 ≠ (TX13 b).2.1 := by decide +kernel
theorem tyX13_ok : ∀ k, k < 3 → parseFieldDescriptor (TX13 k).2.2.1 = some (tyX13 k) := by decide +kernel
abbrev cX13_init : ByteArray := prog_5_method_1_code
def yX13_init : MethodName := ⟨RX13, "<init>", "(ILShutDays$Sum;LShutDays$Sum;)V"⟩
def dkwX13_init_0 : List UInt8 := [42, 183, 0, 1, 42, 27, 181, 0, 7, 42, 44, 181, 0, 13, 42, 45, 181, 0, 17, 177]
abbrev dktX13_init_0 : List UInt8 := dkwX13_init_0 ++ []
theorem dksX13_init_0 : cX13_init.data.toList.drop 0 = dktX13_init_0 := by decide +kernel
theorem dX13_init_0 : decode cX13_init 0 = .ok (.aload_n 0, 1) := dk_42 (dk_at dksX13_init_0 0 rfl rfl)
theorem dX13_init_1 : decode cX13_init 1 = .ok (.invokespecial 1, 3) := dk_183 0 1 (dk_at dksX13_init_0 1 rfl rfl)
theorem dX13_init_4 : decode cX13_init 4 = .ok (.aload_n 0, 1) := dk_42 (dk_at dksX13_init_0 4 rfl rfl)
theorem dX13_init_5 : decode cX13_init 5 = .ok (.iload_n 1, 1) := dk_27 (dk_at dksX13_init_0 5 rfl rfl)
theorem dX13_init_6 : decode cX13_init 6 = .ok (.putfield 7, 3) := dk_181 0 7 (dk_at dksX13_init_0 6 rfl rfl)
theorem dX13_init_9 : decode cX13_init 9 = .ok (.aload_n 0, 1) := dk_42 (dk_at dksX13_init_0 9 rfl rfl)
theorem dX13_init_10 : decode cX13_init 10 = .ok (.aload_n 2, 1) := dk_44 (dk_at dksX13_init_0 10 rfl rfl)
theorem dX13_init_11 : decode cX13_init 11 = .ok (.putfield 13, 3) := dk_181 0 13 (dk_at dksX13_init_0 11 rfl rfl)
theorem dX13_init_14 : decode cX13_init 14 = .ok (.aload_n 0, 1) := dk_42 (dk_at dksX13_init_0 14 rfl rfl)
theorem dX13_init_15 : decode cX13_init 15 = .ok (.aload_n 3, 1) := dk_45 (dk_at dksX13_init_0 15 rfl rfl)
theorem dX13_init_16 : decode cX13_init 16 = .ok (.putfield 17, 3) := dk_181 0 17 (dk_at dksX13_init_0 16 rfl rfl)
theorem dX13_init_19 : decode cX13_init 19 = .ok (.return_, 1) := dk_177 (dk_at dksX13_init_0 19 rfl rfl)
abbrev cX13_is : ByteArray := prog_5_method_2_code
def yX13_is : MethodName := ⟨RX13, "is", "([I)Z"⟩
def dkwX13_is_5 : List UInt8 := [32, 9, 148, 157, 0, 7, 4, 167, 0, 4, 3, 172, 32, 9, 148, 155, 0, 7, 4, 167, 0, 4, 3, 172]
abbrev dktX13_is_5 : List UInt8 := dkwX13_is_5 ++ []
def dkwX13_is_4 : List UInt8 := [32, 9, 148, 154, 0, 7, 4, 167, 0, 4, 3, 172, 32, 9, 148, 153, 0, 7, 4, 167, 0, 4, 3, 172]
abbrev dktX13_is_4 : List UInt8 := dkwX13_is_4 ++ dktX13_is_5
def dkwX13_is_3 : List UInt8 := [32, 9, 148, 156, 0, 7, 4, 167, 0, 4, 3, 172, 32, 9, 148, 158, 0, 7, 4, 167, 0, 4, 3, 172]
abbrev dktX13_is_3 : List UInt8 := dkwX13_is_3 ++ dktX13_is_4
def dkwX13_is_2 : List UInt8 := [171, 0, 0, 0, 0, 110, 0, 0, 0, 5, 0, 0, 0, 35, 0, 0, 0, 86, 0, 0, 0, 60, 0, 0, 0, 50, 0, 0, 0, 61, 0, 0, 0, 74, 0, 0, 0, 62, 0, 0, 0, 62, 0, 0, 1, 47, 0, 0, 0, 98]
abbrev dktX13_is_2 : List UInt8 := dkwX13_is_2 ++ dktX13_is_3
def dkwX13_is_1 : List UInt8 := [180, 0, 7]
abbrev dktX13_is_1 : List UInt8 := dkwX13_is_1 ++ dktX13_is_2
def dkwX13_is_0 : List UInt8 := [42, 180, 0, 13, 43, 185, 0, 20, 2, 0, 42, 180, 0, 17, 43, 185, 0, 20, 2, 0, 101, 65, 42]
abbrev dktX13_is_0 : List UInt8 := dkwX13_is_0 ++ dktX13_is_1
theorem dksX13_is_0 : cX13_is.data.toList.drop 0 = dktX13_is_0 := by decide +kernel
theorem dksX13_is_1 : cX13_is.data.toList.drop 23 = dktX13_is_1 := dk_seg dksX13_is_0 23 rfl rfl
theorem dksX13_is_2 : cX13_is.data.toList.drop 26 = dktX13_is_2 := dk_seg dksX13_is_1 3 rfl rfl
theorem dksX13_is_3 : cX13_is.data.toList.drop 76 = dktX13_is_3 := dk_seg dksX13_is_2 50 rfl rfl
theorem dksX13_is_4 : cX13_is.data.toList.drop 100 = dktX13_is_4 := dk_seg dksX13_is_3 24 rfl rfl
theorem dksX13_is_5 : cX13_is.data.toList.drop 124 = dktX13_is_5 := dk_seg dksX13_is_4 24 rfl rfl
theorem dX13_is_0 : decode cX13_is 0 = .ok (.aload_n 0, 1) := dk_42 (dk_at dksX13_is_0 0 rfl rfl)
theorem dX13_is_1 : decode cX13_is 1 = .ok (.getfield 13, 3) := dk_180 0 13 (dk_at dksX13_is_0 1 rfl rfl)
theorem dX13_is_4 : decode cX13_is 4 = .ok (.aload_n 1, 1) := dk_43 (dk_at dksX13_is_0 4 rfl rfl)
theorem dX13_is_5 : decode cX13_is 5 = .ok (.invokeinterface 20 2, 5) := by decide +kernel
theorem dX13_is_10 : decode cX13_is 10 = .ok (.aload_n 0, 1) := dk_42 (dk_at dksX13_is_0 10 rfl rfl)
theorem dX13_is_11 : decode cX13_is 11 = .ok (.getfield 17, 3) := dk_180 0 17 (dk_at dksX13_is_0 11 rfl rfl)
theorem dX13_is_14 : decode cX13_is 14 = .ok (.aload_n 1, 1) := dk_43 (dk_at dksX13_is_0 14 rfl rfl)
theorem dX13_is_15 : decode cX13_is 15 = .ok (.invokeinterface 20 2, 5) := by decide +kernel
theorem dX13_is_20 : decode cX13_is 20 = .ok (.lsub, 1) := dk_101 (dk_at dksX13_is_0 20 rfl rfl)
theorem dX13_is_21 : decode cX13_is 21 = .ok (.lstore_n 2, 1) := dk_65 (dk_at dksX13_is_0 21 rfl rfl)
theorem dX13_is_22 : decode cX13_is 22 = .ok (.aload_n 0, 1) := dk_42 (dk_at dksX13_is_0 22 rfl rfl)
theorem dX13_is_23 : decode cX13_is 23 = .ok (.getfield 7, 3) := dk_180 0 7 (dk_at dksX13_is_1 0 rfl rfl)
theorem dX13_is_26 : decode cX13_is 26 = .ok (.lookupswitch 110 #[(35, 86), (60, 50), (61, 74), (62, 62), (303, 98)], 50) := by decide +kernel
theorem dX13_is_76 : decode cX13_is 76 = .ok (.lload_n 2, 1) := dk_32 (dk_at dksX13_is_3 0 rfl rfl)
theorem dX13_is_77 : decode cX13_is 77 = .ok (.lconst 0, 1) := dk_9 (dk_at dksX13_is_3 1 rfl rfl)
theorem dX13_is_78 : decode cX13_is 78 = .ok (.lcmp, 1) := dk_148 (dk_at dksX13_is_3 2 rfl rfl)
theorem dX13_is_79 : decode cX13_is 79 = .ok (.ifCond .ge 7, 3) := dk_156 0 7 (dk_at dksX13_is_3 3 rfl rfl)
theorem dX13_is_82 : decode cX13_is 82 = .ok (.iconst 1, 1) := dk_4 (dk_at dksX13_is_3 6 rfl rfl)
theorem dX13_is_83 : decode cX13_is 83 = .ok (.goto 4, 3) := dk_167 0 4 (dk_at dksX13_is_3 7 rfl rfl)
theorem dX13_is_86 : decode cX13_is 86 = .ok (.iconst 0, 1) := dk_3 (dk_at dksX13_is_3 10 rfl rfl)
theorem dX13_is_87 : decode cX13_is 87 = .ok (.ireturn, 1) := dk_172 (dk_at dksX13_is_3 11 rfl rfl)
theorem dX13_is_88 : decode cX13_is 88 = .ok (.lload_n 2, 1) := dk_32 (dk_at dksX13_is_3 12 rfl rfl)
theorem dX13_is_89 : decode cX13_is 89 = .ok (.lconst 0, 1) := dk_9 (dk_at dksX13_is_3 13 rfl rfl)
theorem dX13_is_90 : decode cX13_is 90 = .ok (.lcmp, 1) := dk_148 (dk_at dksX13_is_3 14 rfl rfl)
theorem dX13_is_91 : decode cX13_is 91 = .ok (.ifCond .le 7, 3) := dk_158 0 7 (dk_at dksX13_is_3 15 rfl rfl)
theorem dX13_is_94 : decode cX13_is 94 = .ok (.iconst 1, 1) := dk_4 (dk_at dksX13_is_3 18 rfl rfl)
theorem dX13_is_95 : decode cX13_is 95 = .ok (.goto 4, 3) := dk_167 0 4 (dk_at dksX13_is_3 19 rfl rfl)
theorem dX13_is_98 : decode cX13_is 98 = .ok (.iconst 0, 1) := dk_3 (dk_at dksX13_is_3 22 rfl rfl)
theorem dX13_is_99 : decode cX13_is 99 = .ok (.ireturn, 1) := dk_172 (dk_at dksX13_is_3 23 rfl rfl)
theorem dX13_is_100 : decode cX13_is 100 = .ok (.lload_n 2, 1) := dk_32 (dk_at dksX13_is_4 0 rfl rfl)
theorem dX13_is_101 : decode cX13_is 101 = .ok (.lconst 0, 1) := dk_9 (dk_at dksX13_is_4 1 rfl rfl)
theorem dX13_is_102 : decode cX13_is 102 = .ok (.lcmp, 1) := dk_148 (dk_at dksX13_is_4 2 rfl rfl)
theorem dX13_is_103 : decode cX13_is 103 = .ok (.ifCond .ne 7, 3) := dk_154 0 7 (dk_at dksX13_is_4 3 rfl rfl)
theorem dX13_is_106 : decode cX13_is 106 = .ok (.iconst 1, 1) := dk_4 (dk_at dksX13_is_4 6 rfl rfl)
theorem dX13_is_107 : decode cX13_is 107 = .ok (.goto 4, 3) := dk_167 0 4 (dk_at dksX13_is_4 7 rfl rfl)
theorem dX13_is_110 : decode cX13_is 110 = .ok (.iconst 0, 1) := dk_3 (dk_at dksX13_is_4 10 rfl rfl)
theorem dX13_is_111 : decode cX13_is 111 = .ok (.ireturn, 1) := dk_172 (dk_at dksX13_is_4 11 rfl rfl)
theorem dX13_is_112 : decode cX13_is 112 = .ok (.lload_n 2, 1) := dk_32 (dk_at dksX13_is_4 12 rfl rfl)
theorem dX13_is_113 : decode cX13_is 113 = .ok (.lconst 0, 1) := dk_9 (dk_at dksX13_is_4 13 rfl rfl)
theorem dX13_is_114 : decode cX13_is 114 = .ok (.lcmp, 1) := dk_148 (dk_at dksX13_is_4 14 rfl rfl)
theorem dX13_is_115 : decode cX13_is 115 = .ok (.ifCond .eq 7, 3) := dk_153 0 7 (dk_at dksX13_is_4 15 rfl rfl)
theorem dX13_is_118 : decode cX13_is 118 = .ok (.iconst 1, 1) := dk_4 (dk_at dksX13_is_4 18 rfl rfl)
theorem dX13_is_119 : decode cX13_is 119 = .ok (.goto 4, 3) := dk_167 0 4 (dk_at dksX13_is_4 19 rfl rfl)
theorem dX13_is_122 : decode cX13_is 122 = .ok (.iconst 0, 1) := dk_3 (dk_at dksX13_is_4 22 rfl rfl)
theorem dX13_is_123 : decode cX13_is 123 = .ok (.ireturn, 1) := dk_172 (dk_at dksX13_is_4 23 rfl rfl)
theorem dX13_is_124 : decode cX13_is 124 = .ok (.lload_n 2, 1) := dk_32 (dk_at dksX13_is_5 0 rfl rfl)
theorem dX13_is_125 : decode cX13_is 125 = .ok (.lconst 0, 1) := dk_9 (dk_at dksX13_is_5 1 rfl rfl)
theorem dX13_is_126 : decode cX13_is 126 = .ok (.lcmp, 1) := dk_148 (dk_at dksX13_is_5 2 rfl rfl)
theorem dX13_is_127 : decode cX13_is 127 = .ok (.ifCond .gt 7, 3) := dk_157 0 7 (dk_at dksX13_is_5 3 rfl rfl)
theorem dX13_is_130 : decode cX13_is 130 = .ok (.iconst 1, 1) := dk_4 (dk_at dksX13_is_5 6 rfl rfl)
theorem dX13_is_131 : decode cX13_is 131 = .ok (.goto 4, 3) := dk_167 0 4 (dk_at dksX13_is_5 7 rfl rfl)
theorem dX13_is_134 : decode cX13_is 134 = .ok (.iconst 0, 1) := dk_3 (dk_at dksX13_is_5 10 rfl rfl)
theorem dX13_is_135 : decode cX13_is 135 = .ok (.ireturn, 1) := dk_172 (dk_at dksX13_is_5 11 rfl rfl)
theorem dX13_is_136 : decode cX13_is 136 = .ok (.lload_n 2, 1) := dk_32 (dk_at dksX13_is_5 12 rfl rfl)
theorem dX13_is_137 : decode cX13_is 137 = .ok (.lconst 0, 1) := dk_9 (dk_at dksX13_is_5 13 rfl rfl)
theorem dX13_is_138 : decode cX13_is 138 = .ok (.lcmp, 1) := dk_148 (dk_at dksX13_is_5 14 rfl rfl)
theorem dX13_is_139 : decode cX13_is 139 = .ok (.ifCond .lt 7, 3) := dk_155 0 7 (dk_at dksX13_is_5 15 rfl rfl)
theorem dX13_is_142 : decode cX13_is 142 = .ok (.iconst 1, 1) := dk_4 (dk_at dksX13_is_5 18 rfl rfl)
theorem dX13_is_143 : decode cX13_is 143 = .ok (.goto 4, 3) := dk_167 0 4 (dk_at dksX13_is_5 19 rfl rfl)
theorem dX13_is_146 : decode cX13_is 146 = .ok (.iconst 0, 1) := dk_3 (dk_at dksX13_is_5 22 rfl rfl)
theorem dX13_is_147 : decode cX13_is 147 = .ok (.ireturn, 1) := dk_172 (dk_at dksX13_is_5 23 rfl rfl)
theorem q168 : (Jvm.Cond.initialized "ShutDays$Compared") ∈ lw_all := lw_g (lw_at lw_m1 31 rfl) rfl
theorem q682 : (Jvm.Cond.selects "ShutDays$Compared" ({ cls := "java/lang/Object", name := "getClass", desc := "()Ljava/lang/Class;" } : Jvm.MethodName) ({ cls := "java/lang/Object", name := "getClass", desc := "()Ljava/lang/Class;" } : Jvm.MethodName)) ∈ lw_all := lw_g (lw_at lw_m3 65 rfl) rfl
theorem q758 : (Jvm.Cond.instantiable "ShutDays$Compared" (3 : Nat)) ∈ lw_all := lw_g (lw_at lw_m3 141 rfl) rfl
theorem q760 : (Jvm.Cond.instanceMethod ({ cls := "ShutDays$Compared", name := "<init>", desc := "(ILShutDays$Sum;LShutDays$Sum;)V" } : Jvm.MethodName)) ∈ lw_all := lw_g (lw_at lw_m3 143 rfl) rfl
theorem q761 : (Jvm.Cond.code ({ cls := "ShutDays$Compared", name := "<init>", desc := "(ILShutDays$Sum;LShutDays$Sum;)V" } : Jvm.MethodName) prog_5_method_1_code (4 : Nat) (Option.none : Option Jvm.ClassFile.FieldType)) ∈ lw_all := lw_g (lw_at lw_m3 144 rfl) rfl
theorem q762 : (Jvm.Cond.methodLink "ShutDays$Compared" (1 : Nat) ({ cls := "java/lang/Record", name := "<init>", desc := "()V" } : Jvm.MethodName)) ∈ lw_all := lw_g (lw_at lw_m3 145 rfl) rfl
theorem q763 : (Jvm.Cond.fieldLink "ShutDays$Compared" (7 : Nat) "ShutDays$Compared" "sign" "I") ∈ lw_all := lw_g (lw_at lw_m3 146 rfl) rfl
theorem q764 : (Jvm.Cond.fieldLink "ShutDays$Compared" (13 : Nat) "ShutDays$Compared" "a" "LShutDays$Sum;") ∈ lw_all := lw_g (lw_at lw_m3 147 rfl) rfl
theorem q765 : (Jvm.Cond.fieldLink "ShutDays$Compared" (17 : Nat) "ShutDays$Compared" "b" "LShutDays$Sum;") ∈ lw_all := lw_g (lw_at lw_m3 148 rfl) rfl
theorem q766 : (Jvm.Cond.laysFinal "ShutDays$Compared" "ShutDays$Compared" "sign" "I") ∈ lw_all := lw_g (lw_at lw_m3 149 rfl) rfl
theorem q767 : (Jvm.Cond.soleField "ShutDays$Compared" "sign") ∈ lw_all := lw_g (lw_at lw_m3 150 rfl) rfl
theorem q768 : (Jvm.Cond.laysFinal "ShutDays$Compared" "ShutDays$Compared" "a" "LShutDays$Sum;") ∈ lw_all := lw_g (lw_at lw_m3 151 rfl) rfl
theorem q769 : (Jvm.Cond.soleField "ShutDays$Compared" "a") ∈ lw_all := lw_g (lw_at lw_m3 152 rfl) rfl
theorem q770 : (Jvm.Cond.laysFinal "ShutDays$Compared" "ShutDays$Compared" "b" "LShutDays$Sum;") ∈ lw_all := lw_g (lw_at lw_m3 153 rfl) rfl
theorem q771 : (Jvm.Cond.soleField "ShutDays$Compared" "b") ∈ lw_all := lw_g (lw_at lw_m3 154 rfl) rfl
theorem q772 : (Jvm.Cond.superclass "ShutDays$Compared" "java/lang/Record") ∈ lw_all := lw_g (lw_at lw_m3 155 rfl) rfl
theorem q1007 : (Jvm.Cond.castable "ShutDays$Compared" "ShutDays$Asked") ∈ lw_tbl := lw_at lw_m4 150 rfl
theorem q1008 : (Jvm.Cond.selects "ShutDays$Compared" ({ cls := "ShutDays$Asked", name := "is", desc := "([I)Z" } : Jvm.MethodName) ({ cls := "ShutDays$Compared", name := "is", desc := "([I)Z" } : Jvm.MethodName)) ∈ lw_all := lw_g (lw_at lw_m4 151 rfl) rfl
theorem q1009 : (Jvm.Cond.unhidden "ShutDays$Compared" "is" "([I)Z") ∈ lw_tbl := lw_at lw_m4 152 rfl
theorem q1010 : (Jvm.Cond.instanceMethod ({ cls := "ShutDays$Compared", name := "is", desc := "([I)Z" } : Jvm.MethodName)) ∈ lw_all := lw_g (lw_at lw_m4 153 rfl) rfl
theorem q1011 : (Jvm.Cond.publicMethod ({ cls := "ShutDays$Compared", name := "is", desc := "([I)Z" } : Jvm.MethodName)) ∈ lw_tbl := lw_at lw_m4 154 rfl
theorem q1012 : (Jvm.Cond.code ({ cls := "ShutDays$Compared", name := "is", desc := "([I)Z" } : Jvm.MethodName) prog_5_method_2_code (4 : Nat) (Option.some Jvm.ClassFile.FieldType.boolean)) ∈ lw_all := lw_g (lw_at lw_m4 155 rfl) rfl
theorem q1013 : (Jvm.Cond.interfaceEntry "ShutDays$Compared" (20 : Nat)) ∈ lw_tbl := lw_at lw_m4 156 rfl
theorem q1014 : (Jvm.Cond.methodLink "ShutDays$Compared" (20 : Nat) ({ cls := "ShutDays$Sum", name := "of", desc := "([I)J" } : Jvm.MethodName)) ∈ lw_all := lw_g (lw_at lw_m4 157 rfl) rfl
theorem q2043 : (Jvm.Cond.castable "ShutDays$Compared" "java/lang/Object") ∈ lw_tbl := lw_at lw_m8 226 rfl
theorem in_X13 : ∀ w ∈ wsX130, w ∈ lw_all := lw_in wsX130 [766, 768, 770] (by decide +kernel) (by decide +kernel)
/-! ShutDays$All -/
set_option maxRecDepth 100000
def RX14 : String := "ShutDays$All"
def TX14 : u_T := fun k => match k with
  | 0 => ("ShutDays$All", "and", "Z", true)
  | _ => ("ShutDays$All", "of", "Ljava/util/ArrayList;", true)
def tyX14 : Nat → FieldType := fun k => match k with
  | 0 => .boolean
  | _ => .object "java/util/ArrayList"
abbrev wsX140 : List Cond := u_ws RX14 TX14 2
theorem nmX14 : ∀ a, a < 2 → ∀ b, b < 2 → a ≠ b → (TX14 a).2.1 ≠ (TX14 b).2.1 := by decide +kernel
theorem tyX14_ok : ∀ k, k < 2 → parseFieldDescriptor (TX14 k).2.2.1 = some (tyX14 k) := by decide +kernel
abbrev cX14_init : ByteArray := prog_2_method_1_code
def yX14_init : MethodName := ⟨RX14, "<init>", "(ZLjava/util/ArrayList;)V"⟩
def dkwX14_init_0 : List UInt8 := [42, 183, 0, 1, 42, 27, 181, 0, 7, 42, 44, 181, 0, 13, 177]
abbrev dktX14_init_0 : List UInt8 := dkwX14_init_0 ++ []
theorem dksX14_init_0 : cX14_init.data.toList.drop 0 = dktX14_init_0 := by decide +kernel
theorem dX14_init_0 : decode cX14_init 0 = .ok (.aload_n 0, 1) := dk_42 (dk_at dksX14_init_0 0 rfl rfl)
theorem dX14_init_1 : decode cX14_init 1 = .ok (.invokespecial 1, 3) := dk_183 0 1 (dk_at dksX14_init_0 1 rfl rfl)
theorem dX14_init_4 : decode cX14_init 4 = .ok (.aload_n 0, 1) := dk_42 (dk_at dksX14_init_0 4 rfl rfl)
theorem dX14_init_5 : decode cX14_init 5 = .ok (.iload_n 1, 1) := dk_27 (dk_at dksX14_init_0 5 rfl rfl)
theorem dX14_init_6 : decode cX14_init 6 = .ok (.putfield 7, 3) := dk_181 0 7 (dk_at dksX14_init_0 6 rfl rfl)
theorem dX14_init_9 : decode cX14_init 9 = .ok (.aload_n 0, 1) := dk_42 (dk_at dksX14_init_0 9 rfl rfl)
theorem dX14_init_10 : decode cX14_init 10 = .ok (.aload_n 2, 1) := dk_44 (dk_at dksX14_init_0 10 rfl rfl)
theorem dX14_init_11 : decode cX14_init 11 = .ok (.putfield 13, 3) := dk_181 0 13 (dk_at dksX14_init_0 11 rfl rfl)
theorem dX14_init_14 : decode cX14_init 14 = .ok (.return_, 1) := dk_177 (dk_at dksX14_init_0 14 rfl rfl)
abbrev cX14_is : ByteArray := prog_2_method_2_code
def yX14_is : MethodName := ⟨RX14, "is", "([I)Z"⟩
def dkwX14_is_3 : List UInt8 := [167, 0, 16, 3, 167, 0, 12, 28, 158, 0, 7, 4, 167, 0, 4, 3, 172]
abbrev dktX14_is_3 : List UInt8 := dkwX14_is_3 ++ []
def dkwX14_is_2 : List UInt8 := [167, 255, 214, 42, 180, 0, 7, 153, 0, 22, 28, 42, 180, 0, 13, 182, 0, 17, 160, 0, 7, 4]
abbrev dktX14_is_2 : List UInt8 := dkwX14_is_2 ++ dktX14_is_3
def dkwX14_is_1 : List UInt8 := [192, 0, 27, 43, 185, 0, 29, 2, 0, 153, 0, 7, 4, 167, 0, 4, 3, 96, 61, 132, 3, 1]
abbrev dktX14_is_1 : List UInt8 := dkwX14_is_1 ++ dktX14_is_2
def dkwX14_is_0 : List UInt8 := [3, 61, 3, 62, 29, 42, 180, 0, 13, 182, 0, 17, 162, 0, 37, 28, 42, 180, 0, 13, 29, 182, 0, 23]
abbrev dktX14_is_0 : List UInt8 := dkwX14_is_0 ++ dktX14_is_1
theorem dksX14_is_0 : cX14_is.data.toList.drop 0 = dktX14_is_0 := by decide +kernel
theorem dksX14_is_1 : cX14_is.data.toList.drop 24 = dktX14_is_1 := dk_seg dksX14_is_0 24 rfl rfl
theorem dksX14_is_2 : cX14_is.data.toList.drop 46 = dktX14_is_2 := dk_seg dksX14_is_1 22 rfl rfl
theorem dksX14_is_3 : cX14_is.data.toList.drop 68 = dktX14_is_3 := dk_seg dksX14_is_2 22 rfl rfl
theorem dX14_is_0 : decode cX14_is 0 = .ok (.iconst 0, 1) := dk_3 (dk_at dksX14_is_0 0 rfl rfl)
theorem dX14_is_1 : decode cX14_is 1 = .ok (.istore_n 2, 1) := dk_61 (dk_at dksX14_is_0 1 rfl rfl)
theorem dX14_is_2 : decode cX14_is 2 = .ok (.iconst 0, 1) := dk_3 (dk_at dksX14_is_0 2 rfl rfl)
theorem dX14_is_3 : decode cX14_is 3 = .ok (.istore_n 3, 1) := dk_62 (dk_at dksX14_is_0 3 rfl rfl)
theorem dX14_is_4 : decode cX14_is 4 = .ok (.iload_n 3, 1) := dk_29 (dk_at dksX14_is_0 4 rfl rfl)
theorem dX14_is_5 : decode cX14_is 5 = .ok (.aload_n 0, 1) := dk_42 (dk_at dksX14_is_0 5 rfl rfl)
theorem dX14_is_6 : decode cX14_is 6 = .ok (.getfield 13, 3) := dk_180 0 13 (dk_at dksX14_is_0 6 rfl rfl)
theorem dX14_is_9 : decode cX14_is 9 = .ok (.invokevirtual 17, 3) := dk_182 0 17 (dk_at dksX14_is_0 9 rfl rfl)
theorem dX14_is_12 : decode cX14_is 12 = .ok (.if_icmp .ge 37, 3) := dk_162 0 37 (dk_at dksX14_is_0 12 rfl rfl)
theorem dX14_is_15 : decode cX14_is 15 = .ok (.iload_n 2, 1) := dk_28 (dk_at dksX14_is_0 15 rfl rfl)
theorem dX14_is_16 : decode cX14_is 16 = .ok (.aload_n 0, 1) := dk_42 (dk_at dksX14_is_0 16 rfl rfl)
theorem dX14_is_17 : decode cX14_is 17 = .ok (.getfield 13, 3) := dk_180 0 13 (dk_at dksX14_is_0 17 rfl rfl)
theorem dX14_is_20 : decode cX14_is 20 = .ok (.iload_n 3, 1) := dk_29 (dk_at dksX14_is_0 20 rfl rfl)
theorem dX14_is_21 : decode cX14_is 21 = .ok (.invokevirtual 23, 3) := dk_182 0 23 (dk_at dksX14_is_0 21 rfl rfl)
theorem dX14_is_24 : decode cX14_is 24 = .ok (.checkcast 27, 3) := dk_192 0 27 (dk_at dksX14_is_1 0 rfl rfl)
theorem dX14_is_27 : decode cX14_is 27 = .ok (.aload_n 1, 1) := dk_43 (dk_at dksX14_is_1 3 rfl rfl)
theorem dX14_is_28 : decode cX14_is 28 = .ok (.invokeinterface 29 2, 5) := by decide +kernel
theorem dX14_is_33 : decode cX14_is 33 = .ok (.ifCond .eq 7, 3) := dk_153 0 7 (dk_at dksX14_is_1 9 rfl rfl)
theorem dX14_is_36 : decode cX14_is 36 = .ok (.iconst 1, 1) := dk_4 (dk_at dksX14_is_1 12 rfl rfl)
theorem dX14_is_37 : decode cX14_is 37 = .ok (.goto 4, 3) := dk_167 0 4 (dk_at dksX14_is_1 13 rfl rfl)
theorem dX14_is_40 : decode cX14_is 40 = .ok (.iconst 0, 1) := dk_3 (dk_at dksX14_is_1 16 rfl rfl)
theorem dX14_is_41 : decode cX14_is 41 = .ok (.iadd, 1) := dk_96 (dk_at dksX14_is_1 17 rfl rfl)
theorem dX14_is_42 : decode cX14_is 42 = .ok (.istore_n 2, 1) := dk_61 (dk_at dksX14_is_1 18 rfl rfl)
theorem dX14_is_43 : decode cX14_is 43 = .ok (.iinc 3 1, 3) := dk_132 3 1 (dk_at dksX14_is_1 19 rfl rfl)
theorem dX14_is_46 : decode cX14_is 46 = .ok (.goto (-42), 3) := dk_167 255 214 (dk_at dksX14_is_2 0 rfl rfl)
theorem dX14_is_49 : decode cX14_is 49 = .ok (.aload_n 0, 1) := dk_42 (dk_at dksX14_is_2 3 rfl rfl)
theorem dX14_is_50 : decode cX14_is 50 = .ok (.getfield 7, 3) := dk_180 0 7 (dk_at dksX14_is_2 4 rfl rfl)
theorem dX14_is_53 : decode cX14_is 53 = .ok (.ifCond .eq 22, 3) := dk_153 0 22 (dk_at dksX14_is_2 7 rfl rfl)
theorem dX14_is_56 : decode cX14_is 56 = .ok (.iload_n 2, 1) := dk_28 (dk_at dksX14_is_2 10 rfl rfl)
theorem dX14_is_57 : decode cX14_is 57 = .ok (.aload_n 0, 1) := dk_42 (dk_at dksX14_is_2 11 rfl rfl)
theorem dX14_is_58 : decode cX14_is 58 = .ok (.getfield 13, 3) := dk_180 0 13 (dk_at dksX14_is_2 12 rfl rfl)
theorem dX14_is_61 : decode cX14_is 61 = .ok (.invokevirtual 17, 3) := dk_182 0 17 (dk_at dksX14_is_2 15 rfl rfl)
theorem dX14_is_64 : decode cX14_is 64 = .ok (.if_icmp .ne 7, 3) := dk_160 0 7 (dk_at dksX14_is_2 18 rfl rfl)
theorem dX14_is_67 : decode cX14_is 67 = .ok (.iconst 1, 1) := dk_4 (dk_at dksX14_is_2 21 rfl rfl)
theorem dX14_is_68 : decode cX14_is 68 = .ok (.goto 16, 3) := dk_167 0 16 (dk_at dksX14_is_3 0 rfl rfl)
theorem dX14_is_71 : decode cX14_is 71 = .ok (.iconst 0, 1) := dk_3 (dk_at dksX14_is_3 3 rfl rfl)
theorem dX14_is_72 : decode cX14_is 72 = .ok (.goto 12, 3) := dk_167 0 12 (dk_at dksX14_is_3 4 rfl rfl)
theorem dX14_is_75 : decode cX14_is 75 = .ok (.iload_n 2, 1) := dk_28 (dk_at dksX14_is_3 7 rfl rfl)
theorem dX14_is_76 : decode cX14_is 76 = .ok (.ifCond .le 7, 3) := dk_158 0 7 (dk_at dksX14_is_3 8 rfl rfl)
theorem dX14_is_79 : decode cX14_is 79 = .ok (.iconst 1, 1) := dk_4 (dk_at dksX14_is_3 11 rfl rfl)
theorem dX14_is_80 : decode cX14_is 80 = .ok (.goto 4, 3) := dk_167 0 4 (dk_at dksX14_is_3 12 rfl rfl)
theorem dX14_is_83 : decode cX14_is 83 = .ok (.iconst 0, 1) := dk_3 (dk_at dksX14_is_3 15 rfl rfl)
theorem dX14_is_84 : decode cX14_is 84 = .ok (.ireturn, 1) := dk_172 (dk_at dksX14_is_3 16 rfl rfl)
theorem q170 : (Jvm.Cond.initialized "ShutDays$All") ∈ lw_all := lw_g (lw_at lw_m1 33 rfl) rfl
theorem q680 : (Jvm.Cond.selects "ShutDays$All" ({ cls := "java/lang/Object", name := "getClass", desc := "()Ljava/lang/Class;" } : Jvm.MethodName) ({ cls := "java/lang/Object", name := "getClass", desc := "()Ljava/lang/Class;" } : Jvm.MethodName)) ∈ lw_all := lw_g (lw_at lw_m3 63 rfl) rfl
theorem q792 : (Jvm.Cond.instantiable "ShutDays$All" (2 : Nat)) ∈ lw_all := lw_g (lw_at lw_m3 175 rfl) rfl
theorem q794 : (Jvm.Cond.instanceMethod ({ cls := "ShutDays$All", name := "<init>", desc := "(ZLjava/util/ArrayList;)V" } : Jvm.MethodName)) ∈ lw_all := lw_g (lw_at lw_m3 177 rfl) rfl
theorem q795 : (Jvm.Cond.code ({ cls := "ShutDays$All", name := "<init>", desc := "(ZLjava/util/ArrayList;)V" } : Jvm.MethodName) prog_2_method_1_code (3 : Nat) (Option.none : Option Jvm.ClassFile.FieldType)) ∈ lw_all := lw_g (lw_at lw_m3 178 rfl) rfl
theorem q796 : (Jvm.Cond.methodLink "ShutDays$All" (1 : Nat) ({ cls := "java/lang/Record", name := "<init>", desc := "()V" } : Jvm.MethodName)) ∈ lw_all := lw_g (lw_at lw_m3 179 rfl) rfl
theorem q797 : (Jvm.Cond.fieldLink "ShutDays$All" (7 : Nat) "ShutDays$All" "and" "Z") ∈ lw_all := lw_g (lw_at lw_m3 180 rfl) rfl
theorem q798 : (Jvm.Cond.fieldLink "ShutDays$All" (13 : Nat) "ShutDays$All" "of" "Ljava/util/ArrayList;") ∈ lw_all := lw_g (lw_at lw_m3 181 rfl) rfl
theorem q799 : (Jvm.Cond.laysFinal "ShutDays$All" "ShutDays$All" "and" "Z") ∈ lw_all := lw_g (lw_at lw_m3 182 rfl) rfl
theorem q800 : (Jvm.Cond.soleField "ShutDays$All" "and") ∈ lw_all := lw_g (lw_at lw_m3 183 rfl) rfl
theorem q801 : (Jvm.Cond.laysFinal "ShutDays$All" "ShutDays$All" "of" "Ljava/util/ArrayList;") ∈ lw_all := lw_g (lw_at lw_m3 184 rfl) rfl
theorem q802 : (Jvm.Cond.soleField "ShutDays$All" "of") ∈ lw_all := lw_g (lw_at lw_m3 185 rfl) rfl
theorem q803 : (Jvm.Cond.superclass "ShutDays$All" "java/lang/Record") ∈ lw_all := lw_g (lw_at lw_m3 186 rfl) rfl
theorem q996 : (Jvm.Cond.castable "ShutDays$All" "ShutDays$Asked") ∈ lw_tbl := lw_at lw_m4 139 rfl
theorem q997 : (Jvm.Cond.selects "ShutDays$All" ({ cls := "ShutDays$Asked", name := "is", desc := "([I)Z" } : Jvm.MethodName) ({ cls := "ShutDays$All", name := "is", desc := "([I)Z" } : Jvm.MethodName)) ∈ lw_all := lw_g (lw_at lw_m4 140 rfl) rfl
theorem q998 : (Jvm.Cond.unhidden "ShutDays$All" "is" "([I)Z") ∈ lw_tbl := lw_at lw_m4 141 rfl
theorem q999 : (Jvm.Cond.instanceMethod ({ cls := "ShutDays$All", name := "is", desc := "([I)Z" } : Jvm.MethodName)) ∈ lw_all := lw_g (lw_at lw_m4 142 rfl) rfl
theorem q1000 : (Jvm.Cond.publicMethod ({ cls := "ShutDays$All", name := "is", desc := "([I)Z" } : Jvm.MethodName)) ∈ lw_tbl := lw_at lw_m4 143 rfl
theorem q1001 : (Jvm.Cond.code ({ cls := "ShutDays$All", name := "is", desc := "([I)Z" } : Jvm.MethodName) prog_2_method_2_code (4 : Nat) (Option.some Jvm.ClassFile.FieldType.boolean)) ∈ lw_all := lw_g (lw_at lw_m4 144 rfl) rfl
theorem q1002 : (Jvm.Cond.methodLink "ShutDays$All" (17 : Nat) ({ cls := "java/util/ArrayList", name := "size", desc := "()I" } : Jvm.MethodName)) ∈ lw_all := lw_g (lw_at lw_m4 145 rfl) rfl
theorem q1003 : (Jvm.Cond.methodLink "ShutDays$All" (23 : Nat) ({ cls := "java/util/ArrayList", name := "get", desc := "(I)Ljava/lang/Object;" } : Jvm.MethodName)) ∈ lw_all := lw_g (lw_at lw_m4 146 rfl) rfl
theorem q1004 : (Jvm.Cond.classLink "ShutDays$All" (27 : Nat) "ShutDays$Asked") ∈ lw_all := lw_g (lw_at lw_m4 147 rfl) rfl
theorem q1005 : (Jvm.Cond.interfaceEntry "ShutDays$All" (29 : Nat)) ∈ lw_tbl := lw_at lw_m4 148 rfl
theorem q1006 : (Jvm.Cond.methodLink "ShutDays$All" (29 : Nat) ({ cls := "ShutDays$Asked", name := "is", desc := "([I)Z" } : Jvm.MethodName)) ∈ lw_all := lw_g (lw_at lw_m4 149 rfl) rfl
theorem q2044 : (Jvm.Cond.castable "ShutDays$All" "java/lang/Object") ∈ lw_tbl := lw_at lw_m8 227 rfl
theorem in_X14 : ∀ w ∈ wsX140, w ∈ lw_all := lw_in wsX140 [799, 801] (by decide +kernel) (by decide +kernel)
/-! ShutDays$Doing -/
set_option maxRecDepth 100000
def RX15 : String := "ShutDays$Doing"
def TX15 : u_T := fun k => match k with
  | 0 => ("ShutDays$Doing", "sort", "I", true)
  | 1 => ("ShutDays$Doing", "a", "I", true)
  | 2 => ("ShutDays$Doing", "b", "I", true)
  | 3 => ("ShutDays$Doing", "c", "I", true)
  | _ => ("ShutDays$Doing", "number", "I", true)
def tyX15 : Nat → FieldType := fun k => match k with
  | 0 => .int
  | 1 => .int
  | 2 => .int
  | 3 => .int
  | _ => .int
abbrev wsX150 : List Cond := u_ws RX15 TX15 5
theorem nmX15 : ∀ a, a < 5 → ∀ b, b < 5 → a ≠ b → (TX15 a).2.1 ≠ (TX15 b).2.1 := by decide +kernel
theorem tyX15_ok : ∀ k, k < 5 → parseFieldDescriptor (TX15 k).2.2.1 = some (tyX15 k) := by decide +kernel
abbrev cX15_init : ByteArray := prog_8_method_1_code
def yX15_init : MethodName := ⟨RX15, "<init>", "(IIIII)V"⟩
def dkwX15_init_1 : List UInt8 := [181, 0, 19, 42, 21, 5, 181, 0, 22, 177]
abbrev dktX15_init_1 : List UInt8 := dkwX15_init_1 ++ []
def dkwX15_init_0 : List UInt8 := [42, 183, 0, 1, 42, 27, 181, 0, 7, 42, 28, 181, 0, 13, 42, 29, 181, 0, 16, 42, 21, 4]
abbrev dktX15_init_0 : List UInt8 := dkwX15_init_0 ++ dktX15_init_1
theorem dksX15_init_0 : cX15_init.data.toList.drop 0 = dktX15_init_0 := by decide +kernel
theorem dksX15_init_1 : cX15_init.data.toList.drop 22 = dktX15_init_1 := dk_seg dksX15_init_0 22 rfl rfl
theorem dX15_init_0 : decode cX15_init 0 = .ok (.aload_n 0, 1) := dk_42 (dk_at dksX15_init_0 0 rfl rfl)
theorem dX15_init_1 : decode cX15_init 1 = .ok (.invokespecial 1, 3) := dk_183 0 1 (dk_at dksX15_init_0 1 rfl rfl)
theorem dX15_init_4 : decode cX15_init 4 = .ok (.aload_n 0, 1) := dk_42 (dk_at dksX15_init_0 4 rfl rfl)
theorem dX15_init_5 : decode cX15_init 5 = .ok (.iload_n 1, 1) := dk_27 (dk_at dksX15_init_0 5 rfl rfl)
theorem dX15_init_6 : decode cX15_init 6 = .ok (.putfield 7, 3) := dk_181 0 7 (dk_at dksX15_init_0 6 rfl rfl)
theorem dX15_init_9 : decode cX15_init 9 = .ok (.aload_n 0, 1) := dk_42 (dk_at dksX15_init_0 9 rfl rfl)
theorem dX15_init_10 : decode cX15_init 10 = .ok (.iload_n 2, 1) := dk_28 (dk_at dksX15_init_0 10 rfl rfl)
theorem dX15_init_11 : decode cX15_init 11 = .ok (.putfield 13, 3) := dk_181 0 13 (dk_at dksX15_init_0 11 rfl rfl)
theorem dX15_init_14 : decode cX15_init 14 = .ok (.aload_n 0, 1) := dk_42 (dk_at dksX15_init_0 14 rfl rfl)
theorem dX15_init_15 : decode cX15_init 15 = .ok (.iload_n 3, 1) := dk_29 (dk_at dksX15_init_0 15 rfl rfl)
theorem dX15_init_16 : decode cX15_init 16 = .ok (.putfield 16, 3) := dk_181 0 16 (dk_at dksX15_init_0 16 rfl rfl)
theorem dX15_init_19 : decode cX15_init 19 = .ok (.aload_n 0, 1) := dk_42 (dk_at dksX15_init_0 19 rfl rfl)
theorem dX15_init_20 : decode cX15_init 20 = .ok (.iload 4, 2) := dk_21 4 (dk_at dksX15_init_0 20 rfl rfl)
theorem dX15_init_22 : decode cX15_init 22 = .ok (.putfield 19, 3) := dk_181 0 19 (dk_at dksX15_init_1 0 rfl rfl)
theorem dX15_init_25 : decode cX15_init 25 = .ok (.aload_n 0, 1) := dk_42 (dk_at dksX15_init_1 3 rfl rfl)
theorem dX15_init_26 : decode cX15_init 26 = .ok (.iload 5, 2) := dk_21 5 (dk_at dksX15_init_1 4 rfl rfl)
theorem dX15_init_28 : decode cX15_init 28 = .ok (.putfield 22, 3) := dk_181 0 22 (dk_at dksX15_init_1 6 rfl rfl)
theorem dX15_init_31 : decode cX15_init 31 = .ok (.return_, 1) := dk_177 (dk_at dksX15_init_1 9 rfl rfl)
abbrev cX15_sort : ByteArray := prog_8_method_5_code
def yX15_sort : MethodName := ⟨RX15, "sort", "()I"⟩
theorem dX15_sort_0 : decode cX15_sort 0 = .ok (.aload_n 0, 1) := by decide +kernel
theorem dX15_sort_1 : decode cX15_sort 1 = .ok (.getfield 7, 3) := by decide +kernel
theorem dX15_sort_4 : decode cX15_sort 4 = .ok (.ireturn, 1) := by decide +kernel
abbrev cX15_a : ByteArray := prog_8_method_6_code
def yX15_a : MethodName := ⟨RX15, "a", "()I"⟩
theorem dX15_a_0 : decode cX15_a 0 = .ok (.aload_n 0, 1) := by decide +kernel
theorem dX15_a_1 : decode cX15_a 1 = .ok (.getfield 13, 3) := by decide +kernel
theorem dX15_a_4 : decode cX15_a 4 = .ok (.ireturn, 1) := by decide +kernel
abbrev cX15_b : ByteArray := prog_8_method_7_code
def yX15_b : MethodName := ⟨RX15, "b", "()I"⟩
theorem dX15_b_0 : decode cX15_b 0 = .ok (.aload_n 0, 1) := by decide +kernel
theorem dX15_b_1 : decode cX15_b 1 = .ok (.getfield 16, 3) := by decide +kernel
theorem dX15_b_4 : decode cX15_b 4 = .ok (.ireturn, 1) := by decide +kernel
abbrev cX15_c : ByteArray := prog_8_method_8_code
def yX15_c : MethodName := ⟨RX15, "c", "()I"⟩
theorem dX15_c_0 : decode cX15_c 0 = .ok (.aload_n 0, 1) := by decide +kernel
theorem dX15_c_1 : decode cX15_c 1 = .ok (.getfield 19, 3) := by decide +kernel
theorem dX15_c_4 : decode cX15_c 4 = .ok (.ireturn, 1) := by decide +kernel
abbrev cX15_number : ByteArray := prog_8_method_9_code
def yX15_number : MethodName := ⟨RX15, "number", "()I"⟩
theorem dX15_number_0 : decode cX15_number 0 = .ok (.aload_n 0, 1) := by decide +kernel
theorem dX15_number_1 : decode cX15_number 1 = .ok (.getfield 22, 3) := by decide +kernel
theorem dX15_number_4 : decode cX15_number 4 = .ok (.ireturn, 1) := by decide +kernel
theorem q171 : (Jvm.Cond.initialized "ShutDays$Doing") ∈ lw_all := lw_g (lw_at lw_m1 34 rfl) rfl
theorem q685 : (Jvm.Cond.selects "ShutDays$Doing" ({ cls := "java/lang/Object", name := "getClass", desc := "()Ljava/lang/Class;" } : Jvm.MethodName) ({ cls := "java/lang/Object", name := "getClass", desc := "()Ljava/lang/Class;" } : Jvm.MethodName)) ∈ lw_all := lw_g (lw_at lw_m3 68 rfl) rfl
theorem q813 : (Jvm.Cond.instantiable "ShutDays$Doing" (5 : Nat)) ∈ lw_all := lw_g (lw_at lw_m3 196 rfl) rfl
theorem q815 : (Jvm.Cond.instanceMethod ({ cls := "ShutDays$Doing", name := "<init>", desc := "(IIIII)V" } : Jvm.MethodName)) ∈ lw_all := lw_g (lw_at lw_m3 198 rfl) rfl
theorem q816 : (Jvm.Cond.code ({ cls := "ShutDays$Doing", name := "<init>", desc := "(IIIII)V" } : Jvm.MethodName) prog_8_method_1_code (6 : Nat) (Option.none : Option Jvm.ClassFile.FieldType)) ∈ lw_all := lw_g (lw_at lw_m3 199 rfl) rfl
theorem q817 : (Jvm.Cond.methodLink "ShutDays$Doing" (1 : Nat) ({ cls := "java/lang/Record", name := "<init>", desc := "()V" } : Jvm.MethodName)) ∈ lw_all := lw_g (lw_at lw_m3 200 rfl) rfl
theorem q818 : (Jvm.Cond.fieldLink "ShutDays$Doing" (7 : Nat) "ShutDays$Doing" "sort" "I") ∈ lw_all := lw_g (lw_at lw_m3 201 rfl) rfl
theorem q819 : (Jvm.Cond.fieldLink "ShutDays$Doing" (13 : Nat) "ShutDays$Doing" "a" "I") ∈ lw_all := lw_g (lw_at lw_m3 202 rfl) rfl
theorem q820 : (Jvm.Cond.fieldLink "ShutDays$Doing" (16 : Nat) "ShutDays$Doing" "b" "I") ∈ lw_all := lw_g (lw_at lw_m3 203 rfl) rfl
theorem q821 : (Jvm.Cond.fieldLink "ShutDays$Doing" (19 : Nat) "ShutDays$Doing" "c" "I") ∈ lw_all := lw_g (lw_at lw_m3 204 rfl) rfl
theorem q822 : (Jvm.Cond.fieldLink "ShutDays$Doing" (22 : Nat) "ShutDays$Doing" "number" "I") ∈ lw_all := lw_g (lw_at lw_m3 205 rfl) rfl
theorem q823 : (Jvm.Cond.laysFinal "ShutDays$Doing" "ShutDays$Doing" "sort" "I") ∈ lw_all := lw_g (lw_at lw_m3 206 rfl) rfl
theorem q824 : (Jvm.Cond.soleField "ShutDays$Doing" "sort") ∈ lw_all := lw_g (lw_at lw_m3 207 rfl) rfl
theorem q825 : (Jvm.Cond.laysFinal "ShutDays$Doing" "ShutDays$Doing" "a" "I") ∈ lw_all := lw_g (lw_at lw_m3 208 rfl) rfl
theorem q826 : (Jvm.Cond.soleField "ShutDays$Doing" "a") ∈ lw_all := lw_g (lw_at lw_m3 209 rfl) rfl
theorem q827 : (Jvm.Cond.laysFinal "ShutDays$Doing" "ShutDays$Doing" "b" "I") ∈ lw_all := lw_g (lw_at lw_m3 210 rfl) rfl
theorem q828 : (Jvm.Cond.soleField "ShutDays$Doing" "b") ∈ lw_all := lw_g (lw_at lw_m3 211 rfl) rfl
theorem q829 : (Jvm.Cond.laysFinal "ShutDays$Doing" "ShutDays$Doing" "c" "I") ∈ lw_all := lw_g (lw_at lw_m3 212 rfl) rfl
theorem q830 : (Jvm.Cond.soleField "ShutDays$Doing" "c") ∈ lw_all := lw_g (lw_at lw_m3 213 rfl) rfl
theorem q831 : (Jvm.Cond.laysFinal "ShutDays$Doing" "ShutDays$Doing" "number" "I") ∈ lw_all := lw_g (lw_at lw_m3 214 rfl) rfl
theorem q832 : (Jvm.Cond.soleField "ShutDays$Doing" "number") ∈ lw_all := lw_g (lw_at lw_m3 215 rfl) rfl
theorem q833 : (Jvm.Cond.superclass "ShutDays$Doing" "java/lang/Record") ∈ lw_all := lw_g (lw_at lw_m3 216 rfl) rfl
theorem q1079 : (Jvm.Cond.instanceMethod ({ cls := "ShutDays$Doing", name := "sort", desc := "()I" } : Jvm.MethodName)) ∈ lw_all := lw_g (lw_at lw_m4 222 rfl) rfl
theorem q1080 : (Jvm.Cond.selects "ShutDays$Doing" ({ cls := "ShutDays$Doing", name := "sort", desc := "()I" } : Jvm.MethodName) ({ cls := "ShutDays$Doing", name := "sort", desc := "()I" } : Jvm.MethodName)) ∈ lw_all := lw_g (lw_at lw_m4 223 rfl) rfl
theorem q1081 : (Jvm.Cond.code ({ cls := "ShutDays$Doing", name := "sort", desc := "()I" } : Jvm.MethodName) prog_8_method_5_code (1 : Nat) (Option.some Jvm.ClassFile.FieldType.int)) ∈ lw_all := lw_g (lw_at lw_m4 224 rfl) rfl
theorem q1083 : (Jvm.Cond.instanceMethod ({ cls := "ShutDays$Doing", name := "a", desc := "()I" } : Jvm.MethodName)) ∈ lw_all := lw_g (lw_at lw_m4 226 rfl) rfl
theorem q1084 : (Jvm.Cond.selects "ShutDays$Doing" ({ cls := "ShutDays$Doing", name := "a", desc := "()I" } : Jvm.MethodName) ({ cls := "ShutDays$Doing", name := "a", desc := "()I" } : Jvm.MethodName)) ∈ lw_all := lw_g (lw_at lw_m4 227 rfl) rfl
theorem q1085 : (Jvm.Cond.code ({ cls := "ShutDays$Doing", name := "a", desc := "()I" } : Jvm.MethodName) prog_8_method_6_code (1 : Nat) (Option.some Jvm.ClassFile.FieldType.int)) ∈ lw_all := lw_g (lw_at lw_m4 228 rfl) rfl
theorem q1087 : (Jvm.Cond.instanceMethod ({ cls := "ShutDays$Doing", name := "b", desc := "()I" } : Jvm.MethodName)) ∈ lw_all := lw_g (lw_at lw_m4 230 rfl) rfl
theorem q1088 : (Jvm.Cond.selects "ShutDays$Doing" ({ cls := "ShutDays$Doing", name := "b", desc := "()I" } : Jvm.MethodName) ({ cls := "ShutDays$Doing", name := "b", desc := "()I" } : Jvm.MethodName)) ∈ lw_all := lw_g (lw_at lw_m4 231 rfl) rfl
theorem q1089 : (Jvm.Cond.code ({ cls := "ShutDays$Doing", name := "b", desc := "()I" } : Jvm.MethodName) prog_8_method_7_code (1 : Nat) (Option.some Jvm.ClassFile.FieldType.int)) ∈ lw_all := lw_g (lw_at lw_m4 232 rfl) rfl
theorem q1091 : (Jvm.Cond.instanceMethod ({ cls := "ShutDays$Doing", name := "c", desc := "()I" } : Jvm.MethodName)) ∈ lw_all := lw_g (lw_at lw_m4 234 rfl) rfl
theorem q1092 : (Jvm.Cond.selects "ShutDays$Doing" ({ cls := "ShutDays$Doing", name := "c", desc := "()I" } : Jvm.MethodName) ({ cls := "ShutDays$Doing", name := "c", desc := "()I" } : Jvm.MethodName)) ∈ lw_all := lw_g (lw_at lw_m4 235 rfl) rfl
theorem q1093 : (Jvm.Cond.code ({ cls := "ShutDays$Doing", name := "c", desc := "()I" } : Jvm.MethodName) prog_8_method_8_code (1 : Nat) (Option.some Jvm.ClassFile.FieldType.int)) ∈ lw_all := lw_g (lw_at lw_m4 236 rfl) rfl
theorem q1109 : (Jvm.Cond.instanceMethod ({ cls := "ShutDays$Doing", name := "number", desc := "()I" } : Jvm.MethodName)) ∈ lw_all := lw_g (lw_at lw_m5 12 rfl) rfl
theorem q1110 : (Jvm.Cond.selects "ShutDays$Doing" ({ cls := "ShutDays$Doing", name := "number", desc := "()I" } : Jvm.MethodName) ({ cls := "ShutDays$Doing", name := "number", desc := "()I" } : Jvm.MethodName)) ∈ lw_all := lw_g (lw_at lw_m5 13 rfl) rfl
theorem q1111 : (Jvm.Cond.code ({ cls := "ShutDays$Doing", name := "number", desc := "()I" } : Jvm.MethodName) prog_8_method_9_code (1 : Nat) (Option.some Jvm.ClassFile.FieldType.int)) ∈ lw_all := lw_g (lw_at lw_m5 14 rfl) rfl
theorem q2045 : (Jvm.Cond.castable "ShutDays$Doing" "java/lang/Object") ∈ lw_tbl := lw_at lw_m8 228 rfl
theorem in_X15 : ∀ w ∈ wsX150, w ∈ lw_all := lw_in wsX150 [823, 825, 827, 829, 831] (by decide +kernel) (by decide +kernel)
/-! java/util/AbstractCollection -/
set_option maxRecDepth 100000
def RJ0 : String := "java/util/AbstractCollection"
abbrev cJ0_init : ByteArray := prog_38_method_1_code
def yJ0_init : MethodName := ⟨RJ0, "<init>", "()V"⟩
theorem dJ0_init_0 : decode cJ0_init 0 = .ok (.aload_n 0, 1) := by decide +kernel
theorem dJ0_init_1 : decode cJ0_init 1 = .ok (.invokespecial 1, 3) := by decide +kernel
theorem dJ0_init_4 : decode cJ0_init 4 = .ok (.return_, 1) := by decide +kernel
theorem q144 : (Jvm.Cond.initialized "java/util/AbstractCollection") ∈ lw_all := lw_g (lw_at lw_m1 7 rfl) rfl
theorem q348 : (Jvm.Cond.instanceMethod ({ cls := "java/util/AbstractCollection", name := "<init>", desc := "()V" } : Jvm.MethodName)) ∈ lw_all := lw_g (lw_at lw_m1 211 rfl) rfl
theorem q349 : (Jvm.Cond.code ({ cls := "java/util/AbstractCollection", name := "<init>", desc := "()V" } : Jvm.MethodName) prog_38_method_1_code (1 : Nat) (Option.none : Option Jvm.ClassFile.FieldType)) ∈ lw_all := lw_g (lw_at lw_m1 212 rfl) rfl
theorem q350 : (Jvm.Cond.methodLink "java/util/AbstractCollection" (1 : Nat) ({ cls := "java/lang/Object", name := "<init>", desc := "()V" } : Jvm.MethodName)) ∈ lw_all := lw_g (lw_at lw_m1 213 rfl) rfl
/-! java/util/AbstractList -/
set_option maxRecDepth 100000
def RJ1 : String := "java/util/AbstractList"
abbrev cJ1_init : ByteArray := prog_39_method_1_code
def yJ1_init : MethodName := ⟨RJ1, "<init>", "()V"⟩
def dkwJ1_init_0 : List UInt8 := [42, 183, 0, 1, 42, 3, 181, 0, 7, 177]
abbrev dktJ1_init_0 : List UInt8 := dkwJ1_init_0 ++ []
theorem dksJ1_init_0 : cJ1_init.data.toList.drop 0 = dktJ1_init_0 := by decide +kernel
theorem dJ1_init_0 : decode cJ1_init 0 = .ok (.aload_n 0, 1) := dk_42 (dk_at dksJ1_init_0 0 rfl rfl)
theorem dJ1_init_1 : decode cJ1_init 1 = .ok (.invokespecial 1, 3) := dk_183 0 1 (dk_at dksJ1_init_0 1 rfl rfl)
theorem dJ1_init_4 : decode cJ1_init 4 = .ok (.aload_n 0, 1) := dk_42 (dk_at dksJ1_init_0 4 rfl rfl)
theorem dJ1_init_5 : decode cJ1_init 5 = .ok (.iconst 0, 1) := dk_3 (dk_at dksJ1_init_0 5 rfl rfl)
theorem dJ1_init_6 : decode cJ1_init 6 = .ok (.putfield 7, 3) := dk_181 0 7 (dk_at dksJ1_init_0 6 rfl rfl)
theorem dJ1_init_9 : decode cJ1_init 9 = .ok (.return_, 1) := dk_177 (dk_at dksJ1_init_0 9 rfl rfl)
theorem q145 : (Jvm.Cond.initialized "java/util/AbstractList") ∈ lw_all := lw_g (lw_at lw_m1 8 rfl) rfl
theorem q345 : (Jvm.Cond.instanceMethod ({ cls := "java/util/AbstractList", name := "<init>", desc := "()V" } : Jvm.MethodName)) ∈ lw_all := lw_g (lw_at lw_m1 208 rfl) rfl
theorem q346 : (Jvm.Cond.code ({ cls := "java/util/AbstractList", name := "<init>", desc := "()V" } : Jvm.MethodName) prog_39_method_1_code (1 : Nat) (Option.none : Option Jvm.ClassFile.FieldType)) ∈ lw_all := lw_g (lw_at lw_m1 209 rfl) rfl
theorem q347 : (Jvm.Cond.methodLink "java/util/AbstractList" (1 : Nat) ({ cls := "java/util/AbstractCollection", name := "<init>", desc := "()V" } : Jvm.MethodName)) ∈ lw_all := lw_g (lw_at lw_m1 210 rfl) rfl
theorem q355 : (Jvm.Cond.fieldLink "java/util/AbstractList" (7 : Nat) "java/util/AbstractList" "modCount" "I") ∈ lw_all := lw_g (lw_at lw_m1 218 rfl) rfl
theorem q363 : (Jvm.Cond.soleField "java/util/AbstractList" "modCount") ∈ lw_all := lw_g (lw_at lw_m1 226 rfl) rfl
/-! java/lang/Record -/
set_option maxRecDepth 100000
def RJ10 : String := "java/lang/Record"
abbrev cJ10_init : ByteArray := prog_30_method_1_code
def yJ10_init : MethodName := ⟨RJ10, "<init>", "()V"⟩
theorem dJ10_init_0 : decode cJ10_init 0 = .ok (.aload_n 0, 1) := by decide +kernel
theorem dJ10_init_1 : decode cJ10_init 1 = .ok (.invokespecial 1, 3) := by decide +kernel
theorem dJ10_init_4 : decode cJ10_init 4 = .ok (.return_, 1) := by decide +kernel
theorem q156 : (Jvm.Cond.initialized "java/lang/Record") ∈ lw_all := lw_g (lw_at lw_m1 19 rfl) rfl
theorem q547 : (Jvm.Cond.instanceMethod ({ cls := "java/lang/Record", name := "<init>", desc := "()V" } : Jvm.MethodName)) ∈ lw_all := lw_g (lw_at lw_m2 170 rfl) rfl
theorem q548 : (Jvm.Cond.code ({ cls := "java/lang/Record", name := "<init>", desc := "()V" } : Jvm.MethodName) prog_30_method_1_code (1 : Nat) (Option.none : Option Jvm.ClassFile.FieldType)) ∈ lw_all := lw_g (lw_at lw_m2 171 rfl) rfl
theorem q549 : (Jvm.Cond.methodLink "java/lang/Record" (1 : Nat) ({ cls := "java/lang/Object", name := "<init>", desc := "()V" } : Jvm.MethodName)) ∈ lw_all := lw_g (lw_at lw_m2 172 rfl) rfl
/-! java/lang/Number -/
set_option maxRecDepth 100000
def RJ11 : String := "java/lang/Number"
abbrev cJ11_init : ByteArray := prog_29_method_1_code
def yJ11_init : MethodName := ⟨RJ11, "<init>", "()V"⟩
theorem dJ11_init_0 : decode cJ11_init 0 = .ok (.aload_n 0, 1) := by decide +kernel
theorem dJ11_init_1 : decode cJ11_init 1 = .ok (.invokespecial 1, 3) := by decide +kernel
theorem dJ11_init_4 : decode cJ11_init 4 = .ok (.return_, 1) := by decide +kernel
theorem q161 : (Jvm.Cond.initialized "java/lang/Number") ∈ lw_all := lw_g (lw_at lw_m1 24 rfl) rfl
theorem q640 : (Jvm.Cond.instanceMethod ({ cls := "java/lang/Number", name := "<init>", desc := "()V" } : Jvm.MethodName)) ∈ lw_all := lw_g (lw_at lw_m3 23 rfl) rfl
theorem q641 : (Jvm.Cond.code ({ cls := "java/lang/Number", name := "<init>", desc := "()V" } : Jvm.MethodName) prog_29_method_1_code (1 : Nat) (Option.none : Option Jvm.ClassFile.FieldType)) ∈ lw_all := lw_g (lw_at lw_m3 24 rfl) rfl
theorem q642 : (Jvm.Cond.methodLink "java/lang/Number" (1 : Nat) ({ cls := "java/lang/Object", name := "<init>", desc := "()V" } : Jvm.MethodName)) ∈ lw_all := lw_g (lw_at lw_m3 25 rfl) rfl
/-! java/lang/Integer -/
set_option maxRecDepth 100000
def RJ12 : String := "java/lang/Integer"
def TJ12 : u_T := fun k => match k with
  | _ => ("java/lang/Integer", "value", "I", true)
def tyJ12 : Nat → FieldType := fun k => match k with
  | _ => .int
abbrev wsJ120 : List Cond := u_ws RJ12 TJ12 1
theorem nmJ12 : ∀ a, a < 1 → ∀ b, b < 1 → a ≠ b → (TJ12 a).2.1 ≠ (TJ12 b).2.1 := by decide +kernel
theorem tyJ12_ok : ∀ k, k < 1 → parseFieldDescriptor (TJ12 k).2.2.1 = some (tyJ12 k) := by decide +kernel
abbrev cJ12_valueOf : ByteArray := prog_25_method_22_code
def yJ12_valueOf : MethodName := ⟨RJ12, "valueOf", "(I)Ljava/lang/Integer;"⟩
def dkwJ12_valueOf_1 : List UInt8 := [187, 0, 1, 89, 26, 183, 0, 199, 176]
abbrev dktJ12_valueOf_1 : List UInt8 := dkwJ12_valueOf_1 ++ []
def dkwJ12_valueOf_0 : List UInt8 := [26, 16, 128, 161, 0, 20, 26, 178, 0, 191, 163, 0, 13, 178, 0, 195, 26, 17, 0, 128, 96, 50, 176]
abbrev dktJ12_valueOf_0 : List UInt8 := dkwJ12_valueOf_0 ++ dktJ12_valueOf_1
theorem dksJ12_valueOf_0 : cJ12_valueOf.data.toList.drop 0 = dktJ12_valueOf_0 := by decide +kernel
theorem dksJ12_valueOf_1 : cJ12_valueOf.data.toList.drop 23 = dktJ12_valueOf_1 := dk_seg dksJ12_valueOf_0 23 rfl rfl
theorem dJ12_valueOf_0 : decode cJ12_valueOf 0 = .ok (.iload_n 0, 1) := dk_26 (dk_at dksJ12_valueOf_0 0 rfl rfl)
theorem dJ12_valueOf_1 : decode cJ12_valueOf 1 = .ok (.bipush (-128), 2) := dk_16 128 (dk_at dksJ12_valueOf_0 1 rfl rfl)
theorem dJ12_valueOf_3 : decode cJ12_valueOf 3 = .ok (.if_icmp .lt 20, 3) := dk_161 0 20 (dk_at dksJ12_valueOf_0 3 rfl rfl)
theorem dJ12_valueOf_6 : decode cJ12_valueOf 6 = .ok (.iload_n 0, 1) := dk_26 (dk_at dksJ12_valueOf_0 6 rfl rfl)
theorem dJ12_valueOf_7 : decode cJ12_valueOf 7 = .ok (.getstatic 191, 3) := dk_178 0 191 (dk_at dksJ12_valueOf_0 7 rfl rfl)
theorem dJ12_valueOf_10 : decode cJ12_valueOf 10 = .ok (.if_icmp .gt 13, 3) := dk_163 0 13 (dk_at dksJ12_valueOf_0 10 rfl rfl)
theorem dJ12_valueOf_13 : decode cJ12_valueOf 13 = .ok (.getstatic 195, 3) := dk_178 0 195 (dk_at dksJ12_valueOf_0 13 rfl rfl)
theorem dJ12_valueOf_16 : decode cJ12_valueOf 16 = .ok (.iload_n 0, 1) := dk_26 (dk_at dksJ12_valueOf_0 16 rfl rfl)
theorem dJ12_valueOf_17 : decode cJ12_valueOf 17 = .ok (.sipush 128, 3) := dk_17 0 128 (dk_at dksJ12_valueOf_0 17 rfl rfl)
theorem dJ12_valueOf_20 : decode cJ12_valueOf 20 = .ok (.iadd, 1) := dk_96 (dk_at dksJ12_valueOf_0 20 rfl rfl)
theorem dJ12_valueOf_21 : decode cJ12_valueOf 21 = .ok (.aaload, 1) := dk_50 (dk_at dksJ12_valueOf_0 21 rfl rfl)
theorem dJ12_valueOf_22 : decode cJ12_valueOf 22 = .ok (.areturn, 1) := dk_176 (dk_at dksJ12_valueOf_0 22 rfl rfl)
theorem dJ12_valueOf_23 : decode cJ12_valueOf 23 = .ok (.new 1, 3) := dk_187 0 1 (dk_at dksJ12_valueOf_1 0 rfl rfl)
theorem dJ12_valueOf_26 : decode cJ12_valueOf 26 = .ok (.dup, 1) := dk_89 (dk_at dksJ12_valueOf_1 3 rfl rfl)
theorem dJ12_valueOf_27 : decode cJ12_valueOf 27 = .ok (.iload_n 0, 1) := dk_26 (dk_at dksJ12_valueOf_1 4 rfl rfl)
theorem dJ12_valueOf_28 : decode cJ12_valueOf 28 = .ok (.invokespecial 199, 3) := dk_183 0 199 (dk_at dksJ12_valueOf_1 5 rfl rfl)
theorem dJ12_valueOf_31 : decode cJ12_valueOf 31 = .ok (.areturn, 1) := dk_176 (dk_at dksJ12_valueOf_1 8 rfl rfl)
abbrev cJ12_init : ByteArray := prog_25_method_23_code
def yJ12_init : MethodName := ⟨RJ12, "<init>", "(I)V"⟩
def dkwJ12_init_0 : List UInt8 := [42, 183, 0, 202, 42, 27, 181, 0, 205, 177]
abbrev dktJ12_init_0 : List UInt8 := dkwJ12_init_0 ++ []
theorem dksJ12_init_0 : cJ12_init.data.toList.drop 0 = dktJ12_init_0 := by decide +kernel
theorem dJ12_init_0 : decode cJ12_init 0 = .ok (.aload_n 0, 1) := dk_42 (dk_at dksJ12_init_0 0 rfl rfl)
theorem dJ12_init_1 : decode cJ12_init 1 = .ok (.invokespecial 202, 3) := dk_183 0 202 (dk_at dksJ12_init_0 1 rfl rfl)
theorem dJ12_init_4 : decode cJ12_init 4 = .ok (.aload_n 0, 1) := dk_42 (dk_at dksJ12_init_0 4 rfl rfl)
theorem dJ12_init_5 : decode cJ12_init 5 = .ok (.iload_n 1, 1) := dk_27 (dk_at dksJ12_init_0 5 rfl rfl)
theorem dJ12_init_6 : decode cJ12_init 6 = .ok (.putfield 205, 3) := dk_181 0 205 (dk_at dksJ12_init_0 6 rfl rfl)
theorem dJ12_init_9 : decode cJ12_init 9 = .ok (.return_, 1) := dk_177 (dk_at dksJ12_init_0 9 rfl rfl)
abbrev cJ12_bitCount : ByteArray := prog_25_method_49_code
def yJ12_bitCount : MethodName := ⟨RJ12, "bitCount", "(I)I"⟩
def dkwJ12_bitCount_2 : List UInt8 := [26, 16, 63, 126, 172]
abbrev dktJ12_bitCount_2 : List UInt8 := dkwJ12_bitCount_2 ++ []
def dkwJ12_bitCount_1 : List UInt8 := [26, 26, 7, 124, 96, 19, 1, 11, 126, 59, 26, 26, 16, 8, 124, 96, 59, 26, 26, 16, 16, 124, 96, 59]
abbrev dktJ12_bitCount_1 : List UInt8 := dkwJ12_bitCount_1 ++ dktJ12_bitCount_2
def dkwJ12_bitCount_0 : List UInt8 := [26, 26, 4, 124, 19, 1, 9, 126, 100, 59, 26, 19, 1, 10, 126, 26, 5, 124, 19, 1, 10, 126, 96, 59]
abbrev dktJ12_bitCount_0 : List UInt8 := dkwJ12_bitCount_0 ++ dktJ12_bitCount_1
theorem dksJ12_bitCount_0 : cJ12_bitCount.data.toList.drop 0 = dktJ12_bitCount_0 := by decide +kernel
theorem dksJ12_bitCount_1 : cJ12_bitCount.data.toList.drop 24 = dktJ12_bitCount_1 := dk_seg dksJ12_bitCount_0 24 rfl rfl
theorem dksJ12_bitCount_2 : cJ12_bitCount.data.toList.drop 48 = dktJ12_bitCount_2 := dk_seg dksJ12_bitCount_1 24 rfl rfl
theorem dJ12_bitCount_0 : decode cJ12_bitCount 0 = .ok (.iload_n 0, 1) := dk_26 (dk_at dksJ12_bitCount_0 0 rfl rfl)
theorem dJ12_bitCount_1 : decode cJ12_bitCount 1 = .ok (.iload_n 0, 1) := dk_26 (dk_at dksJ12_bitCount_0 1 rfl rfl)
theorem dJ12_bitCount_2 : decode cJ12_bitCount 2 = .ok (.iconst 1, 1) := dk_4 (dk_at dksJ12_bitCount_0 2 rfl rfl)
theorem dJ12_bitCount_3 : decode cJ12_bitCount 3 = .ok (.iushr, 1) := dk_124 (dk_at dksJ12_bitCount_0 3 rfl rfl)
theorem dJ12_bitCount_4 : decode cJ12_bitCount 4 = .ok (.ldc_w 265, 3) := dk_19 1 9 (dk_at dksJ12_bitCount_0 4 rfl rfl)
theorem dJ12_bitCount_7 : decode cJ12_bitCount 7 = .ok (.iand, 1) := dk_126 (dk_at dksJ12_bitCount_0 7 rfl rfl)
theorem dJ12_bitCount_8 : decode cJ12_bitCount 8 = .ok (.isub, 1) := dk_100 (dk_at dksJ12_bitCount_0 8 rfl rfl)
theorem dJ12_bitCount_9 : decode cJ12_bitCount 9 = .ok (.istore_n 0, 1) := dk_59 (dk_at dksJ12_bitCount_0 9 rfl rfl)
theorem dJ12_bitCount_10 : decode cJ12_bitCount 10 = .ok (.iload_n 0, 1) := dk_26 (dk_at dksJ12_bitCount_0 10 rfl rfl)
theorem dJ12_bitCount_11 : decode cJ12_bitCount 11 = .ok (.ldc_w 266, 3) := dk_19 1 10 (dk_at dksJ12_bitCount_0 11 rfl rfl)
theorem dJ12_bitCount_14 : decode cJ12_bitCount 14 = .ok (.iand, 1) := dk_126 (dk_at dksJ12_bitCount_0 14 rfl rfl)
theorem dJ12_bitCount_15 : decode cJ12_bitCount 15 = .ok (.iload_n 0, 1) := dk_26 (dk_at dksJ12_bitCount_0 15 rfl rfl)
theorem dJ12_bitCount_16 : decode cJ12_bitCount 16 = .ok (.iconst 2, 1) := dk_5 (dk_at dksJ12_bitCount_0 16 rfl rfl)
theorem dJ12_bitCount_17 : decode cJ12_bitCount 17 = .ok (.iushr, 1) := dk_124 (dk_at dksJ12_bitCount_0 17 rfl rfl)
theorem dJ12_bitCount_18 : decode cJ12_bitCount 18 = .ok (.ldc_w 266, 3) := dk_19 1 10 (dk_at dksJ12_bitCount_0 18 rfl rfl)
theorem dJ12_bitCount_21 : decode cJ12_bitCount 21 = .ok (.iand, 1) := dk_126 (dk_at dksJ12_bitCount_0 21 rfl rfl)
theorem dJ12_bitCount_22 : decode cJ12_bitCount 22 = .ok (.iadd, 1) := dk_96 (dk_at dksJ12_bitCount_0 22 rfl rfl)
theorem dJ12_bitCount_23 : decode cJ12_bitCount 23 = .ok (.istore_n 0, 1) := dk_59 (dk_at dksJ12_bitCount_0 23 rfl rfl)
theorem dJ12_bitCount_24 : decode cJ12_bitCount 24 = .ok (.iload_n 0, 1) := dk_26 (dk_at dksJ12_bitCount_1 0 rfl rfl)
theorem dJ12_bitCount_25 : decode cJ12_bitCount 25 = .ok (.iload_n 0, 1) := dk_26 (dk_at dksJ12_bitCount_1 1 rfl rfl)
theorem dJ12_bitCount_26 : decode cJ12_bitCount 26 = .ok (.iconst 4, 1) := dk_7 (dk_at dksJ12_bitCount_1 2 rfl rfl)
theorem dJ12_bitCount_27 : decode cJ12_bitCount 27 = .ok (.iushr, 1) := dk_124 (dk_at dksJ12_bitCount_1 3 rfl rfl)
theorem dJ12_bitCount_28 : decode cJ12_bitCount 28 = .ok (.iadd, 1) := dk_96 (dk_at dksJ12_bitCount_1 4 rfl rfl)
theorem dJ12_bitCount_29 : decode cJ12_bitCount 29 = .ok (.ldc_w 267, 3) := dk_19 1 11 (dk_at dksJ12_bitCount_1 5 rfl rfl)
theorem dJ12_bitCount_32 : decode cJ12_bitCount 32 = .ok (.iand, 1) := dk_126 (dk_at dksJ12_bitCount_1 8 rfl rfl)
theorem dJ12_bitCount_33 : decode cJ12_bitCount 33 = .ok (.istore_n 0, 1) := dk_59 (dk_at dksJ12_bitCount_1 9 rfl rfl)
theorem dJ12_bitCount_34 : decode cJ12_bitCount 34 = .ok (.iload_n 0, 1) := dk_26 (dk_at dksJ12_bitCount_1 10 rfl rfl)
theorem dJ12_bitCount_35 : decode cJ12_bitCount 35 = .ok (.iload_n 0, 1) := dk_26 (dk_at dksJ12_bitCount_1 11 rfl rfl)
theorem dJ12_bitCount_36 : decode cJ12_bitCount 36 = .ok (.bipush 8, 2) := dk_16 8 (dk_at dksJ12_bitCount_1 12 rfl rfl)
theorem dJ12_bitCount_38 : decode cJ12_bitCount 38 = .ok (.iushr, 1) := dk_124 (dk_at dksJ12_bitCount_1 14 rfl rfl)
theorem dJ12_bitCount_39 : decode cJ12_bitCount 39 = .ok (.iadd, 1) := dk_96 (dk_at dksJ12_bitCount_1 15 rfl rfl)
theorem dJ12_bitCount_40 : decode cJ12_bitCount 40 = .ok (.istore_n 0, 1) := dk_59 (dk_at dksJ12_bitCount_1 16 rfl rfl)
theorem dJ12_bitCount_41 : decode cJ12_bitCount 41 = .ok (.iload_n 0, 1) := dk_26 (dk_at dksJ12_bitCount_1 17 rfl rfl)
theorem dJ12_bitCount_42 : decode cJ12_bitCount 42 = .ok (.iload_n 0, 1) := dk_26 (dk_at dksJ12_bitCount_1 18 rfl rfl)
theorem dJ12_bitCount_43 : decode cJ12_bitCount 43 = .ok (.bipush 16, 2) := dk_16 16 (dk_at dksJ12_bitCount_1 19 rfl rfl)
theorem dJ12_bitCount_45 : decode cJ12_bitCount 45 = .ok (.iushr, 1) := dk_124 (dk_at dksJ12_bitCount_1 21 rfl rfl)
theorem dJ12_bitCount_46 : decode cJ12_bitCount 46 = .ok (.iadd, 1) := dk_96 (dk_at dksJ12_bitCount_1 22 rfl rfl)
theorem dJ12_bitCount_47 : decode cJ12_bitCount 47 = .ok (.istore_n 0, 1) := dk_59 (dk_at dksJ12_bitCount_1 23 rfl rfl)
theorem dJ12_bitCount_48 : decode cJ12_bitCount 48 = .ok (.iload_n 0, 1) := dk_26 (dk_at dksJ12_bitCount_2 0 rfl rfl)
theorem dJ12_bitCount_49 : decode cJ12_bitCount 49 = .ok (.bipush 63, 2) := dk_16 63 (dk_at dksJ12_bitCount_2 1 rfl rfl)
theorem dJ12_bitCount_51 : decode cJ12_bitCount 51 = .ok (.iand, 1) := dk_126 (dk_at dksJ12_bitCount_2 3 rfl rfl)
theorem dJ12_bitCount_52 : decode cJ12_bitCount 52 = .ok (.ireturn, 1) := dk_172 (dk_at dksJ12_bitCount_2 4 rfl rfl)
abbrev cJ12_intValue : ByteArray := prog_25_method_27_code
def yJ12_intValue : MethodName := ⟨RJ12, "intValue", "()I"⟩
theorem dJ12_intValue_0 : decode cJ12_intValue 0 = .ok (.aload_n 0, 1) := by decide +kernel
theorem dJ12_intValue_1 : decode cJ12_intValue 1 = .ok (.getfield 205, 3) := by decide +kernel
theorem dJ12_intValue_4 : decode cJ12_intValue 4 = .ok (.ireturn, 1) := by decide +kernel
abbrev cJ12_numberOfTrailingZeros : ByteArray := prog_25_method_48_code
def yJ12_numberOfTrailingZeros : MethodName := ⟨RJ12, "numberOfTrailingZeros", "(I)I"⟩
def dkwJ12_numberOfTrailingZeros_3 : List UInt8 := [5, 124, 59, 27, 26, 4, 124, 96, 172]
abbrev dktJ12_numberOfTrailingZeros_3 : List UInt8 := dkwJ12_numberOfTrailingZeros_3 ++ []
def dkwJ12_numberOfTrailingZeros_2 : List UInt8 := [124, 59, 26, 16, 16, 164, 0, 10, 132, 1, 4, 26, 7, 124, 59, 26, 7, 164, 0, 10, 132, 1, 2, 26]
abbrev dktJ12_numberOfTrailingZeros_2 : List UInt8 := dkwJ12_numberOfTrailingZeros_2 ++ dktJ12_numberOfTrailingZeros_3
def dkwJ12_numberOfTrailingZeros_1 : List UInt8 := [164, 0, 11, 132, 1, 16, 26, 16, 16, 124, 59, 26, 17, 1, 0, 164, 0, 11, 132, 1, 8, 26, 16, 8]
abbrev dktJ12_numberOfTrailingZeros_1 : List UInt8 := dkwJ12_numberOfTrailingZeros_1 ++ dktJ12_numberOfTrailingZeros_2
def dkwJ12_numberOfTrailingZeros_0 : List UInt8 := [26, 2, 130, 26, 4, 100, 126, 59, 26, 157, 0, 8, 26, 16, 32, 126, 172, 4, 60, 26, 19, 1, 8]
abbrev dktJ12_numberOfTrailingZeros_0 : List UInt8 := dkwJ12_numberOfTrailingZeros_0 ++ dktJ12_numberOfTrailingZeros_1
theorem dksJ12_numberOfTrailingZeros_0 : cJ12_numberOfTrailingZeros.data.toList.drop 0 = dktJ12_numberOfTrailingZeros_0 := by decide +kernel
theorem dksJ12_numberOfTrailingZeros_1 : cJ12_numberOfTrailingZeros.data.toList.drop 23 = dktJ12_numberOfTrailingZeros_1 := dk_seg dksJ12_numberOfTrailingZeros_0 23 rfl rfl
theorem dksJ12_numberOfTrailingZeros_2 : cJ12_numberOfTrailingZeros.data.toList.drop 47 = dktJ12_numberOfTrailingZeros_2 := dk_seg dksJ12_numberOfTrailingZeros_1 24 rfl rfl
theorem dksJ12_numberOfTrailingZeros_3 : cJ12_numberOfTrailingZeros.data.toList.drop 71 = dktJ12_numberOfTrailingZeros_3 := dk_seg dksJ12_numberOfTrailingZeros_2 24 rfl rfl
theorem dJ12_numberOfTrailingZeros_0 : decode cJ12_numberOfTrailingZeros 0 = .ok (.iload_n 0, 1) := dk_26 (dk_at dksJ12_numberOfTrailingZeros_0 0 rfl rfl)
theorem dJ12_numberOfTrailingZeros_1 : decode cJ12_numberOfTrailingZeros 1 = .ok (.iconst (-1), 1) := dk_2 (dk_at dksJ12_numberOfTrailingZeros_0 1 rfl rfl)
theorem dJ12_numberOfTrailingZeros_2 : decode cJ12_numberOfTrailingZeros 2 = .ok (.ixor, 1) := dk_130 (dk_at dksJ12_numberOfTrailingZeros_0 2 rfl rfl)
theorem dJ12_numberOfTrailingZeros_3 : decode cJ12_numberOfTrailingZeros 3 = .ok (.iload_n 0, 1) := dk_26 (dk_at dksJ12_numberOfTrailingZeros_0 3 rfl rfl)
theorem dJ12_numberOfTrailingZeros_4 : decode cJ12_numberOfTrailingZeros 4 = .ok (.iconst 1, 1) := dk_4 (dk_at dksJ12_numberOfTrailingZeros_0 4 rfl rfl)
theorem dJ12_numberOfTrailingZeros_5 : decode cJ12_numberOfTrailingZeros 5 = .ok (.isub, 1) := dk_100 (dk_at dksJ12_numberOfTrailingZeros_0 5 rfl rfl)
theorem dJ12_numberOfTrailingZeros_6 : decode cJ12_numberOfTrailingZeros 6 = .ok (.iand, 1) := dk_126 (dk_at dksJ12_numberOfTrailingZeros_0 6 rfl rfl)
theorem dJ12_numberOfTrailingZeros_7 : decode cJ12_numberOfTrailingZeros 7 = .ok (.istore_n 0, 1) := dk_59 (dk_at dksJ12_numberOfTrailingZeros_0 7 rfl rfl)
theorem dJ12_numberOfTrailingZeros_8 : decode cJ12_numberOfTrailingZeros 8 = .ok (.iload_n 0, 1) := dk_26 (dk_at dksJ12_numberOfTrailingZeros_0 8 rfl rfl)
theorem dJ12_numberOfTrailingZeros_9 : decode cJ12_numberOfTrailingZeros 9 = .ok (.ifCond .gt 8, 3) := dk_157 0 8 (dk_at dksJ12_numberOfTrailingZeros_0 9 rfl rfl)
theorem dJ12_numberOfTrailingZeros_12 : decode cJ12_numberOfTrailingZeros 12 = .ok (.iload_n 0, 1) := dk_26 (dk_at dksJ12_numberOfTrailingZeros_0 12 rfl rfl)
theorem dJ12_numberOfTrailingZeros_13 : decode cJ12_numberOfTrailingZeros 13 = .ok (.bipush 32, 2) := dk_16 32 (dk_at dksJ12_numberOfTrailingZeros_0 13 rfl rfl)
theorem dJ12_numberOfTrailingZeros_15 : decode cJ12_numberOfTrailingZeros 15 = .ok (.iand, 1) := dk_126 (dk_at dksJ12_numberOfTrailingZeros_0 15 rfl rfl)
theorem dJ12_numberOfTrailingZeros_16 : decode cJ12_numberOfTrailingZeros 16 = .ok (.ireturn, 1) := dk_172 (dk_at dksJ12_numberOfTrailingZeros_0 16 rfl rfl)
theorem dJ12_numberOfTrailingZeros_17 : decode cJ12_numberOfTrailingZeros 17 = .ok (.iconst 1, 1) := dk_4 (dk_at dksJ12_numberOfTrailingZeros_0 17 rfl rfl)
theorem dJ12_numberOfTrailingZeros_18 : decode cJ12_numberOfTrailingZeros 18 = .ok (.istore_n 1, 1) := dk_60 (dk_at dksJ12_numberOfTrailingZeros_0 18 rfl rfl)
theorem dJ12_numberOfTrailingZeros_19 : decode cJ12_numberOfTrailingZeros 19 = .ok (.iload_n 0, 1) := dk_26 (dk_at dksJ12_numberOfTrailingZeros_0 19 rfl rfl)
theorem dJ12_numberOfTrailingZeros_20 : decode cJ12_numberOfTrailingZeros 20 = .ok (.ldc_w 264, 3) := dk_19 1 8 (dk_at dksJ12_numberOfTrailingZeros_0 20 rfl rfl)
theorem dJ12_numberOfTrailingZeros_23 : decode cJ12_numberOfTrailingZeros 23 = .ok (.if_icmp .le 11, 3) := dk_164 0 11 (dk_at dksJ12_numberOfTrailingZeros_1 0 rfl rfl)
theorem dJ12_numberOfTrailingZeros_26 : decode cJ12_numberOfTrailingZeros 26 = .ok (.iinc 1 16, 3) := dk_132 1 16 (dk_at dksJ12_numberOfTrailingZeros_1 3 rfl rfl)
theorem dJ12_numberOfTrailingZeros_29 : decode cJ12_numberOfTrailingZeros 29 = .ok (.iload_n 0, 1) := dk_26 (dk_at dksJ12_numberOfTrailingZeros_1 6 rfl rfl)
theorem dJ12_numberOfTrailingZeros_30 : decode cJ12_numberOfTrailingZeros 30 = .ok (.bipush 16, 2) := dk_16 16 (dk_at dksJ12_numberOfTrailingZeros_1 7 rfl rfl)
theorem dJ12_numberOfTrailingZeros_32 : decode cJ12_numberOfTrailingZeros 32 = .ok (.iushr, 1) := dk_124 (dk_at dksJ12_numberOfTrailingZeros_1 9 rfl rfl)
theorem dJ12_numberOfTrailingZeros_33 : decode cJ12_numberOfTrailingZeros 33 = .ok (.istore_n 0, 1) := dk_59 (dk_at dksJ12_numberOfTrailingZeros_1 10 rfl rfl)
theorem dJ12_numberOfTrailingZeros_34 : decode cJ12_numberOfTrailingZeros 34 = .ok (.iload_n 0, 1) := dk_26 (dk_at dksJ12_numberOfTrailingZeros_1 11 rfl rfl)
theorem dJ12_numberOfTrailingZeros_35 : decode cJ12_numberOfTrailingZeros 35 = .ok (.sipush 256, 3) := dk_17 1 0 (dk_at dksJ12_numberOfTrailingZeros_1 12 rfl rfl)
theorem dJ12_numberOfTrailingZeros_38 : decode cJ12_numberOfTrailingZeros 38 = .ok (.if_icmp .le 11, 3) := dk_164 0 11 (dk_at dksJ12_numberOfTrailingZeros_1 15 rfl rfl)
theorem dJ12_numberOfTrailingZeros_41 : decode cJ12_numberOfTrailingZeros 41 = .ok (.iinc 1 8, 3) := dk_132 1 8 (dk_at dksJ12_numberOfTrailingZeros_1 18 rfl rfl)
theorem dJ12_numberOfTrailingZeros_44 : decode cJ12_numberOfTrailingZeros 44 = .ok (.iload_n 0, 1) := dk_26 (dk_at dksJ12_numberOfTrailingZeros_1 21 rfl rfl)
theorem dJ12_numberOfTrailingZeros_45 : decode cJ12_numberOfTrailingZeros 45 = .ok (.bipush 8, 2) := dk_16 8 (dk_at dksJ12_numberOfTrailingZeros_1 22 rfl rfl)
theorem dJ12_numberOfTrailingZeros_47 : decode cJ12_numberOfTrailingZeros 47 = .ok (.iushr, 1) := dk_124 (dk_at dksJ12_numberOfTrailingZeros_2 0 rfl rfl)
theorem dJ12_numberOfTrailingZeros_48 : decode cJ12_numberOfTrailingZeros 48 = .ok (.istore_n 0, 1) := dk_59 (dk_at dksJ12_numberOfTrailingZeros_2 1 rfl rfl)
theorem dJ12_numberOfTrailingZeros_49 : decode cJ12_numberOfTrailingZeros 49 = .ok (.iload_n 0, 1) := dk_26 (dk_at dksJ12_numberOfTrailingZeros_2 2 rfl rfl)
theorem dJ12_numberOfTrailingZeros_50 : decode cJ12_numberOfTrailingZeros 50 = .ok (.bipush 16, 2) := dk_16 16 (dk_at dksJ12_numberOfTrailingZeros_2 3 rfl rfl)
theorem dJ12_numberOfTrailingZeros_52 : decode cJ12_numberOfTrailingZeros 52 = .ok (.if_icmp .le 10, 3) := dk_164 0 10 (dk_at dksJ12_numberOfTrailingZeros_2 5 rfl rfl)
theorem dJ12_numberOfTrailingZeros_55 : decode cJ12_numberOfTrailingZeros 55 = .ok (.iinc 1 4, 3) := dk_132 1 4 (dk_at dksJ12_numberOfTrailingZeros_2 8 rfl rfl)
theorem dJ12_numberOfTrailingZeros_58 : decode cJ12_numberOfTrailingZeros 58 = .ok (.iload_n 0, 1) := dk_26 (dk_at dksJ12_numberOfTrailingZeros_2 11 rfl rfl)
theorem dJ12_numberOfTrailingZeros_59 : decode cJ12_numberOfTrailingZeros 59 = .ok (.iconst 4, 1) := dk_7 (dk_at dksJ12_numberOfTrailingZeros_2 12 rfl rfl)
theorem dJ12_numberOfTrailingZeros_60 : decode cJ12_numberOfTrailingZeros 60 = .ok (.iushr, 1) := dk_124 (dk_at dksJ12_numberOfTrailingZeros_2 13 rfl rfl)
theorem dJ12_numberOfTrailingZeros_61 : decode cJ12_numberOfTrailingZeros 61 = .ok (.istore_n 0, 1) := dk_59 (dk_at dksJ12_numberOfTrailingZeros_2 14 rfl rfl)
theorem dJ12_numberOfTrailingZeros_62 : decode cJ12_numberOfTrailingZeros 62 = .ok (.iload_n 0, 1) := dk_26 (dk_at dksJ12_numberOfTrailingZeros_2 15 rfl rfl)
theorem dJ12_numberOfTrailingZeros_63 : decode cJ12_numberOfTrailingZeros 63 = .ok (.iconst 4, 1) := dk_7 (dk_at dksJ12_numberOfTrailingZeros_2 16 rfl rfl)
theorem dJ12_numberOfTrailingZeros_64 : decode cJ12_numberOfTrailingZeros 64 = .ok (.if_icmp .le 10, 3) := dk_164 0 10 (dk_at dksJ12_numberOfTrailingZeros_2 17 rfl rfl)
theorem dJ12_numberOfTrailingZeros_67 : decode cJ12_numberOfTrailingZeros 67 = .ok (.iinc 1 2, 3) := dk_132 1 2 (dk_at dksJ12_numberOfTrailingZeros_2 20 rfl rfl)
theorem dJ12_numberOfTrailingZeros_70 : decode cJ12_numberOfTrailingZeros 70 = .ok (.iload_n 0, 1) := dk_26 (dk_at dksJ12_numberOfTrailingZeros_2 23 rfl rfl)
theorem dJ12_numberOfTrailingZeros_71 : decode cJ12_numberOfTrailingZeros 71 = .ok (.iconst 2, 1) := dk_5 (dk_at dksJ12_numberOfTrailingZeros_3 0 rfl rfl)
theorem dJ12_numberOfTrailingZeros_72 : decode cJ12_numberOfTrailingZeros 72 = .ok (.iushr, 1) := dk_124 (dk_at dksJ12_numberOfTrailingZeros_3 1 rfl rfl)
theorem dJ12_numberOfTrailingZeros_73 : decode cJ12_numberOfTrailingZeros 73 = .ok (.istore_n 0, 1) := dk_59 (dk_at dksJ12_numberOfTrailingZeros_3 2 rfl rfl)
theorem dJ12_numberOfTrailingZeros_74 : decode cJ12_numberOfTrailingZeros 74 = .ok (.iload_n 1, 1) := dk_27 (dk_at dksJ12_numberOfTrailingZeros_3 3 rfl rfl)
theorem dJ12_numberOfTrailingZeros_75 : decode cJ12_numberOfTrailingZeros 75 = .ok (.iload_n 0, 1) := dk_26 (dk_at dksJ12_numberOfTrailingZeros_3 4 rfl rfl)
theorem dJ12_numberOfTrailingZeros_76 : decode cJ12_numberOfTrailingZeros 76 = .ok (.iconst 1, 1) := dk_4 (dk_at dksJ12_numberOfTrailingZeros_3 5 rfl rfl)
theorem dJ12_numberOfTrailingZeros_77 : decode cJ12_numberOfTrailingZeros 77 = .ok (.iushr, 1) := dk_124 (dk_at dksJ12_numberOfTrailingZeros_3 6 rfl rfl)
theorem dJ12_numberOfTrailingZeros_78 : decode cJ12_numberOfTrailingZeros 78 = .ok (.iadd, 1) := dk_96 (dk_at dksJ12_numberOfTrailingZeros_3 7 rfl rfl)
theorem dJ12_numberOfTrailingZeros_79 : decode cJ12_numberOfTrailingZeros 79 = .ok (.ireturn, 1) := dk_172 (dk_at dksJ12_numberOfTrailingZeros_3 8 rfl rfl)
theorem q162 : (Jvm.Cond.initialized "java/lang/Integer") ∈ lw_all := lw_g (lw_at lw_m1 25 rfl) rfl
theorem q628 : (Jvm.Cond.static ({ cls := "java/lang/Integer", name := "valueOf", desc := "(I)Ljava/lang/Integer;" } : Jvm.MethodName)) ∈ lw_all := lw_g (lw_at lw_m3 11 rfl) rfl
theorem q629 : (Jvm.Cond.code ({ cls := "java/lang/Integer", name := "valueOf", desc := "(I)Ljava/lang/Integer;" } : Jvm.MethodName) prog_25_method_22_code (1 : Nat) (Option.some (Jvm.ClassFile.FieldType.object "java/lang/Integer"))) ∈ lw_all := lw_g (lw_at lw_m3 12 rfl) rfl
theorem q630 : (Jvm.Cond.fieldLink "java/lang/Integer" (191 : Nat) "java/lang/Integer$IntegerCache" "high" "I") ∈ lw_all := lw_g (lw_at lw_m3 13 rfl) rfl
theorem q632 : (Jvm.Cond.fieldLink "java/lang/Integer" (195 : Nat) "java/lang/Integer$IntegerCache" "cache" "[Ljava/lang/Integer;") ∈ lw_all := lw_g (lw_at lw_m3 15 rfl) rfl
theorem q634 : (Jvm.Cond.classLink "java/lang/Integer" (1 : Nat) "java/lang/Integer") ∈ lw_all := lw_g (lw_at lw_m3 17 rfl) rfl
theorem q635 : (Jvm.Cond.instantiable "java/lang/Integer" (1 : Nat)) ∈ lw_all := lw_g (lw_at lw_m3 18 rfl) rfl
theorem q636 : (Jvm.Cond.methodLink "java/lang/Integer" (199 : Nat) ({ cls := "java/lang/Integer", name := "<init>", desc := "(I)V" } : Jvm.MethodName)) ∈ lw_all := lw_g (lw_at lw_m3 19 rfl) rfl
theorem q637 : (Jvm.Cond.instanceMethod ({ cls := "java/lang/Integer", name := "<init>", desc := "(I)V" } : Jvm.MethodName)) ∈ lw_all := lw_g (lw_at lw_m3 20 rfl) rfl
theorem q638 : (Jvm.Cond.code ({ cls := "java/lang/Integer", name := "<init>", desc := "(I)V" } : Jvm.MethodName) prog_25_method_23_code (2 : Nat) (Option.none : Option Jvm.ClassFile.FieldType)) ∈ lw_all := lw_g (lw_at lw_m3 21 rfl) rfl
theorem q639 : (Jvm.Cond.methodLink "java/lang/Integer" (202 : Nat) ({ cls := "java/lang/Number", name := "<init>", desc := "()V" } : Jvm.MethodName)) ∈ lw_all := lw_g (lw_at lw_m3 22 rfl) rfl
theorem q643 : (Jvm.Cond.fieldLink "java/lang/Integer" (205 : Nat) "java/lang/Integer" "value" "I") ∈ lw_all := lw_g (lw_at lw_m3 26 rfl) rfl
theorem q644 : (Jvm.Cond.laysFinal "java/lang/Integer" "java/lang/Integer" "value" "I") ∈ lw_all := lw_g (lw_at lw_m3 27 rfl) rfl
theorem q645 : (Jvm.Cond.soleField "java/lang/Integer" "value") ∈ lw_all := lw_g (lw_at lw_m3 28 rfl) rfl
theorem q646 : (Jvm.Cond.superclass "java/lang/Integer" "java/lang/Number") ∈ lw_all := lw_g (lw_at lw_m3 29 rfl) rfl
theorem q695 : (Jvm.Cond.selects "java/lang/Integer" ({ cls := "java/lang/Object", name := "getClass", desc := "()Ljava/lang/Class;" } : Jvm.MethodName) ({ cls := "java/lang/Object", name := "getClass", desc := "()Ljava/lang/Class;" } : Jvm.MethodName)) ∈ lw_all := lw_g (lw_at lw_m3 78 rfl) rfl
theorem q882 : (Jvm.Cond.static ({ cls := "java/lang/Integer", name := "bitCount", desc := "(I)I" } : Jvm.MethodName)) ∈ lw_all := lw_g (lw_at lw_m4 25 rfl) rfl
theorem q883 : (Jvm.Cond.code ({ cls := "java/lang/Integer", name := "bitCount", desc := "(I)I" } : Jvm.MethodName) prog_25_method_49_code (1 : Nat) (Option.some Jvm.ClassFile.FieldType.int)) ∈ lw_all := lw_g (lw_at lw_m4 26 rfl) rfl
theorem q884 : (Jvm.Cond.constant "java/lang/Integer" (265 : Nat) (1431655765 : Int32)) ∈ lw_all := lw_g (lw_at lw_m4 27 rfl) rfl
theorem q885 : (Jvm.Cond.constant "java/lang/Integer" (266 : Nat) (858993459 : Int32)) ∈ lw_all := lw_g (lw_at lw_m4 28 rfl) rfl
theorem q886 : (Jvm.Cond.constant "java/lang/Integer" (267 : Nat) (252645135 : Int32)) ∈ lw_all := lw_g (lw_at lw_m4 29 rfl) rfl
theorem q954 : (Jvm.Cond.instanceMethod ({ cls := "java/lang/Integer", name := "intValue", desc := "()I" } : Jvm.MethodName)) ∈ lw_all := lw_g (lw_at lw_m4 97 rfl) rfl
theorem q955 : (Jvm.Cond.selects "java/lang/Integer" ({ cls := "java/lang/Integer", name := "intValue", desc := "()I" } : Jvm.MethodName) ({ cls := "java/lang/Integer", name := "intValue", desc := "()I" } : Jvm.MethodName)) ∈ lw_all := lw_g (lw_at lw_m4 98 rfl) rfl
theorem q956 : (Jvm.Cond.code ({ cls := "java/lang/Integer", name := "intValue", desc := "()I" } : Jvm.MethodName) prog_25_method_27_code (1 : Nat) (Option.some Jvm.ClassFile.FieldType.int)) ∈ lw_all := lw_g (lw_at lw_m4 99 rfl) rfl
theorem q1274 : (Jvm.Cond.static ({ cls := "java/lang/Integer", name := "numberOfTrailingZeros", desc := "(I)I" } : Jvm.MethodName)) ∈ lw_all := lw_g (lw_at lw_m5 177 rfl) rfl
theorem q1275 : (Jvm.Cond.code ({ cls := "java/lang/Integer", name := "numberOfTrailingZeros", desc := "(I)I" } : Jvm.MethodName) prog_25_method_48_code (2 : Nat) (Option.some Jvm.ClassFile.FieldType.int)) ∈ lw_all := lw_g (lw_at lw_m5 178 rfl) rfl
theorem q1276 : (Jvm.Cond.constant "java/lang/Integer" (264 : Nat) (65536 : Int32)) ∈ lw_all := lw_g (lw_at lw_m5 179 rfl) rfl
theorem q2040 : (Jvm.Cond.castable "java/lang/Integer" "java/lang/Object") ∈ lw_tbl := lw_at lw_m8 223 rfl
theorem in_J12 : ∀ w ∈ wsJ120, w ∈ lw_all := lw_in wsJ120 [644] (by decide +kernel) (by decide +kernel)
/-! jdk/internal/util/ArraysSupport -/
set_option maxRecDepth 100000
def RJ13 : String := "jdk/internal/util/ArraysSupport"
abbrev cJ13_newLength : ByteArray := prog_47_method_27_code
def yJ13_newLength : MethodName := ⟨RJ13, "newLength", "(III)I"⟩
def dkwJ13_newLength_1 : List UInt8 := [184, 0, 201, 172]
abbrev dktJ13_newLength_1 : List UInt8 := dkwJ13_newLength_1 ++ []
def dkwJ13_newLength_0 : List UInt8 := [26, 27, 28, 184, 0, 194, 96, 62, 3, 29, 162, 0, 11, 29, 18, 200, 163, 0, 5, 29, 172, 26, 27]
abbrev dktJ13_newLength_0 : List UInt8 := dkwJ13_newLength_0 ++ dktJ13_newLength_1
theorem dksJ13_newLength_0 : cJ13_newLength.data.toList.drop 0 = dktJ13_newLength_0 := by decide +kernel
theorem dksJ13_newLength_1 : cJ13_newLength.data.toList.drop 23 = dktJ13_newLength_1 := dk_seg dksJ13_newLength_0 23 rfl rfl
theorem dJ13_newLength_0 : decode cJ13_newLength 0 = .ok (.iload_n 0, 1) := dk_26 (dk_at dksJ13_newLength_0 0 rfl rfl)
theorem dJ13_newLength_1 : decode cJ13_newLength 1 = .ok (.iload_n 1, 1) := dk_27 (dk_at dksJ13_newLength_0 1 rfl rfl)
theorem dJ13_newLength_2 : decode cJ13_newLength 2 = .ok (.iload_n 2, 1) := dk_28 (dk_at dksJ13_newLength_0 2 rfl rfl)
theorem dJ13_newLength_3 : decode cJ13_newLength 3 = .ok (.invokestatic 194, 3) := dk_184 0 194 (dk_at dksJ13_newLength_0 3 rfl rfl)
theorem dJ13_newLength_6 : decode cJ13_newLength 6 = .ok (.iadd, 1) := dk_96 (dk_at dksJ13_newLength_0 6 rfl rfl)
theorem dJ13_newLength_7 : decode cJ13_newLength 7 = .ok (.istore_n 3, 1) := dk_62 (dk_at dksJ13_newLength_0 7 rfl rfl)
theorem dJ13_newLength_8 : decode cJ13_newLength 8 = .ok (.iconst 0, 1) := dk_3 (dk_at dksJ13_newLength_0 8 rfl rfl)
theorem dJ13_newLength_9 : decode cJ13_newLength 9 = .ok (.iload_n 3, 1) := dk_29 (dk_at dksJ13_newLength_0 9 rfl rfl)
theorem dJ13_newLength_10 : decode cJ13_newLength 10 = .ok (.if_icmp .ge 11, 3) := dk_162 0 11 (dk_at dksJ13_newLength_0 10 rfl rfl)
theorem dJ13_newLength_13 : decode cJ13_newLength 13 = .ok (.iload_n 3, 1) := dk_29 (dk_at dksJ13_newLength_0 13 rfl rfl)
theorem dJ13_newLength_14 : decode cJ13_newLength 14 = .ok (.ldc 200, 2) := dk_18 200 (dk_at dksJ13_newLength_0 14 rfl rfl)
theorem dJ13_newLength_16 : decode cJ13_newLength 16 = .ok (.if_icmp .gt 5, 3) := dk_163 0 5 (dk_at dksJ13_newLength_0 16 rfl rfl)
theorem dJ13_newLength_19 : decode cJ13_newLength 19 = .ok (.iload_n 3, 1) := dk_29 (dk_at dksJ13_newLength_0 19 rfl rfl)
theorem dJ13_newLength_20 : decode cJ13_newLength 20 = .ok (.ireturn, 1) := dk_172 (dk_at dksJ13_newLength_0 20 rfl rfl)
theorem dJ13_newLength_21 : decode cJ13_newLength 21 = .ok (.iload_n 0, 1) := dk_26 (dk_at dksJ13_newLength_0 21 rfl rfl)
theorem dJ13_newLength_22 : decode cJ13_newLength 22 = .ok (.iload_n 1, 1) := dk_27 (dk_at dksJ13_newLength_0 22 rfl rfl)
theorem dJ13_newLength_23 : decode cJ13_newLength 23 = .ok (.invokestatic 201, 3) := dk_184 0 201 (dk_at dksJ13_newLength_1 0 rfl rfl)
theorem dJ13_newLength_26 : decode cJ13_newLength 26 = .ok (.ireturn, 1) := dk_172 (dk_at dksJ13_newLength_1 3 rfl rfl)
abbrev cJ13_hugeLength : ByteArray := prog_47_method_28_code
def yJ13_hugeLength : MethodName := ⟨RJ13, "hugeLength", "(II)I"⟩
def dkwJ13_hugeLength_2 : List UInt8 := [191, 28, 18, 200, 163, 0, 6, 18, 200, 172, 28, 172]
abbrev dktJ13_hugeLength_2 : List UInt8 := dkwJ13_hugeLength_2 ++ []
def dkwJ13_hugeLength_1 : List UInt8 := [26, 182, 0, 98, 18, 208, 182, 0, 94, 27, 182, 0, 98, 18, 210, 182, 0, 94, 182, 0, 101, 183, 0, 212]
abbrev dktJ13_hugeLength_1 : List UInt8 := dkwJ13_hugeLength_1 ++ dktJ13_hugeLength_2
def dkwJ13_hugeLength_0 : List UInt8 := [26, 27, 96, 61, 28, 156, 0, 44, 187, 0, 204, 89, 187, 0, 89, 89, 183, 0, 91, 18, 206, 182, 0, 94]
abbrev dktJ13_hugeLength_0 : List UInt8 := dkwJ13_hugeLength_0 ++ dktJ13_hugeLength_1
theorem dksJ13_hugeLength_0 : cJ13_hugeLength.data.toList.drop 0 = dktJ13_hugeLength_0 := by decide +kernel
theorem dksJ13_hugeLength_1 : cJ13_hugeLength.data.toList.drop 24 = dktJ13_hugeLength_1 := dk_seg dksJ13_hugeLength_0 24 rfl rfl
theorem dksJ13_hugeLength_2 : cJ13_hugeLength.data.toList.drop 48 = dktJ13_hugeLength_2 := dk_seg dksJ13_hugeLength_1 24 rfl rfl
theorem dJ13_hugeLength_0 : decode cJ13_hugeLength 0 = .ok (.iload_n 0, 1) := dk_26 (dk_at dksJ13_hugeLength_0 0 rfl rfl)
theorem dJ13_hugeLength_1 : decode cJ13_hugeLength 1 = .ok (.iload_n 1, 1) := dk_27 (dk_at dksJ13_hugeLength_0 1 rfl rfl)
theorem dJ13_hugeLength_2 : decode cJ13_hugeLength 2 = .ok (.iadd, 1) := dk_96 (dk_at dksJ13_hugeLength_0 2 rfl rfl)
theorem dJ13_hugeLength_3 : decode cJ13_hugeLength 3 = .ok (.istore_n 2, 1) := dk_61 (dk_at dksJ13_hugeLength_0 3 rfl rfl)
theorem dJ13_hugeLength_4 : decode cJ13_hugeLength 4 = .ok (.iload_n 2, 1) := dk_28 (dk_at dksJ13_hugeLength_0 4 rfl rfl)
theorem dJ13_hugeLength_5 : decode cJ13_hugeLength 5 = .ok (.ifCond .ge 44, 3) := dk_156 0 44 (dk_at dksJ13_hugeLength_0 5 rfl rfl)
theorem dJ13_hugeLength_8 : decode cJ13_hugeLength 8 = .ok (.new 204, 3) := dk_187 0 204 (dk_at dksJ13_hugeLength_0 8 rfl rfl)
theorem dJ13_hugeLength_11 : decode cJ13_hugeLength 11 = .ok (.dup, 1) := dk_89 (dk_at dksJ13_hugeLength_0 11 rfl rfl)
theorem dJ13_hugeLength_12 : decode cJ13_hugeLength 12 = .ok (.new 89, 3) := dk_187 0 89 (dk_at dksJ13_hugeLength_0 12 rfl rfl)
theorem dJ13_hugeLength_15 : decode cJ13_hugeLength 15 = .ok (.dup, 1) := dk_89 (dk_at dksJ13_hugeLength_0 15 rfl rfl)
theorem dJ13_hugeLength_16 : decode cJ13_hugeLength 16 = .ok (.invokespecial 91, 3) := dk_183 0 91 (dk_at dksJ13_hugeLength_0 16 rfl rfl)
theorem dJ13_hugeLength_19 : decode cJ13_hugeLength 19 = .ok (.ldc 206, 2) := dk_18 206 (dk_at dksJ13_hugeLength_0 19 rfl rfl)
theorem dJ13_hugeLength_21 : decode cJ13_hugeLength 21 = .ok (.invokevirtual 94, 3) := dk_182 0 94 (dk_at dksJ13_hugeLength_0 21 rfl rfl)
theorem dJ13_hugeLength_24 : decode cJ13_hugeLength 24 = .ok (.iload_n 0, 1) := dk_26 (dk_at dksJ13_hugeLength_1 0 rfl rfl)
theorem dJ13_hugeLength_25 : decode cJ13_hugeLength 25 = .ok (.invokevirtual 98, 3) := dk_182 0 98 (dk_at dksJ13_hugeLength_1 1 rfl rfl)
theorem dJ13_hugeLength_28 : decode cJ13_hugeLength 28 = .ok (.ldc 208, 2) := dk_18 208 (dk_at dksJ13_hugeLength_1 4 rfl rfl)
theorem dJ13_hugeLength_30 : decode cJ13_hugeLength 30 = .ok (.invokevirtual 94, 3) := dk_182 0 94 (dk_at dksJ13_hugeLength_1 6 rfl rfl)
theorem dJ13_hugeLength_33 : decode cJ13_hugeLength 33 = .ok (.iload_n 1, 1) := dk_27 (dk_at dksJ13_hugeLength_1 9 rfl rfl)
theorem dJ13_hugeLength_34 : decode cJ13_hugeLength 34 = .ok (.invokevirtual 98, 3) := dk_182 0 98 (dk_at dksJ13_hugeLength_1 10 rfl rfl)
theorem dJ13_hugeLength_37 : decode cJ13_hugeLength 37 = .ok (.ldc 210, 2) := dk_18 210 (dk_at dksJ13_hugeLength_1 13 rfl rfl)
theorem dJ13_hugeLength_39 : decode cJ13_hugeLength 39 = .ok (.invokevirtual 94, 3) := dk_182 0 94 (dk_at dksJ13_hugeLength_1 15 rfl rfl)
theorem dJ13_hugeLength_42 : decode cJ13_hugeLength 42 = .ok (.invokevirtual 101, 3) := dk_182 0 101 (dk_at dksJ13_hugeLength_1 18 rfl rfl)
theorem dJ13_hugeLength_45 : decode cJ13_hugeLength 45 = .ok (.invokespecial 212, 3) := dk_183 0 212 (dk_at dksJ13_hugeLength_1 21 rfl rfl)
theorem dJ13_hugeLength_48 : decode cJ13_hugeLength 48 = .ok (.athrow, 1) := dk_191 (dk_at dksJ13_hugeLength_2 0 rfl rfl)
theorem dJ13_hugeLength_49 : decode cJ13_hugeLength 49 = .ok (.iload_n 2, 1) := dk_28 (dk_at dksJ13_hugeLength_2 1 rfl rfl)
theorem dJ13_hugeLength_50 : decode cJ13_hugeLength 50 = .ok (.ldc 200, 2) := dk_18 200 (dk_at dksJ13_hugeLength_2 2 rfl rfl)
theorem dJ13_hugeLength_52 : decode cJ13_hugeLength 52 = .ok (.if_icmp .gt 6, 3) := dk_163 0 6 (dk_at dksJ13_hugeLength_2 4 rfl rfl)
theorem dJ13_hugeLength_55 : decode cJ13_hugeLength 55 = .ok (.ldc 200, 2) := dk_18 200 (dk_at dksJ13_hugeLength_2 7 rfl rfl)
theorem dJ13_hugeLength_57 : decode cJ13_hugeLength 57 = .ok (.ireturn, 1) := dk_172 (dk_at dksJ13_hugeLength_2 9 rfl rfl)
theorem dJ13_hugeLength_58 : decode cJ13_hugeLength 58 = .ok (.iload_n 2, 1) := dk_28 (dk_at dksJ13_hugeLength_2 10 rfl rfl)
theorem dJ13_hugeLength_59 : decode cJ13_hugeLength 59 = .ok (.ireturn, 1) := dk_172 (dk_at dksJ13_hugeLength_2 11 rfl rfl)
theorem q164 : (Jvm.Cond.initialized "jdk/internal/util/ArraysSupport") ∈ lw_all := lw_g (lw_at lw_m1 27 rfl) rfl
theorem q664 : (Jvm.Cond.static ({ cls := "jdk/internal/util/ArraysSupport", name := "newLength", desc := "(III)I" } : Jvm.MethodName)) ∈ lw_all := lw_g (lw_at lw_m3 47 rfl) rfl
theorem q665 : (Jvm.Cond.code ({ cls := "jdk/internal/util/ArraysSupport", name := "newLength", desc := "(III)I" } : Jvm.MethodName) prog_47_method_27_code (4 : Nat) (Option.some Jvm.ClassFile.FieldType.int)) ∈ lw_all := lw_g (lw_at lw_m3 48 rfl) rfl
theorem q666 : (Jvm.Cond.methodLink "jdk/internal/util/ArraysSupport" (194 : Nat) ({ cls := "java/lang/Math", name := "max", desc := "(II)I" } : Jvm.MethodName)) ∈ lw_all := lw_g (lw_at lw_m3 49 rfl) rfl
theorem q669 : (Jvm.Cond.constant "jdk/internal/util/ArraysSupport" (200 : Nat) (2147483639 : Int32)) ∈ lw_all := lw_g (lw_at lw_m3 52 rfl) rfl
theorem q670 : (Jvm.Cond.methodLink "jdk/internal/util/ArraysSupport" (201 : Nat) ({ cls := "jdk/internal/util/ArraysSupport", name := "hugeLength", desc := "(II)I" } : Jvm.MethodName)) ∈ lw_all := lw_g (lw_at lw_m3 53 rfl) rfl
theorem q671 : (Jvm.Cond.static ({ cls := "jdk/internal/util/ArraysSupport", name := "hugeLength", desc := "(II)I" } : Jvm.MethodName)) ∈ lw_all := lw_g (lw_at lw_m3 54 rfl) rfl
theorem q672 : (Jvm.Cond.code ({ cls := "jdk/internal/util/ArraysSupport", name := "hugeLength", desc := "(II)I" } : Jvm.MethodName) prog_47_method_28_code (3 : Nat) (Option.some Jvm.ClassFile.FieldType.int)) ∈ lw_all := lw_g (lw_at lw_m3 55 rfl) rfl
/-! java/util/Arrays -/
set_option maxRecDepth 100000
def RJ14 : String := "java/util/Arrays"
abbrev cJ14_copyOf : ByteArray := prog_41_method_119_code
def yJ14_copyOf : MethodName := ⟨RJ14, "copyOf", "([Ljava/lang/Object;I)[Ljava/lang/Object;"⟩
def dkwJ14_copyOf_0 : List UInt8 := [42, 27, 42, 182, 0, 86, 184, 1, 44, 176]
abbrev dktJ14_copyOf_0 : List UInt8 := dkwJ14_copyOf_0 ++ []
theorem dksJ14_copyOf_0 : cJ14_copyOf.data.toList.drop 0 = dktJ14_copyOf_0 := by decide +kernel
theorem dJ14_copyOf_0 : decode cJ14_copyOf 0 = .ok (.aload_n 0, 1) := dk_42 (dk_at dksJ14_copyOf_0 0 rfl rfl)
theorem dJ14_copyOf_1 : decode cJ14_copyOf 1 = .ok (.iload_n 1, 1) := dk_27 (dk_at dksJ14_copyOf_0 1 rfl rfl)
theorem dJ14_copyOf_2 : decode cJ14_copyOf 2 = .ok (.aload_n 0, 1) := dk_42 (dk_at dksJ14_copyOf_0 2 rfl rfl)
theorem dJ14_copyOf_3 : decode cJ14_copyOf 3 = .ok (.invokevirtual 86, 3) := dk_182 0 86 (dk_at dksJ14_copyOf_0 3 rfl rfl)
theorem dJ14_copyOf_6 : decode cJ14_copyOf 6 = .ok (.invokestatic 300, 3) := dk_184 1 44 (dk_at dksJ14_copyOf_0 6 rfl rfl)
theorem dJ14_copyOf_9 : decode cJ14_copyOf 9 = .ok (.areturn, 1) := dk_176 (dk_at dksJ14_copyOf_0 9 rfl rfl)
abbrev cJ14_copyOf_2 : ByteArray := prog_41_method_120_code
def yJ14_copyOf_2 : MethodName := ⟨RJ14, "copyOf", "([Ljava/lang/Object;ILjava/lang/Class;)[Ljava/lang/Object;"⟩
def dkwJ14_copyOf_2_1 : List UInt8 := [78, 42, 3, 45, 3, 42, 190, 27, 184, 1, 48, 184, 0, 150, 45, 176]
abbrev dktJ14_copyOf_2_1 : List UInt8 := dkwJ14_copyOf_2_1 ++ []
def dkwJ14_copyOf_2_0 : List UInt8 := [44, 18, 110, 166, 0, 10, 27, 189, 0, 2, 167, 0, 14, 44, 182, 0, 90, 27, 184, 0, 95, 192, 0, 110]
abbrev dktJ14_copyOf_2_0 : List UInt8 := dkwJ14_copyOf_2_0 ++ dktJ14_copyOf_2_1
theorem dksJ14_copyOf_2_0 : cJ14_copyOf_2.data.toList.drop 0 = dktJ14_copyOf_2_0 := by decide +kernel
theorem dksJ14_copyOf_2_1 : cJ14_copyOf_2.data.toList.drop 24 = dktJ14_copyOf_2_1 := dk_seg dksJ14_copyOf_2_0 24 rfl rfl
theorem dJ14_copyOf_2_0 : decode cJ14_copyOf_2 0 = .ok (.aload_n 2, 1) := dk_44 (dk_at dksJ14_copyOf_2_0 0 rfl rfl)
theorem dJ14_copyOf_2_1 : decode cJ14_copyOf_2 1 = .ok (.ldc 110, 2) := dk_18 110 (dk_at dksJ14_copyOf_2_0 1 rfl rfl)
theorem dJ14_copyOf_2_3 : decode cJ14_copyOf_2 3 = .ok (.if_acmp .ne 10, 3) := dk_166 0 10 (dk_at dksJ14_copyOf_2_0 3 rfl rfl)
theorem dJ14_copyOf_2_6 : decode cJ14_copyOf_2 6 = .ok (.iload_n 1, 1) := dk_27 (dk_at dksJ14_copyOf_2_0 6 rfl rfl)
theorem dJ14_copyOf_2_7 : decode cJ14_copyOf_2 7 = .ok (.anewarray 2, 3) := dk_189 0 2 (dk_at dksJ14_copyOf_2_0 7 rfl rfl)
theorem dJ14_copyOf_2_10 : decode cJ14_copyOf_2 10 = .ok (.goto 14, 3) := dk_167 0 14 (dk_at dksJ14_copyOf_2_0 10 rfl rfl)
theorem dJ14_copyOf_2_13 : decode cJ14_copyOf_2 13 = .ok (.aload_n 2, 1) := dk_44 (dk_at dksJ14_copyOf_2_0 13 rfl rfl)
theorem dJ14_copyOf_2_14 : decode cJ14_copyOf_2 14 = .ok (.invokevirtual 90, 3) := dk_182 0 90 (dk_at dksJ14_copyOf_2_0 14 rfl rfl)
theorem dJ14_copyOf_2_17 : decode cJ14_copyOf_2 17 = .ok (.iload_n 1, 1) := dk_27 (dk_at dksJ14_copyOf_2_0 17 rfl rfl)
theorem dJ14_copyOf_2_18 : decode cJ14_copyOf_2 18 = .ok (.invokestatic 95, 3) := dk_184 0 95 (dk_at dksJ14_copyOf_2_0 18 rfl rfl)
theorem dJ14_copyOf_2_21 : decode cJ14_copyOf_2 21 = .ok (.checkcast 110, 3) := dk_192 0 110 (dk_at dksJ14_copyOf_2_0 21 rfl rfl)
theorem dJ14_copyOf_2_24 : decode cJ14_copyOf_2 24 = .ok (.astore_n 3, 1) := dk_78 (dk_at dksJ14_copyOf_2_1 0 rfl rfl)
theorem dJ14_copyOf_2_25 : decode cJ14_copyOf_2 25 = .ok (.aload_n 0, 1) := dk_42 (dk_at dksJ14_copyOf_2_1 1 rfl rfl)
theorem dJ14_copyOf_2_26 : decode cJ14_copyOf_2 26 = .ok (.iconst 0, 1) := dk_3 (dk_at dksJ14_copyOf_2_1 2 rfl rfl)
theorem dJ14_copyOf_2_27 : decode cJ14_copyOf_2 27 = .ok (.aload_n 3, 1) := dk_45 (dk_at dksJ14_copyOf_2_1 3 rfl rfl)
theorem dJ14_copyOf_2_28 : decode cJ14_copyOf_2 28 = .ok (.iconst 0, 1) := dk_3 (dk_at dksJ14_copyOf_2_1 4 rfl rfl)
theorem dJ14_copyOf_2_29 : decode cJ14_copyOf_2 29 = .ok (.aload_n 0, 1) := dk_42 (dk_at dksJ14_copyOf_2_1 5 rfl rfl)
theorem dJ14_copyOf_2_30 : decode cJ14_copyOf_2 30 = .ok (.arraylength, 1) := dk_190 (dk_at dksJ14_copyOf_2_1 6 rfl rfl)
theorem dJ14_copyOf_2_31 : decode cJ14_copyOf_2 31 = .ok (.iload_n 1, 1) := dk_27 (dk_at dksJ14_copyOf_2_1 7 rfl rfl)
theorem dJ14_copyOf_2_32 : decode cJ14_copyOf_2 32 = .ok (.invokestatic 304, 3) := dk_184 1 48 (dk_at dksJ14_copyOf_2_1 8 rfl rfl)
theorem dJ14_copyOf_2_35 : decode cJ14_copyOf_2 35 = .ok (.invokestatic 150, 3) := dk_184 0 150 (dk_at dksJ14_copyOf_2_1 11 rfl rfl)
theorem dJ14_copyOf_2_38 : decode cJ14_copyOf_2 38 = .ok (.aload_n 3, 1) := dk_45 (dk_at dksJ14_copyOf_2_1 14 rfl rfl)
theorem dJ14_copyOf_2_39 : decode cJ14_copyOf_2 39 = .ok (.areturn, 1) := dk_176 (dk_at dksJ14_copyOf_2_1 15 rfl rfl)
abbrev cJ14_fill : ByteArray := prog_41_method_103_code
def yJ14_fill : MethodName := ⟨RJ14, "fill", "([II)V"⟩
def dkwJ14_fill_0 : List UInt8 := [3, 61, 42, 190, 62, 28, 29, 162, 0, 13, 42, 28, 27, 79, 132, 2, 1, 167, 255, 244, 177]
abbrev dktJ14_fill_0 : List UInt8 := dkwJ14_fill_0 ++ []
theorem dksJ14_fill_0 : cJ14_fill.data.toList.drop 0 = dktJ14_fill_0 := by decide +kernel
theorem dJ14_fill_0 : decode cJ14_fill 0 = .ok (.iconst 0, 1) := dk_3 (dk_at dksJ14_fill_0 0 rfl rfl)
theorem dJ14_fill_1 : decode cJ14_fill 1 = .ok (.istore_n 2, 1) := dk_61 (dk_at dksJ14_fill_0 1 rfl rfl)
theorem dJ14_fill_2 : decode cJ14_fill 2 = .ok (.aload_n 0, 1) := dk_42 (dk_at dksJ14_fill_0 2 rfl rfl)
theorem dJ14_fill_3 : decode cJ14_fill 3 = .ok (.arraylength, 1) := dk_190 (dk_at dksJ14_fill_0 3 rfl rfl)
theorem dJ14_fill_4 : decode cJ14_fill 4 = .ok (.istore_n 3, 1) := dk_62 (dk_at dksJ14_fill_0 4 rfl rfl)
theorem dJ14_fill_5 : decode cJ14_fill 5 = .ok (.iload_n 2, 1) := dk_28 (dk_at dksJ14_fill_0 5 rfl rfl)
theorem dJ14_fill_6 : decode cJ14_fill 6 = .ok (.iload_n 3, 1) := dk_29 (dk_at dksJ14_fill_0 6 rfl rfl)
theorem dJ14_fill_7 : decode cJ14_fill 7 = .ok (.if_icmp .ge 13, 3) := dk_162 0 13 (dk_at dksJ14_fill_0 7 rfl rfl)
theorem dJ14_fill_10 : decode cJ14_fill 10 = .ok (.aload_n 0, 1) := dk_42 (dk_at dksJ14_fill_0 10 rfl rfl)
theorem dJ14_fill_11 : decode cJ14_fill 11 = .ok (.iload_n 2, 1) := dk_28 (dk_at dksJ14_fill_0 11 rfl rfl)
theorem dJ14_fill_12 : decode cJ14_fill 12 = .ok (.iload_n 1, 1) := dk_27 (dk_at dksJ14_fill_0 12 rfl rfl)
theorem dJ14_fill_13 : decode cJ14_fill 13 = .ok (.iastore, 1) := dk_79 (dk_at dksJ14_fill_0 13 rfl rfl)
theorem dJ14_fill_14 : decode cJ14_fill 14 = .ok (.iinc 2 1, 3) := dk_132 2 1 (dk_at dksJ14_fill_0 14 rfl rfl)
theorem dJ14_fill_17 : decode cJ14_fill 17 = .ok (.goto (-12), 3) := dk_167 255 244 (dk_at dksJ14_fill_0 17 rfl rfl)
theorem dJ14_fill_20 : decode cJ14_fill 20 = .ok (.return_, 1) := dk_177 (dk_at dksJ14_fill_0 20 rfl rfl)
theorem q165 : (Jvm.Cond.initialized "java/util/Arrays") ∈ lw_all := lw_g (lw_at lw_m1 28 rfl) rfl
theorem q674 : (Jvm.Cond.static ({ cls := "java/util/Arrays", name := "copyOf", desc := "([Ljava/lang/Object;I)[Ljava/lang/Object;" } : Jvm.MethodName)) ∈ lw_all := lw_g (lw_at lw_m3 57 rfl) rfl
theorem q675 : (Jvm.Cond.code ({ cls := "java/util/Arrays", name := "copyOf", desc := "([Ljava/lang/Object;I)[Ljava/lang/Object;" } : Jvm.MethodName) prog_41_method_119_code (2 : Nat) (Option.some (Jvm.ClassFile.FieldType.array (Jvm.ClassFile.FieldType.object "java/lang/Object")))) ∈ lw_all := lw_g (lw_at lw_m3 58 rfl) rfl
theorem q676 : (Jvm.Cond.methodLink "java/util/Arrays" (86 : Nat) ({ cls := "java/lang/Object", name := "getClass", desc := "()Ljava/lang/Class;" } : Jvm.MethodName)) ∈ lw_all := lw_g (lw_at lw_m3 59 rfl) rfl
theorem q698 : (Jvm.Cond.methodLink "java/util/Arrays" (300 : Nat) ({ cls := "java/util/Arrays", name := "copyOf", desc := "([Ljava/lang/Object;ILjava/lang/Class;)[Ljava/lang/Object;" } : Jvm.MethodName)) ∈ lw_all := lw_g (lw_at lw_m3 81 rfl) rfl
theorem q699 : (Jvm.Cond.static ({ cls := "java/util/Arrays", name := "copyOf", desc := "([Ljava/lang/Object;ILjava/lang/Class;)[Ljava/lang/Object;" } : Jvm.MethodName)) ∈ lw_all := lw_g (lw_at lw_m3 82 rfl) rfl
theorem q700 : (Jvm.Cond.code ({ cls := "java/util/Arrays", name := "copyOf", desc := "([Ljava/lang/Object;ILjava/lang/Class;)[Ljava/lang/Object;" } : Jvm.MethodName) prog_41_method_120_code (4 : Nat) (Option.some (Jvm.ClassFile.FieldType.array (Jvm.ClassFile.FieldType.object "java/lang/Object")))) ∈ lw_all := lw_g (lw_at lw_m3 83 rfl) rfl
theorem q701 : (Jvm.Cond.classLink "java/util/Arrays" (110 : Nat) "[Ljava/lang/Object;") ∈ lw_all := lw_g (lw_at lw_m3 84 rfl) rfl
theorem q703 : (Jvm.Cond.classLink "java/util/Arrays" (2 : Nat) "java/lang/Object") ∈ lw_all := lw_g (lw_at lw_m3 86 rfl) rfl
theorem q704 : (Jvm.Cond.methodLink "java/util/Arrays" (304 : Nat) ({ cls := "java/lang/Math", name := "min", desc := "(II)I" } : Jvm.MethodName)) ∈ lw_all := lw_g (lw_at lw_m3 87 rfl) rfl
theorem q705 : (Jvm.Cond.methodLink "java/util/Arrays" (150 : Nat) ({ cls := "java/lang/System", name := "arraycopy", desc := "(Ljava/lang/Object;ILjava/lang/Object;II)V" } : Jvm.MethodName)) ∈ lw_all := lw_g (lw_at lw_m3 88 rfl) rfl
theorem q1267 : (Jvm.Cond.static ({ cls := "java/util/Arrays", name := "fill", desc := "([II)V" } : Jvm.MethodName)) ∈ lw_all := lw_g (lw_at lw_m5 170 rfl) rfl
theorem q1268 : (Jvm.Cond.code ({ cls := "java/util/Arrays", name := "fill", desc := "([II)V" } : Jvm.MethodName) prog_41_method_103_code (4 : Nat) (Option.none : Option Jvm.ClassFile.FieldType)) ∈ lw_all := lw_g (lw_at lw_m5 171 rfl) rfl
/-! java/util/Objects -/
set_option maxRecDepth 100000
def RJ15 : String := "java/util/Objects"
abbrev cJ15_checkIndex : ByteArray := prog_44_method_17_code
def yJ15_checkIndex : MethodName := ⟨RJ15, "checkIndex", "(II)I"⟩
def dkwJ15_checkIndex_0 : List UInt8 := [26, 27, 1, 184, 0, 105, 172]
abbrev dktJ15_checkIndex_0 : List UInt8 := dkwJ15_checkIndex_0 ++ []
theorem dksJ15_checkIndex_0 : cJ15_checkIndex.data.toList.drop 0 = dktJ15_checkIndex_0 := by decide +kernel
theorem dJ15_checkIndex_0 : decode cJ15_checkIndex 0 = .ok (.iload_n 0, 1) := dk_26 (dk_at dksJ15_checkIndex_0 0 rfl rfl)
theorem dJ15_checkIndex_1 : decode cJ15_checkIndex 1 = .ok (.iload_n 1, 1) := dk_27 (dk_at dksJ15_checkIndex_0 1 rfl rfl)
theorem dJ15_checkIndex_2 : decode cJ15_checkIndex 2 = .ok (.aconst_null, 1) := dk_1 (dk_at dksJ15_checkIndex_0 2 rfl rfl)
theorem dJ15_checkIndex_3 : decode cJ15_checkIndex 3 = .ok (.invokestatic 105, 3) := dk_184 0 105 (dk_at dksJ15_checkIndex_0 3 rfl rfl)
theorem dJ15_checkIndex_6 : decode cJ15_checkIndex 6 = .ok (.ireturn, 1) := dk_172 (dk_at dksJ15_checkIndex_0 6 rfl rfl)
theorem q169 : (Jvm.Cond.initialized "java/util/Objects") ∈ lw_all := lw_g (lw_at lw_m1 32 rfl) rfl
theorem q783 : (Jvm.Cond.static ({ cls := "java/util/Objects", name := "checkIndex", desc := "(II)I" } : Jvm.MethodName)) ∈ lw_all := lw_g (lw_at lw_m3 166 rfl) rfl
theorem q784 : (Jvm.Cond.code ({ cls := "java/util/Objects", name := "checkIndex", desc := "(II)I" } : Jvm.MethodName) prog_44_method_17_code (2 : Nat) (Option.some Jvm.ClassFile.FieldType.int)) ∈ lw_all := lw_g (lw_at lw_m3 167 rfl) rfl
theorem q785 : (Jvm.Cond.methodLink "java/util/Objects" (105 : Nat) ({ cls := "jdk/internal/util/Preconditions", name := "checkIndex", desc := "(IILjava/util/function/BiFunction;)I" } : Jvm.MethodName)) ∈ lw_all := lw_g (lw_at lw_m3 168 rfl) rfl
/-! java/lang/Object -/
set_option maxRecDepth 100000
def RJ16 : String := "java/lang/Object"
abbrev cJ16_init : ByteArray := object_method_1_code
def yJ16_init : MethodName := ⟨RJ16, "<init>", "()V"⟩
theorem dJ16_init_0 : decode cJ16_init 0 = .ok (.return_, 1) := by decide +kernel
theorem q178 : (Jvm.Cond.instanceMethod ({ cls := "java/lang/Object", name := "<init>", desc := "()V" } : Jvm.MethodName)) ∈ lw_all := lw_g (lw_at lw_m1 41 rfl) rfl
theorem q179 : (Jvm.Cond.code ({ cls := "java/lang/Object", name := "<init>", desc := "()V" } : Jvm.MethodName) object_method_1_code (1 : Nat) (Option.none : Option Jvm.ClassFile.FieldType)) ∈ lw_all := lw_g (lw_at lw_m1 42 rfl) rfl
theorem q677 : (Jvm.Cond.instanceMethod ({ cls := "java/lang/Object", name := "getClass", desc := "()Ljava/lang/Class;" } : Jvm.MethodName)) ∈ lw_all := lw_g (lw_at lw_m3 60 rfl) rfl
theorem q678 : (Jvm.Cond.sameMethod "java/lang/Object" "java/lang/Object" "getClass" "()Ljava/lang/Class;") ∈ lw_all := lw_g (lw_at lw_m3 61 rfl) rfl
theorem q697 : (Jvm.Cond.native ({ cls := "java/lang/Object", name := "getClass", desc := "()Ljava/lang/Class;" } : Jvm.MethodName)) ∈ lw_all := lw_g (lw_at lw_m3 80 rfl) rfl
theorem q2026 : (Jvm.Cond.initialized "java/lang/Object") ∈ lw_all := lw_g (lw_at lw_m8 209 rfl) rfl
theorem q2049 : (Jvm.Cond.declares ({ cls := "java/lang/Object", name := "getClass", desc := "()Ljava/lang/Class;" } : Jvm.MethodName)) ∈ lw_tbl := lw_at lw_m8 232 rfl
/-! java/util/ArrayList -/
set_option maxRecDepth 100000
def RJ2 : String := "java/util/ArrayList"
def TJ2 : u_T := fun k => match k with
  | 0 => ("java/util/AbstractList", "modCount", "I", false)
  | 1 => ("java/util/ArrayList", "elementData", "[Ljava/lang/Object;", false)
  | _ => ("java/util/ArrayList", "size", "I", false)
def tyJ2 : Nat → FieldType := fun k => match k with
  | 0 => .int
  | 1 => .array (.object "java/lang/Object")
  | _ => .int
abbrev wsJ20 : List Cond := u_ws RJ2 TJ2 3
theorem nmJ2 : ∀ a, a < 3 → ∀ b, b < 3 → a ≠ b → (TJ2 a).2.1 ≠ (TJ2 b).2.1 := by decide +kernel
theorem tyJ2_ok : ∀ k, k < 3 → parseFieldDescriptor (TJ2 k).2.2.1 = some (tyJ2 k) := by decide +kernel
abbrev cJ2_init : ByteArray := prog_40_method_2_code
def yJ2_init : MethodName := ⟨RJ2, "<init>", "()V"⟩
def dkwJ2_init_0 : List UInt8 := [42, 183, 0, 1, 42, 178, 0, 39, 181, 0, 9, 177]
abbrev dktJ2_init_0 : List UInt8 := dkwJ2_init_0 ++ []
theorem dksJ2_init_0 : cJ2_init.data.toList.drop 0 = dktJ2_init_0 := by decide +kernel
theorem dJ2_init_0 : decode cJ2_init 0 = .ok (.aload_n 0, 1) := dk_42 (dk_at dksJ2_init_0 0 rfl rfl)
theorem dJ2_init_1 : decode cJ2_init 1 = .ok (.invokespecial 1, 3) := dk_183 0 1 (dk_at dksJ2_init_0 1 rfl rfl)
theorem dJ2_init_4 : decode cJ2_init 4 = .ok (.aload_n 0, 1) := dk_42 (dk_at dksJ2_init_0 4 rfl rfl)
theorem dJ2_init_5 : decode cJ2_init 5 = .ok (.getstatic 39, 3) := dk_178 0 39 (dk_at dksJ2_init_0 5 rfl rfl)
theorem dJ2_init_8 : decode cJ2_init 8 = .ok (.putfield 9, 3) := dk_181 0 9 (dk_at dksJ2_init_0 8 rfl rfl)
theorem dJ2_init_11 : decode cJ2_init 11 = .ok (.return_, 1) := dk_177 (dk_at dksJ2_init_0 11 rfl rfl)
abbrev cJ2_add : ByteArray := prog_40_method_25_code
def yJ2_add : MethodName := ⟨RJ2, "add", "(Ljava/lang/Object;)Z"⟩
def dkwJ2_add_1 : List UInt8 := [172]
abbrev dktJ2_add_1 : List UInt8 := dkwJ2_add_1 ++ []
def dkwJ2_add_0 : List UInt8 := [42, 89, 180, 0, 63, 4, 96, 181, 0, 63, 42, 43, 42, 180, 0, 9, 42, 180, 0, 48, 182, 0, 131, 4]
abbrev dktJ2_add_0 : List UInt8 := dkwJ2_add_0 ++ dktJ2_add_1
theorem dksJ2_add_0 : cJ2_add.data.toList.drop 0 = dktJ2_add_0 := by decide +kernel
theorem dksJ2_add_1 : cJ2_add.data.toList.drop 24 = dktJ2_add_1 := dk_seg dksJ2_add_0 24 rfl rfl
theorem dJ2_add_0 : decode cJ2_add 0 = .ok (.aload_n 0, 1) := dk_42 (dk_at dksJ2_add_0 0 rfl rfl)
theorem dJ2_add_1 : decode cJ2_add 1 = .ok (.dup, 1) := dk_89 (dk_at dksJ2_add_0 1 rfl rfl)
theorem dJ2_add_2 : decode cJ2_add 2 = .ok (.getfield 63, 3) := dk_180 0 63 (dk_at dksJ2_add_0 2 rfl rfl)
theorem dJ2_add_5 : decode cJ2_add 5 = .ok (.iconst 1, 1) := dk_4 (dk_at dksJ2_add_0 5 rfl rfl)
theorem dJ2_add_6 : decode cJ2_add 6 = .ok (.iadd, 1) := dk_96 (dk_at dksJ2_add_0 6 rfl rfl)
theorem dJ2_add_7 : decode cJ2_add 7 = .ok (.putfield 63, 3) := dk_181 0 63 (dk_at dksJ2_add_0 7 rfl rfl)
theorem dJ2_add_10 : decode cJ2_add 10 = .ok (.aload_n 0, 1) := dk_42 (dk_at dksJ2_add_0 10 rfl rfl)
theorem dJ2_add_11 : decode cJ2_add 11 = .ok (.aload_n 1, 1) := dk_43 (dk_at dksJ2_add_0 11 rfl rfl)
theorem dJ2_add_12 : decode cJ2_add 12 = .ok (.aload_n 0, 1) := dk_42 (dk_at dksJ2_add_0 12 rfl rfl)
theorem dJ2_add_13 : decode cJ2_add 13 = .ok (.getfield 9, 3) := dk_180 0 9 (dk_at dksJ2_add_0 13 rfl rfl)
theorem dJ2_add_16 : decode cJ2_add 16 = .ok (.aload_n 0, 1) := dk_42 (dk_at dksJ2_add_0 16 rfl rfl)
theorem dJ2_add_17 : decode cJ2_add 17 = .ok (.getfield 48, 3) := dk_180 0 48 (dk_at dksJ2_add_0 17 rfl rfl)
theorem dJ2_add_20 : decode cJ2_add 20 = .ok (.invokevirtual 131, 3) := dk_182 0 131 (dk_at dksJ2_add_0 20 rfl rfl)
theorem dJ2_add_23 : decode cJ2_add 23 = .ok (.iconst 1, 1) := dk_4 (dk_at dksJ2_add_0 23 rfl rfl)
theorem dJ2_add_24 : decode cJ2_add 24 = .ok (.ireturn, 1) := dk_172 (dk_at dksJ2_add_1 0 rfl rfl)
abbrev cJ2_add_2 : ByteArray := prog_40_method_24_code
def yJ2_add_2 : MethodName := ⟨RJ2, "add", "(Ljava/lang/Object;[Ljava/lang/Object;I)V"⟩
def dkwJ2_add_2_0 : List UInt8 := [29, 44, 190, 160, 0, 8, 42, 182, 0, 129, 77, 44, 29, 43, 83, 42, 29, 4, 96, 181, 0, 48, 177]
abbrev dktJ2_add_2_0 : List UInt8 := dkwJ2_add_2_0 ++ []
theorem dksJ2_add_2_0 : cJ2_add_2.data.toList.drop 0 = dktJ2_add_2_0 := by decide +kernel
theorem dJ2_add_2_0 : decode cJ2_add_2 0 = .ok (.iload_n 3, 1) := dk_29 (dk_at dksJ2_add_2_0 0 rfl rfl)
theorem dJ2_add_2_1 : decode cJ2_add_2 1 = .ok (.aload_n 2, 1) := dk_44 (dk_at dksJ2_add_2_0 1 rfl rfl)
theorem dJ2_add_2_2 : decode cJ2_add_2 2 = .ok (.arraylength, 1) := dk_190 (dk_at dksJ2_add_2_0 2 rfl rfl)
theorem dJ2_add_2_3 : decode cJ2_add_2 3 = .ok (.if_icmp .ne 8, 3) := dk_160 0 8 (dk_at dksJ2_add_2_0 3 rfl rfl)
theorem dJ2_add_2_6 : decode cJ2_add_2 6 = .ok (.aload_n 0, 1) := dk_42 (dk_at dksJ2_add_2_0 6 rfl rfl)
theorem dJ2_add_2_7 : decode cJ2_add_2 7 = .ok (.invokevirtual 129, 3) := dk_182 0 129 (dk_at dksJ2_add_2_0 7 rfl rfl)
theorem dJ2_add_2_10 : decode cJ2_add_2 10 = .ok (.astore_n 2, 1) := dk_77 (dk_at dksJ2_add_2_0 10 rfl rfl)
theorem dJ2_add_2_11 : decode cJ2_add_2 11 = .ok (.aload_n 2, 1) := dk_44 (dk_at dksJ2_add_2_0 11 rfl rfl)
theorem dJ2_add_2_12 : decode cJ2_add_2 12 = .ok (.iload_n 3, 1) := dk_29 (dk_at dksJ2_add_2_0 12 rfl rfl)
theorem dJ2_add_2_13 : decode cJ2_add_2 13 = .ok (.aload_n 1, 1) := dk_43 (dk_at dksJ2_add_2_0 13 rfl rfl)
theorem dJ2_add_2_14 : decode cJ2_add_2 14 = .ok (.aastore, 1) := dk_83 (dk_at dksJ2_add_2_0 14 rfl rfl)
theorem dJ2_add_2_15 : decode cJ2_add_2 15 = .ok (.aload_n 0, 1) := dk_42 (dk_at dksJ2_add_2_0 15 rfl rfl)
theorem dJ2_add_2_16 : decode cJ2_add_2 16 = .ok (.iload_n 3, 1) := dk_29 (dk_at dksJ2_add_2_0 16 rfl rfl)
theorem dJ2_add_2_17 : decode cJ2_add_2 17 = .ok (.iconst 1, 1) := dk_4 (dk_at dksJ2_add_2_0 17 rfl rfl)
theorem dJ2_add_2_18 : decode cJ2_add_2 18 = .ok (.iadd, 1) := dk_96 (dk_at dksJ2_add_2_0 18 rfl rfl)
theorem dJ2_add_2_19 : decode cJ2_add_2 19 = .ok (.putfield 48, 3) := dk_181 0 48 (dk_at dksJ2_add_2_0 19 rfl rfl)
theorem dJ2_add_2_22 : decode cJ2_add_2 22 = .ok (.return_, 1) := dk_177 (dk_at dksJ2_add_2_0 22 rfl rfl)
abbrev cJ2_grow : ByteArray := prog_40_method_7_code
def yJ2_grow : MethodName := ⟨RJ2, "grow", "()[Ljava/lang/Object;"⟩
def dkwJ2_grow_0 : List UInt8 := [42, 42, 180, 0, 48, 4, 96, 182, 0, 69, 176]
abbrev dktJ2_grow_0 : List UInt8 := dkwJ2_grow_0 ++ []
theorem dksJ2_grow_0 : cJ2_grow.data.toList.drop 0 = dktJ2_grow_0 := by decide +kernel
theorem dJ2_grow_0 : decode cJ2_grow 0 = .ok (.aload_n 0, 1) := dk_42 (dk_at dksJ2_grow_0 0 rfl rfl)
theorem dJ2_grow_1 : decode cJ2_grow 1 = .ok (.aload_n 0, 1) := dk_42 (dk_at dksJ2_grow_0 1 rfl rfl)
theorem dJ2_grow_2 : decode cJ2_grow 2 = .ok (.getfield 48, 3) := dk_180 0 48 (dk_at dksJ2_grow_0 2 rfl rfl)
theorem dJ2_grow_5 : decode cJ2_grow 5 = .ok (.iconst 1, 1) := dk_4 (dk_at dksJ2_grow_0 5 rfl rfl)
theorem dJ2_grow_6 : decode cJ2_grow 6 = .ok (.iadd, 1) := dk_96 (dk_at dksJ2_grow_0 6 rfl rfl)
theorem dJ2_grow_7 : decode cJ2_grow 7 = .ok (.invokevirtual 69, 3) := dk_182 0 69 (dk_at dksJ2_grow_0 7 rfl rfl)
theorem dJ2_grow_10 : decode cJ2_grow 10 = .ok (.areturn, 1) := dk_176 (dk_at dksJ2_grow_0 10 rfl rfl)
abbrev cJ2_grow_2 : ByteArray := prog_40_method_6_code
def yJ2_grow_2 : MethodName := ⟨RJ2, "grow", "(I)[Ljava/lang/Object;"⟩
def dkwJ2_grow_2_2 : List UInt8 := [27, 184, 0, 79, 189, 0, 7, 90, 181, 0, 9, 176]
abbrev dktJ2_grow_2_2 : List UInt8 := dkwJ2_grow_2_2 ++ []
def dkwJ2_grow_2_1 : List UInt8 := [28, 4, 122, 184, 0, 73, 62, 42, 42, 180, 0, 9, 29, 184, 0, 66, 90, 181, 0, 9, 176, 42, 16, 10]
abbrev dktJ2_grow_2_1 : List UInt8 := dkwJ2_grow_2_1 ++ dktJ2_grow_2_2
def dkwJ2_grow_2_0 : List UInt8 := [42, 180, 0, 9, 190, 61, 28, 157, 0, 13, 42, 180, 0, 9, 178, 0, 39, 165, 0, 28, 28, 27, 28, 100]
abbrev dktJ2_grow_2_0 : List UInt8 := dkwJ2_grow_2_0 ++ dktJ2_grow_2_1
theorem dksJ2_grow_2_0 : cJ2_grow_2.data.toList.drop 0 = dktJ2_grow_2_0 := by decide +kernel
theorem dksJ2_grow_2_1 : cJ2_grow_2.data.toList.drop 24 = dktJ2_grow_2_1 := dk_seg dksJ2_grow_2_0 24 rfl rfl
theorem dksJ2_grow_2_2 : cJ2_grow_2.data.toList.drop 48 = dktJ2_grow_2_2 := dk_seg dksJ2_grow_2_1 24 rfl rfl
theorem dJ2_grow_2_0 : decode cJ2_grow_2 0 = .ok (.aload_n 0, 1) := dk_42 (dk_at dksJ2_grow_2_0 0 rfl rfl)
theorem dJ2_grow_2_1 : decode cJ2_grow_2 1 = .ok (.getfield 9, 3) := dk_180 0 9 (dk_at dksJ2_grow_2_0 1 rfl rfl)
theorem dJ2_grow_2_4 : decode cJ2_grow_2 4 = .ok (.arraylength, 1) := dk_190 (dk_at dksJ2_grow_2_0 4 rfl rfl)
theorem dJ2_grow_2_5 : decode cJ2_grow_2 5 = .ok (.istore_n 2, 1) := dk_61 (dk_at dksJ2_grow_2_0 5 rfl rfl)
theorem dJ2_grow_2_6 : decode cJ2_grow_2 6 = .ok (.iload_n 2, 1) := dk_28 (dk_at dksJ2_grow_2_0 6 rfl rfl)
theorem dJ2_grow_2_7 : decode cJ2_grow_2 7 = .ok (.ifCond .gt 13, 3) := dk_157 0 13 (dk_at dksJ2_grow_2_0 7 rfl rfl)
theorem dJ2_grow_2_10 : decode cJ2_grow_2 10 = .ok (.aload_n 0, 1) := dk_42 (dk_at dksJ2_grow_2_0 10 rfl rfl)
theorem dJ2_grow_2_11 : decode cJ2_grow_2 11 = .ok (.getfield 9, 3) := dk_180 0 9 (dk_at dksJ2_grow_2_0 11 rfl rfl)
theorem dJ2_grow_2_14 : decode cJ2_grow_2 14 = .ok (.getstatic 39, 3) := dk_178 0 39 (dk_at dksJ2_grow_2_0 14 rfl rfl)
theorem dJ2_grow_2_17 : decode cJ2_grow_2 17 = .ok (.if_acmp .eq 28, 3) := dk_165 0 28 (dk_at dksJ2_grow_2_0 17 rfl rfl)
theorem dJ2_grow_2_20 : decode cJ2_grow_2 20 = .ok (.iload_n 2, 1) := dk_28 (dk_at dksJ2_grow_2_0 20 rfl rfl)
theorem dJ2_grow_2_21 : decode cJ2_grow_2 21 = .ok (.iload_n 1, 1) := dk_27 (dk_at dksJ2_grow_2_0 21 rfl rfl)
theorem dJ2_grow_2_22 : decode cJ2_grow_2 22 = .ok (.iload_n 2, 1) := dk_28 (dk_at dksJ2_grow_2_0 22 rfl rfl)
theorem dJ2_grow_2_23 : decode cJ2_grow_2 23 = .ok (.isub, 1) := dk_100 (dk_at dksJ2_grow_2_0 23 rfl rfl)
theorem dJ2_grow_2_24 : decode cJ2_grow_2 24 = .ok (.iload_n 2, 1) := dk_28 (dk_at dksJ2_grow_2_1 0 rfl rfl)
theorem dJ2_grow_2_25 : decode cJ2_grow_2 25 = .ok (.iconst 1, 1) := dk_4 (dk_at dksJ2_grow_2_1 1 rfl rfl)
theorem dJ2_grow_2_26 : decode cJ2_grow_2 26 = .ok (.ishr, 1) := dk_122 (dk_at dksJ2_grow_2_1 2 rfl rfl)
theorem dJ2_grow_2_27 : decode cJ2_grow_2 27 = .ok (.invokestatic 73, 3) := dk_184 0 73 (dk_at dksJ2_grow_2_1 3 rfl rfl)
theorem dJ2_grow_2_30 : decode cJ2_grow_2 30 = .ok (.istore_n 3, 1) := dk_62 (dk_at dksJ2_grow_2_1 6 rfl rfl)
theorem dJ2_grow_2_31 : decode cJ2_grow_2 31 = .ok (.aload_n 0, 1) := dk_42 (dk_at dksJ2_grow_2_1 7 rfl rfl)
theorem dJ2_grow_2_32 : decode cJ2_grow_2 32 = .ok (.aload_n 0, 1) := dk_42 (dk_at dksJ2_grow_2_1 8 rfl rfl)
theorem dJ2_grow_2_33 : decode cJ2_grow_2 33 = .ok (.getfield 9, 3) := dk_180 0 9 (dk_at dksJ2_grow_2_1 9 rfl rfl)
theorem dJ2_grow_2_36 : decode cJ2_grow_2 36 = .ok (.iload_n 3, 1) := dk_29 (dk_at dksJ2_grow_2_1 12 rfl rfl)
theorem dJ2_grow_2_37 : decode cJ2_grow_2 37 = .ok (.invokestatic 66, 3) := dk_184 0 66 (dk_at dksJ2_grow_2_1 13 rfl rfl)
theorem dJ2_grow_2_40 : decode cJ2_grow_2 40 = .ok (.dup_x1, 1) := dk_90 (dk_at dksJ2_grow_2_1 16 rfl rfl)
theorem dJ2_grow_2_41 : decode cJ2_grow_2 41 = .ok (.putfield 9, 3) := dk_181 0 9 (dk_at dksJ2_grow_2_1 17 rfl rfl)
theorem dJ2_grow_2_44 : decode cJ2_grow_2 44 = .ok (.areturn, 1) := dk_176 (dk_at dksJ2_grow_2_1 20 rfl rfl)
theorem dJ2_grow_2_45 : decode cJ2_grow_2 45 = .ok (.aload_n 0, 1) := dk_42 (dk_at dksJ2_grow_2_1 21 rfl rfl)
theorem dJ2_grow_2_46 : decode cJ2_grow_2 46 = .ok (.bipush 10, 2) := dk_16 10 (dk_at dksJ2_grow_2_1 22 rfl rfl)
theorem dJ2_grow_2_48 : decode cJ2_grow_2 48 = .ok (.iload_n 1, 1) := dk_27 (dk_at dksJ2_grow_2_2 0 rfl rfl)
theorem dJ2_grow_2_49 : decode cJ2_grow_2 49 = .ok (.invokestatic 79, 3) := dk_184 0 79 (dk_at dksJ2_grow_2_2 1 rfl rfl)
theorem dJ2_grow_2_52 : decode cJ2_grow_2 52 = .ok (.anewarray 7, 3) := dk_189 0 7 (dk_at dksJ2_grow_2_2 4 rfl rfl)
theorem dJ2_grow_2_55 : decode cJ2_grow_2 55 = .ok (.dup_x1, 1) := dk_90 (dk_at dksJ2_grow_2_2 7 rfl rfl)
theorem dJ2_grow_2_56 : decode cJ2_grow_2 56 = .ok (.putfield 9, 3) := dk_181 0 9 (dk_at dksJ2_grow_2_2 8 rfl rfl)
theorem dJ2_grow_2_59 : decode cJ2_grow_2 59 = .ok (.areturn, 1) := dk_176 (dk_at dksJ2_grow_2_2 11 rfl rfl)
abbrev cJ2_isEmpty : ByteArray := prog_40_method_9_code
def yJ2_isEmpty : MethodName := ⟨RJ2, "isEmpty", "()Z"⟩
def dkwJ2_isEmpty_0 : List UInt8 := [42, 180, 0, 48, 154, 0, 7, 4, 167, 0, 4, 3, 172]
abbrev dktJ2_isEmpty_0 : List UInt8 := dkwJ2_isEmpty_0 ++ []
theorem dksJ2_isEmpty_0 : cJ2_isEmpty.data.toList.drop 0 = dktJ2_isEmpty_0 := by decide +kernel
theorem dJ2_isEmpty_0 : decode cJ2_isEmpty 0 = .ok (.aload_n 0, 1) := dk_42 (dk_at dksJ2_isEmpty_0 0 rfl rfl)
theorem dJ2_isEmpty_1 : decode cJ2_isEmpty 1 = .ok (.getfield 48, 3) := dk_180 0 48 (dk_at dksJ2_isEmpty_0 1 rfl rfl)
theorem dJ2_isEmpty_4 : decode cJ2_isEmpty 4 = .ok (.ifCond .ne 7, 3) := dk_154 0 7 (dk_at dksJ2_isEmpty_0 4 rfl rfl)
theorem dJ2_isEmpty_7 : decode cJ2_isEmpty 7 = .ok (.iconst 1, 1) := dk_4 (dk_at dksJ2_isEmpty_0 7 rfl rfl)
theorem dJ2_isEmpty_8 : decode cJ2_isEmpty 8 = .ok (.goto 4, 3) := dk_167 0 4 (dk_at dksJ2_isEmpty_0 8 rfl rfl)
theorem dJ2_isEmpty_11 : decode cJ2_isEmpty 11 = .ok (.iconst 0, 1) := dk_3 (dk_at dksJ2_isEmpty_0 11 rfl rfl)
theorem dJ2_isEmpty_12 : decode cJ2_isEmpty 12 = .ok (.ireturn, 1) := dk_172 (dk_at dksJ2_isEmpty_0 12 rfl rfl)
abbrev cJ2_size : ByteArray := prog_40_method_8_code
def yJ2_size : MethodName := ⟨RJ2, "size", "()I"⟩
theorem dJ2_size_0 : decode cJ2_size 0 = .ok (.aload_n 0, 1) := by decide +kernel
theorem dJ2_size_1 : decode cJ2_size 1 = .ok (.getfield 48, 3) := by decide +kernel
theorem dJ2_size_4 : decode cJ2_size 4 = .ok (.ireturn, 1) := by decide +kernel
abbrev cJ2_get : ByteArray := prog_40_method_20_code
def yJ2_get : MethodName := ⟨RJ2, "get", "(I)Ljava/lang/Object;"⟩
def dkwJ2_get_0 : List UInt8 := [27, 42, 180, 0, 48, 184, 0, 118, 87, 42, 27, 182, 0, 123, 176]
abbrev dktJ2_get_0 : List UInt8 := dkwJ2_get_0 ++ []
theorem dksJ2_get_0 : cJ2_get.data.toList.drop 0 = dktJ2_get_0 := by decide +kernel
theorem dJ2_get_0 : decode cJ2_get 0 = .ok (.iload_n 1, 1) := dk_27 (dk_at dksJ2_get_0 0 rfl rfl)
theorem dJ2_get_1 : decode cJ2_get 1 = .ok (.aload_n 0, 1) := dk_42 (dk_at dksJ2_get_0 1 rfl rfl)
theorem dJ2_get_2 : decode cJ2_get 2 = .ok (.getfield 48, 3) := dk_180 0 48 (dk_at dksJ2_get_0 2 rfl rfl)
theorem dJ2_get_5 : decode cJ2_get 5 = .ok (.invokestatic 118, 3) := dk_184 0 118 (dk_at dksJ2_get_0 5 rfl rfl)
theorem dJ2_get_8 : decode cJ2_get 8 = .ok (.pop, 1) := dk_87 (dk_at dksJ2_get_0 8 rfl rfl)
theorem dJ2_get_9 : decode cJ2_get 9 = .ok (.aload_n 0, 1) := dk_42 (dk_at dksJ2_get_0 9 rfl rfl)
theorem dJ2_get_10 : decode cJ2_get 10 = .ok (.iload_n 1, 1) := dk_27 (dk_at dksJ2_get_0 10 rfl rfl)
theorem dJ2_get_11 : decode cJ2_get 11 = .ok (.invokevirtual 123, 3) := dk_182 0 123 (dk_at dksJ2_get_0 11 rfl rfl)
theorem dJ2_get_14 : decode cJ2_get 14 = .ok (.areturn, 1) := dk_176 (dk_at dksJ2_get_0 14 rfl rfl)
abbrev cJ2_elementData : ByteArray := prog_40_method_18_code
def yJ2_elementData : MethodName := ⟨RJ2, "elementData", "(I)Ljava/lang/Object;"⟩
def dkwJ2_elementData_0 : List UInt8 := [42, 180, 0, 9, 27, 50, 176]
abbrev dktJ2_elementData_0 : List UInt8 := dkwJ2_elementData_0 ++ []
theorem dksJ2_elementData_0 : cJ2_elementData.data.toList.drop 0 = dktJ2_elementData_0 := by decide +kernel
theorem dJ2_elementData_0 : decode cJ2_elementData 0 = .ok (.aload_n 0, 1) := dk_42 (dk_at dksJ2_elementData_0 0 rfl rfl)
theorem dJ2_elementData_1 : decode cJ2_elementData 1 = .ok (.getfield 9, 3) := dk_180 0 9 (dk_at dksJ2_elementData_0 1 rfl rfl)
theorem dJ2_elementData_4 : decode cJ2_elementData 4 = .ok (.iload_n 1, 1) := dk_27 (dk_at dksJ2_elementData_0 4 rfl rfl)
theorem dJ2_elementData_5 : decode cJ2_elementData 5 = .ok (.aaload, 1) := dk_50 (dk_at dksJ2_elementData_0 5 rfl rfl)
theorem dJ2_elementData_6 : decode cJ2_elementData 6 = .ok (.areturn, 1) := dk_176 (dk_at dksJ2_elementData_0 6 rfl rfl)
theorem q146 : (Jvm.Cond.initialized "java/util/ArrayList") ∈ lw_all := lw_g (lw_at lw_m1 9 rfl) rfl
theorem q340 : (Jvm.Cond.instantiable "java/util/ArrayList" (3 : Nat)) ∈ lw_all := lw_g (lw_at lw_m1 203 rfl) rfl
theorem q342 : (Jvm.Cond.instanceMethod ({ cls := "java/util/ArrayList", name := "<init>", desc := "()V" } : Jvm.MethodName)) ∈ lw_all := lw_g (lw_at lw_m1 205 rfl) rfl
theorem q343 : (Jvm.Cond.code ({ cls := "java/util/ArrayList", name := "<init>", desc := "()V" } : Jvm.MethodName) prog_40_method_2_code (1 : Nat) (Option.none : Option Jvm.ClassFile.FieldType)) ∈ lw_all := lw_g (lw_at lw_m1 206 rfl) rfl
theorem q344 : (Jvm.Cond.methodLink "java/util/ArrayList" (1 : Nat) ({ cls := "java/util/AbstractList", name := "<init>", desc := "()V" } : Jvm.MethodName)) ∈ lw_all := lw_g (lw_at lw_m1 207 rfl) rfl
theorem q351 : (Jvm.Cond.fieldLink "java/util/ArrayList" (39 : Nat) "java/util/ArrayList" "DEFAULTCAPACITY_EMPTY_ELEMENTDATA" "[Ljava/lang/Object;") ∈ lw_all := lw_g (lw_at lw_m1 214 rfl) rfl
theorem q352 : (Jvm.Cond.laysStatic "java/util/ArrayList" "DEFAULTCAPACITY_EMPTY_ELEMENTDATA" "[Ljava/lang/Object;") ∈ lw_tbl := lw_at lw_m1 215 rfl
theorem q353 : (Jvm.Cond.fieldLink "java/util/ArrayList" (9 : Nat) "java/util/ArrayList" "elementData" "[Ljava/lang/Object;") ∈ lw_all := lw_g (lw_at lw_m1 216 rfl) rfl
theorem q354 : (Jvm.Cond.fieldLink "java/util/ArrayList" (48 : Nat) "java/util/ArrayList" "size" "I") ∈ lw_all := lw_g (lw_at lw_m1 217 rfl) rfl
theorem q356 : (Jvm.Cond.fieldLink "java/util/ArrayList" (63 : Nat) "java/util/ArrayList" "modCount" "I") ∈ lw_all := lw_g (lw_at lw_m1 219 rfl) rfl
theorem q357 : (Jvm.Cond.sameField "java/util/ArrayList" "java/util/AbstractList" "modCount" "I") ∈ lw_all := lw_g (lw_at lw_m1 220 rfl) rfl
theorem q358 : (Jvm.Cond.lays "java/util/ArrayList" "java/util/ArrayList" "elementData" "[Ljava/lang/Object;") ∈ lw_all := lw_g (lw_at lw_m1 221 rfl) rfl
theorem q359 : (Jvm.Cond.soleField "java/util/ArrayList" "elementData") ∈ lw_all := lw_g (lw_at lw_m1 222 rfl) rfl
theorem q360 : (Jvm.Cond.lays "java/util/ArrayList" "java/util/ArrayList" "size" "I") ∈ lw_all := lw_g (lw_at lw_m1 223 rfl) rfl
theorem q361 : (Jvm.Cond.soleField "java/util/ArrayList" "size") ∈ lw_all := lw_g (lw_at lw_m1 224 rfl) rfl
theorem q362 : (Jvm.Cond.lays "java/util/ArrayList" "java/util/AbstractList" "modCount" "I") ∈ lw_all := lw_g (lw_at lw_m1 225 rfl) rfl
theorem q364 : (Jvm.Cond.superclass "java/util/ArrayList" "java/util/AbstractList") ∈ lw_all := lw_g (lw_at lw_m1 227 rfl) rfl
theorem q648 : (Jvm.Cond.instanceMethod ({ cls := "java/util/ArrayList", name := "add", desc := "(Ljava/lang/Object;)Z" } : Jvm.MethodName)) ∈ lw_all := lw_g (lw_at lw_m3 31 rfl) rfl
theorem q649 : (Jvm.Cond.selects "java/util/ArrayList" ({ cls := "java/util/ArrayList", name := "add", desc := "(Ljava/lang/Object;)Z" } : Jvm.MethodName) ({ cls := "java/util/ArrayList", name := "add", desc := "(Ljava/lang/Object;)Z" } : Jvm.MethodName)) ∈ lw_all := lw_g (lw_at lw_m3 32 rfl) rfl
theorem q650 : (Jvm.Cond.code ({ cls := "java/util/ArrayList", name := "add", desc := "(Ljava/lang/Object;)Z" } : Jvm.MethodName) prog_40_method_25_code (2 : Nat) (Option.some Jvm.ClassFile.FieldType.boolean)) ∈ lw_all := lw_g (lw_at lw_m3 33 rfl) rfl
theorem q651 : (Jvm.Cond.methodLink "java/util/ArrayList" (131 : Nat) ({ cls := "java/util/ArrayList", name := "add", desc := "(Ljava/lang/Object;[Ljava/lang/Object;I)V" } : Jvm.MethodName)) ∈ lw_all := lw_g (lw_at lw_m3 34 rfl) rfl
theorem q652 : (Jvm.Cond.privateMethod ({ cls := "java/util/ArrayList", name := "add", desc := "(Ljava/lang/Object;[Ljava/lang/Object;I)V" } : Jvm.MethodName)) ∈ lw_tbl := lw_at lw_m3 35 rfl
theorem q653 : (Jvm.Cond.instanceMethod ({ cls := "java/util/ArrayList", name := "add", desc := "(Ljava/lang/Object;[Ljava/lang/Object;I)V" } : Jvm.MethodName)) ∈ lw_all := lw_g (lw_at lw_m3 36 rfl) rfl
theorem q654 : (Jvm.Cond.code ({ cls := "java/util/ArrayList", name := "add", desc := "(Ljava/lang/Object;[Ljava/lang/Object;I)V" } : Jvm.MethodName) prog_40_method_24_code (4 : Nat) (Option.none : Option Jvm.ClassFile.FieldType)) ∈ lw_all := lw_g (lw_at lw_m3 37 rfl) rfl
theorem q655 : (Jvm.Cond.methodLink "java/util/ArrayList" (129 : Nat) ({ cls := "java/util/ArrayList", name := "grow", desc := "()[Ljava/lang/Object;" } : Jvm.MethodName)) ∈ lw_all := lw_g (lw_at lw_m3 38 rfl) rfl
theorem q656 : (Jvm.Cond.privateMethod ({ cls := "java/util/ArrayList", name := "grow", desc := "()[Ljava/lang/Object;" } : Jvm.MethodName)) ∈ lw_tbl := lw_at lw_m3 39 rfl
theorem q657 : (Jvm.Cond.instanceMethod ({ cls := "java/util/ArrayList", name := "grow", desc := "()[Ljava/lang/Object;" } : Jvm.MethodName)) ∈ lw_all := lw_g (lw_at lw_m3 40 rfl) rfl
theorem q658 : (Jvm.Cond.code ({ cls := "java/util/ArrayList", name := "grow", desc := "()[Ljava/lang/Object;" } : Jvm.MethodName) prog_40_method_7_code (1 : Nat) (Option.some (Jvm.ClassFile.FieldType.array (Jvm.ClassFile.FieldType.object "java/lang/Object")))) ∈ lw_all := lw_g (lw_at lw_m3 41 rfl) rfl
theorem q659 : (Jvm.Cond.methodLink "java/util/ArrayList" (69 : Nat) ({ cls := "java/util/ArrayList", name := "grow", desc := "(I)[Ljava/lang/Object;" } : Jvm.MethodName)) ∈ lw_all := lw_g (lw_at lw_m3 42 rfl) rfl
theorem q660 : (Jvm.Cond.privateMethod ({ cls := "java/util/ArrayList", name := "grow", desc := "(I)[Ljava/lang/Object;" } : Jvm.MethodName)) ∈ lw_tbl := lw_at lw_m3 43 rfl
theorem q661 : (Jvm.Cond.instanceMethod ({ cls := "java/util/ArrayList", name := "grow", desc := "(I)[Ljava/lang/Object;" } : Jvm.MethodName)) ∈ lw_all := lw_g (lw_at lw_m3 44 rfl) rfl
theorem q662 : (Jvm.Cond.code ({ cls := "java/util/ArrayList", name := "grow", desc := "(I)[Ljava/lang/Object;" } : Jvm.MethodName) prog_40_method_6_code (4 : Nat) (Option.some (Jvm.ClassFile.FieldType.array (Jvm.ClassFile.FieldType.object "java/lang/Object")))) ∈ lw_all := lw_g (lw_at lw_m3 45 rfl) rfl
theorem q663 : (Jvm.Cond.methodLink "java/util/ArrayList" (73 : Nat) ({ cls := "jdk/internal/util/ArraysSupport", name := "newLength", desc := "(III)I" } : Jvm.MethodName)) ∈ lw_all := lw_g (lw_at lw_m3 46 rfl) rfl
theorem q673 : (Jvm.Cond.methodLink "java/util/ArrayList" (66 : Nat) ({ cls := "java/util/Arrays", name := "copyOf", desc := "([Ljava/lang/Object;I)[Ljava/lang/Object;" } : Jvm.MethodName)) ∈ lw_all := lw_g (lw_at lw_m3 56 rfl) rfl
theorem q696 : (Jvm.Cond.selects "java/util/ArrayList" ({ cls := "java/lang/Object", name := "getClass", desc := "()Ljava/lang/Class;" } : Jvm.MethodName) ({ cls := "java/lang/Object", name := "getClass", desc := "()Ljava/lang/Class;" } : Jvm.MethodName)) ∈ lw_all := lw_g (lw_at lw_m3 79 rfl) rfl
theorem q706 : (Jvm.Cond.methodLink "java/util/ArrayList" (79 : Nat) ({ cls := "java/lang/Math", name := "max", desc := "(II)I" } : Jvm.MethodName)) ∈ lw_all := lw_g (lw_at lw_m3 89 rfl) rfl
theorem q707 : (Jvm.Cond.classLink "java/util/ArrayList" (7 : Nat) "java/lang/Object") ∈ lw_all := lw_g (lw_at lw_m3 90 rfl) rfl
theorem q713 : (Jvm.Cond.instanceMethod ({ cls := "java/util/ArrayList", name := "isEmpty", desc := "()Z" } : Jvm.MethodName)) ∈ lw_all := lw_g (lw_at lw_m3 96 rfl) rfl
theorem q714 : (Jvm.Cond.selects "java/util/ArrayList" ({ cls := "java/util/ArrayList", name := "isEmpty", desc := "()Z" } : Jvm.MethodName) ({ cls := "java/util/ArrayList", name := "isEmpty", desc := "()Z" } : Jvm.MethodName)) ∈ lw_all := lw_g (lw_at lw_m3 97 rfl) rfl
theorem q715 : (Jvm.Cond.code ({ cls := "java/util/ArrayList", name := "isEmpty", desc := "()Z" } : Jvm.MethodName) prog_40_method_9_code (1 : Nat) (Option.some Jvm.ClassFile.FieldType.boolean)) ∈ lw_all := lw_g (lw_at lw_m3 98 rfl) rfl
theorem q775 : (Jvm.Cond.instanceMethod ({ cls := "java/util/ArrayList", name := "size", desc := "()I" } : Jvm.MethodName)) ∈ lw_all := lw_g (lw_at lw_m3 158 rfl) rfl
theorem q776 : (Jvm.Cond.selects "java/util/ArrayList" ({ cls := "java/util/ArrayList", name := "size", desc := "()I" } : Jvm.MethodName) ({ cls := "java/util/ArrayList", name := "size", desc := "()I" } : Jvm.MethodName)) ∈ lw_all := lw_g (lw_at lw_m3 159 rfl) rfl
theorem q777 : (Jvm.Cond.code ({ cls := "java/util/ArrayList", name := "size", desc := "()I" } : Jvm.MethodName) prog_40_method_8_code (1 : Nat) (Option.some Jvm.ClassFile.FieldType.int)) ∈ lw_all := lw_g (lw_at lw_m3 160 rfl) rfl
theorem q779 : (Jvm.Cond.instanceMethod ({ cls := "java/util/ArrayList", name := "get", desc := "(I)Ljava/lang/Object;" } : Jvm.MethodName)) ∈ lw_all := lw_g (lw_at lw_m3 162 rfl) rfl
theorem q780 : (Jvm.Cond.selects "java/util/ArrayList" ({ cls := "java/util/ArrayList", name := "get", desc := "(I)Ljava/lang/Object;" } : Jvm.MethodName) ({ cls := "java/util/ArrayList", name := "get", desc := "(I)Ljava/lang/Object;" } : Jvm.MethodName)) ∈ lw_all := lw_g (lw_at lw_m3 163 rfl) rfl
theorem q781 : (Jvm.Cond.code ({ cls := "java/util/ArrayList", name := "get", desc := "(I)Ljava/lang/Object;" } : Jvm.MethodName) prog_40_method_20_code (2 : Nat) (Option.some (Jvm.ClassFile.FieldType.object "java/lang/Object"))) ∈ lw_all := lw_g (lw_at lw_m3 164 rfl) rfl
theorem q782 : (Jvm.Cond.methodLink "java/util/ArrayList" (118 : Nat) ({ cls := "java/util/Objects", name := "checkIndex", desc := "(II)I" } : Jvm.MethodName)) ∈ lw_all := lw_g (lw_at lw_m3 165 rfl) rfl
theorem q786 : (Jvm.Cond.methodLink "java/util/ArrayList" (123 : Nat) ({ cls := "java/util/ArrayList", name := "elementData", desc := "(I)Ljava/lang/Object;" } : Jvm.MethodName)) ∈ lw_all := lw_g (lw_at lw_m3 169 rfl) rfl
theorem q787 : (Jvm.Cond.instanceMethod ({ cls := "java/util/ArrayList", name := "elementData", desc := "(I)Ljava/lang/Object;" } : Jvm.MethodName)) ∈ lw_all := lw_g (lw_at lw_m3 170 rfl) rfl
theorem q788 : (Jvm.Cond.selects "java/util/ArrayList" ({ cls := "java/util/ArrayList", name := "elementData", desc := "(I)Ljava/lang/Object;" } : Jvm.MethodName) ({ cls := "java/util/ArrayList", name := "elementData", desc := "(I)Ljava/lang/Object;" } : Jvm.MethodName)) ∈ lw_all := lw_g (lw_at lw_m3 171 rfl) rfl
theorem q789 : (Jvm.Cond.code ({ cls := "java/util/ArrayList", name := "elementData", desc := "(I)Ljava/lang/Object;" } : Jvm.MethodName) prog_40_method_18_code (2 : Nat) (Option.some (Jvm.ClassFile.FieldType.object "java/lang/Object"))) ∈ lw_all := lw_g (lw_at lw_m3 172 rfl) rfl
theorem q2033 : (Jvm.Cond.castable "java/util/ArrayList" "java/lang/Object") ∈ lw_tbl := lw_at lw_m8 216 rfl
theorem in_J2 : ∀ w ∈ wsJ20, w ∈ lw_all := lw_in wsJ20 [362, 358, 360] (by decide +kernel) (by decide +kernel)
/-! java/lang/String -/
set_option maxRecDepth 100000
def RJ3 : String := "java/lang/String"
abbrev cJ3_length : ByteArray := prog_31_method_54_code
def yJ3_length : MethodName := ⟨RJ3, "length", "()I"⟩
def dkwJ3_length_0 : List UInt8 := [42, 180, 0, 9, 190, 42, 182, 1, 79, 122, 172]
abbrev dktJ3_length_0 : List UInt8 := dkwJ3_length_0 ++ []
theorem dksJ3_length_0 : cJ3_length.data.toList.drop 0 = dktJ3_length_0 := by decide +kernel
theorem dJ3_length_0 : decode cJ3_length 0 = .ok (.aload_n 0, 1) := dk_42 (dk_at dksJ3_length_0 0 rfl rfl)
theorem dJ3_length_1 : decode cJ3_length 1 = .ok (.getfield 9, 3) := dk_180 0 9 (dk_at dksJ3_length_0 1 rfl rfl)
theorem dJ3_length_4 : decode cJ3_length 4 = .ok (.arraylength, 1) := dk_190 (dk_at dksJ3_length_0 4 rfl rfl)
theorem dJ3_length_5 : decode cJ3_length 5 = .ok (.aload_n 0, 1) := dk_42 (dk_at dksJ3_length_0 5 rfl rfl)
theorem dJ3_length_6 : decode cJ3_length 6 = .ok (.invokevirtual 335, 3) := dk_182 1 79 (dk_at dksJ3_length_0 6 rfl rfl)
theorem dJ3_length_9 : decode cJ3_length 9 = .ok (.ishr, 1) := dk_122 (dk_at dksJ3_length_0 9 rfl rfl)
theorem dJ3_length_10 : decode cJ3_length 10 = .ok (.ireturn, 1) := dk_172 (dk_at dksJ3_length_0 10 rfl rfl)
abbrev cJ3_coder : ByteArray := prog_31_method_152_code
def yJ3_coder : MethodName := ⟨RJ3, "coder", "()B"⟩
def dkwJ3_coder_0 : List UInt8 := [178, 0, 38, 153, 0, 10, 42, 180, 0, 15, 167, 0, 4, 4, 172]
abbrev dktJ3_coder_0 : List UInt8 := dkwJ3_coder_0 ++ []
theorem dksJ3_coder_0 : cJ3_coder.data.toList.drop 0 = dktJ3_coder_0 := by decide +kernel
theorem dJ3_coder_0 : decode cJ3_coder 0 = .ok (.getstatic 38, 3) := dk_178 0 38 (dk_at dksJ3_coder_0 0 rfl rfl)
theorem dJ3_coder_3 : decode cJ3_coder 3 = .ok (.ifCond .eq 10, 3) := dk_153 0 10 (dk_at dksJ3_coder_0 3 rfl rfl)
theorem dJ3_coder_6 : decode cJ3_coder 6 = .ok (.aload_n 0, 1) := dk_42 (dk_at dksJ3_coder_0 6 rfl rfl)
theorem dJ3_coder_7 : decode cJ3_coder 7 = .ok (.getfield 15, 3) := dk_180 0 15 (dk_at dksJ3_coder_0 7 rfl rfl)
theorem dJ3_coder_10 : decode cJ3_coder 10 = .ok (.goto 4, 3) := dk_167 0 4 (dk_at dksJ3_coder_0 10 rfl rfl)
theorem dJ3_coder_13 : decode cJ3_coder 13 = .ok (.iconst 1, 1) := dk_4 (dk_at dksJ3_coder_0 13 rfl rfl)
theorem dJ3_coder_14 : decode cJ3_coder 14 = .ok (.ireturn, 1) := dk_172 (dk_at dksJ3_coder_0 14 rfl rfl)
abbrev cJ3_charAt : ByteArray := prog_31_method_56_code
def yJ3_charAt : MethodName := ⟨RJ3, "charAt", "(I)C"⟩
def dkwJ3_charAt_1 : List UInt8 := [172]
abbrev dktJ3_charAt_1 : List UInt8 := dkwJ3_charAt_1 ++ []
def dkwJ3_charAt_0 : List UInt8 := [42, 182, 1, 236, 153, 0, 12, 42, 180, 0, 9, 27, 184, 1, 239, 172, 42, 180, 0, 9, 27, 184, 1, 242]
abbrev dktJ3_charAt_0 : List UInt8 := dkwJ3_charAt_0 ++ dktJ3_charAt_1
theorem dksJ3_charAt_0 : cJ3_charAt.data.toList.drop 0 = dktJ3_charAt_0 := by decide +kernel
theorem dksJ3_charAt_1 : cJ3_charAt.data.toList.drop 24 = dktJ3_charAt_1 := dk_seg dksJ3_charAt_0 24 rfl rfl
theorem dJ3_charAt_0 : decode cJ3_charAt 0 = .ok (.aload_n 0, 1) := dk_42 (dk_at dksJ3_charAt_0 0 rfl rfl)
theorem dJ3_charAt_1 : decode cJ3_charAt 1 = .ok (.invokevirtual 492, 3) := dk_182 1 236 (dk_at dksJ3_charAt_0 1 rfl rfl)
theorem dJ3_charAt_4 : decode cJ3_charAt 4 = .ok (.ifCond .eq 12, 3) := dk_153 0 12 (dk_at dksJ3_charAt_0 4 rfl rfl)
theorem dJ3_charAt_7 : decode cJ3_charAt 7 = .ok (.aload_n 0, 1) := dk_42 (dk_at dksJ3_charAt_0 7 rfl rfl)
theorem dJ3_charAt_8 : decode cJ3_charAt 8 = .ok (.getfield 9, 3) := dk_180 0 9 (dk_at dksJ3_charAt_0 8 rfl rfl)
theorem dJ3_charAt_11 : decode cJ3_charAt 11 = .ok (.iload_n 1, 1) := dk_27 (dk_at dksJ3_charAt_0 11 rfl rfl)
theorem dJ3_charAt_12 : decode cJ3_charAt 12 = .ok (.invokestatic 495, 3) := dk_184 1 239 (dk_at dksJ3_charAt_0 12 rfl rfl)
theorem dJ3_charAt_15 : decode cJ3_charAt 15 = .ok (.ireturn, 1) := dk_172 (dk_at dksJ3_charAt_0 15 rfl rfl)
theorem dJ3_charAt_16 : decode cJ3_charAt 16 = .ok (.aload_n 0, 1) := dk_42 (dk_at dksJ3_charAt_0 16 rfl rfl)
theorem dJ3_charAt_17 : decode cJ3_charAt 17 = .ok (.getfield 9, 3) := dk_180 0 9 (dk_at dksJ3_charAt_0 17 rfl rfl)
theorem dJ3_charAt_20 : decode cJ3_charAt 20 = .ok (.iload_n 1, 1) := dk_27 (dk_at dksJ3_charAt_0 20 rfl rfl)
theorem dJ3_charAt_21 : decode cJ3_charAt 21 = .ok (.invokestatic 498, 3) := dk_184 1 242 (dk_at dksJ3_charAt_0 21 rfl rfl)
theorem dJ3_charAt_24 : decode cJ3_charAt 24 = .ok (.ireturn, 1) := dk_172 (dk_at dksJ3_charAt_1 0 rfl rfl)
abbrev cJ3_isLatin1 : ByteArray := prog_31_method_154_code
def yJ3_isLatin1 : MethodName := ⟨RJ3, "isLatin1", "()Z"⟩
def dkwJ3_isLatin1_0 : List UInt8 := [178, 0, 38, 153, 0, 14, 42, 180, 0, 15, 154, 0, 7, 4, 167, 0, 4, 3, 172]
abbrev dktJ3_isLatin1_0 : List UInt8 := dkwJ3_isLatin1_0 ++ []
theorem dksJ3_isLatin1_0 : cJ3_isLatin1.data.toList.drop 0 = dktJ3_isLatin1_0 := by decide +kernel
theorem dJ3_isLatin1_0 : decode cJ3_isLatin1 0 = .ok (.getstatic 38, 3) := dk_178 0 38 (dk_at dksJ3_isLatin1_0 0 rfl rfl)
theorem dJ3_isLatin1_3 : decode cJ3_isLatin1 3 = .ok (.ifCond .eq 14, 3) := dk_153 0 14 (dk_at dksJ3_isLatin1_0 3 rfl rfl)
theorem dJ3_isLatin1_6 : decode cJ3_isLatin1 6 = .ok (.aload_n 0, 1) := dk_42 (dk_at dksJ3_isLatin1_0 6 rfl rfl)
theorem dJ3_isLatin1_7 : decode cJ3_isLatin1 7 = .ok (.getfield 15, 3) := dk_180 0 15 (dk_at dksJ3_isLatin1_0 7 rfl rfl)
theorem dJ3_isLatin1_10 : decode cJ3_isLatin1 10 = .ok (.ifCond .ne 7, 3) := dk_154 0 7 (dk_at dksJ3_isLatin1_0 10 rfl rfl)
theorem dJ3_isLatin1_13 : decode cJ3_isLatin1 13 = .ok (.iconst 1, 1) := dk_4 (dk_at dksJ3_isLatin1_0 13 rfl rfl)
theorem dJ3_isLatin1_14 : decode cJ3_isLatin1 14 = .ok (.goto 4, 3) := dk_167 0 4 (dk_at dksJ3_isLatin1_0 14 rfl rfl)
theorem dJ3_isLatin1_17 : decode cJ3_isLatin1 17 = .ok (.iconst 0, 1) := dk_3 (dk_at dksJ3_isLatin1_0 17 rfl rfl)
theorem dJ3_isLatin1_18 : decode cJ3_isLatin1 18 = .ok (.ireturn, 1) := dk_172 (dk_at dksJ3_isLatin1_0 18 rfl rfl)
abbrev cJ3_checkIndex : ByteArray := prog_31_method_155_code
def yJ3_checkIndex : MethodName := ⟨RJ3, "checkIndex", "(II)V"⟩
def dkwJ3_checkIndex_0 : List UInt8 := [26, 27, 178, 4, 29, 184, 4, 35, 87, 177]
abbrev dktJ3_checkIndex_0 : List UInt8 := dkwJ3_checkIndex_0 ++ []
theorem dksJ3_checkIndex_0 : cJ3_checkIndex.data.toList.drop 0 = dktJ3_checkIndex_0 := by decide +kernel
theorem dJ3_checkIndex_0 : decode cJ3_checkIndex 0 = .ok (.iload_n 0, 1) := dk_26 (dk_at dksJ3_checkIndex_0 0 rfl rfl)
theorem dJ3_checkIndex_1 : decode cJ3_checkIndex 1 = .ok (.iload_n 1, 1) := dk_27 (dk_at dksJ3_checkIndex_0 1 rfl rfl)
theorem dJ3_checkIndex_2 : decode cJ3_checkIndex 2 = .ok (.getstatic 1053, 3) := dk_178 4 29 (dk_at dksJ3_checkIndex_0 2 rfl rfl)
theorem dJ3_checkIndex_5 : decode cJ3_checkIndex 5 = .ok (.invokestatic 1059, 3) := dk_184 4 35 (dk_at dksJ3_checkIndex_0 5 rfl rfl)
theorem dJ3_checkIndex_8 : decode cJ3_checkIndex 8 = .ok (.pop, 1) := dk_87 (dk_at dksJ3_checkIndex_0 8 rfl rfl)
theorem dJ3_checkIndex_9 : decode cJ3_checkIndex 9 = .ok (.return_, 1) := dk_177 (dk_at dksJ3_checkIndex_0 9 rfl rfl)
theorem q147 : (Jvm.Cond.initialized "java/lang/String") ∈ lw_all := lw_g (lw_at lw_m1 10 rfl) rfl
theorem q400 : (Jvm.Cond.instanceMethod ({ cls := "java/lang/String", name := "length", desc := "()I" } : Jvm.MethodName)) ∈ lw_all := lw_g (lw_at lw_m2 23 rfl) rfl
theorem q401 : (Jvm.Cond.selects "java/lang/String" ({ cls := "java/lang/String", name := "length", desc := "()I" } : Jvm.MethodName) ({ cls := "java/lang/String", name := "length", desc := "()I" } : Jvm.MethodName)) ∈ lw_all := lw_g (lw_at lw_m2 24 rfl) rfl
theorem q402 : (Jvm.Cond.code ({ cls := "java/lang/String", name := "length", desc := "()I" } : Jvm.MethodName) prog_31_method_54_code (1 : Nat) (Option.some Jvm.ClassFile.FieldType.int)) ∈ lw_all := lw_g (lw_at lw_m2 25 rfl) rfl
theorem q403 : (Jvm.Cond.methodLink "java/lang/String" (335 : Nat) ({ cls := "java/lang/String", name := "coder", desc := "()B" } : Jvm.MethodName)) ∈ lw_all := lw_g (lw_at lw_m2 26 rfl) rfl
theorem q404 : (Jvm.Cond.instanceMethod ({ cls := "java/lang/String", name := "coder", desc := "()B" } : Jvm.MethodName)) ∈ lw_all := lw_g (lw_at lw_m2 27 rfl) rfl
theorem q405 : (Jvm.Cond.selects "java/lang/String" ({ cls := "java/lang/String", name := "coder", desc := "()B" } : Jvm.MethodName) ({ cls := "java/lang/String", name := "coder", desc := "()B" } : Jvm.MethodName)) ∈ lw_all := lw_g (lw_at lw_m2 28 rfl) rfl
theorem q406 : (Jvm.Cond.code ({ cls := "java/lang/String", name := "coder", desc := "()B" } : Jvm.MethodName) prog_31_method_152_code (1 : Nat) (Option.some Jvm.ClassFile.FieldType.byte)) ∈ lw_all := lw_g (lw_at lw_m2 29 rfl) rfl
theorem q407 : (Jvm.Cond.fieldLink "java/lang/String" (38 : Nat) "java/lang/String" "COMPACT_STRINGS" "Z") ∈ lw_all := lw_g (lw_at lw_m2 30 rfl) rfl
theorem q408 : (Jvm.Cond.laysStatic "java/lang/String" "COMPACT_STRINGS" "Z") ∈ lw_tbl := lw_at lw_m2 31 rfl
theorem q410 : (Jvm.Cond.instanceMethod ({ cls := "java/lang/String", name := "charAt", desc := "(I)C" } : Jvm.MethodName)) ∈ lw_all := lw_g (lw_at lw_m2 33 rfl) rfl
theorem q411 : (Jvm.Cond.selects "java/lang/String" ({ cls := "java/lang/String", name := "charAt", desc := "(I)C" } : Jvm.MethodName) ({ cls := "java/lang/String", name := "charAt", desc := "(I)C" } : Jvm.MethodName)) ∈ lw_all := lw_g (lw_at lw_m2 34 rfl) rfl
theorem q412 : (Jvm.Cond.code ({ cls := "java/lang/String", name := "charAt", desc := "(I)C" } : Jvm.MethodName) prog_31_method_56_code (2 : Nat) (Option.some Jvm.ClassFile.FieldType.char)) ∈ lw_all := lw_g (lw_at lw_m2 35 rfl) rfl
theorem q413 : (Jvm.Cond.methodLink "java/lang/String" (492 : Nat) ({ cls := "java/lang/String", name := "isLatin1", desc := "()Z" } : Jvm.MethodName)) ∈ lw_all := lw_g (lw_at lw_m2 36 rfl) rfl
theorem q414 : (Jvm.Cond.instanceMethod ({ cls := "java/lang/String", name := "isLatin1", desc := "()Z" } : Jvm.MethodName)) ∈ lw_all := lw_g (lw_at lw_m2 37 rfl) rfl
theorem q415 : (Jvm.Cond.selects "java/lang/String" ({ cls := "java/lang/String", name := "isLatin1", desc := "()Z" } : Jvm.MethodName) ({ cls := "java/lang/String", name := "isLatin1", desc := "()Z" } : Jvm.MethodName)) ∈ lw_all := lw_g (lw_at lw_m2 38 rfl) rfl
theorem q416 : (Jvm.Cond.code ({ cls := "java/lang/String", name := "isLatin1", desc := "()Z" } : Jvm.MethodName) prog_31_method_154_code (1 : Nat) (Option.some Jvm.ClassFile.FieldType.boolean)) ∈ lw_all := lw_g (lw_at lw_m2 39 rfl) rfl
theorem q417 : (Jvm.Cond.methodLink "java/lang/String" (495 : Nat) ({ cls := "java/lang/StringLatin1", name := "charAt", desc := "([BI)C" } : Jvm.MethodName)) ∈ lw_all := lw_g (lw_at lw_m2 40 rfl) rfl
theorem q421 : (Jvm.Cond.static ({ cls := "java/lang/String", name := "checkIndex", desc := "(II)V" } : Jvm.MethodName)) ∈ lw_all := lw_g (lw_at lw_m2 44 rfl) rfl
theorem q422 : (Jvm.Cond.code ({ cls := "java/lang/String", name := "checkIndex", desc := "(II)V" } : Jvm.MethodName) prog_31_method_155_code (2 : Nat) (Option.none : Option Jvm.ClassFile.FieldType)) ∈ lw_all := lw_g (lw_at lw_m2 45 rfl) rfl
theorem q423 : (Jvm.Cond.fieldLink "java/lang/String" (1053 : Nat) "jdk/internal/util/Preconditions" "SIOOBE_FORMATTER" "Ljava/util/function/BiFunction;") ∈ lw_all := lw_g (lw_at lw_m2 46 rfl) rfl
theorem q425 : (Jvm.Cond.methodLink "java/lang/String" (1059 : Nat) ({ cls := "jdk/internal/util/Preconditions", name := "checkIndex", desc := "(IILjava/util/function/BiFunction;)I" } : Jvm.MethodName)) ∈ lw_all := lw_g (lw_at lw_m2 48 rfl) rfl
theorem q428 : (Jvm.Cond.methodLink "java/lang/String" (498 : Nat) ({ cls := "java/lang/StringUTF16", name := "charAt", desc := "([BI)C" } : Jvm.MethodName)) ∈ lw_all := lw_g (lw_at lw_m2 51 rfl) rfl
theorem q2028 : (Jvm.Cond.castable "java/lang/String" "java/lang/Object") ∈ lw_tbl := lw_at lw_m8 211 rfl
theorem q2058 : (Jvm.Cond.fieldLink "java/lang/String" (9 : Nat) "java/lang/String" "value" "[B") ∈ lw_all := lw_g (lw_at lw_m9 1 rfl) rfl
theorem q2059 : (Jvm.Cond.fieldLink "java/lang/String" (15 : Nat) "java/lang/String" "coder" "B") ∈ lw_all := lw_g (lw_at lw_m9 2 rfl) rfl
/-! java/lang/StringLatin1 -/
set_option maxRecDepth 100000
def RJ4 : String := "java/lang/StringLatin1"
abbrev cJ4_charAt : ByteArray := prog_32_method_2_code
def yJ4_charAt : MethodName := ⟨RJ4, "charAt", "([BI)C"⟩
def dkwJ4_charAt_0 : List UInt8 := [27, 42, 190, 184, 0, 9, 42, 27, 51, 17, 0, 255, 126, 146, 172]
abbrev dktJ4_charAt_0 : List UInt8 := dkwJ4_charAt_0 ++ []
theorem dksJ4_charAt_0 : cJ4_charAt.data.toList.drop 0 = dktJ4_charAt_0 := by decide +kernel
theorem dJ4_charAt_0 : decode cJ4_charAt 0 = .ok (.iload_n 1, 1) := dk_27 (dk_at dksJ4_charAt_0 0 rfl rfl)
theorem dJ4_charAt_1 : decode cJ4_charAt 1 = .ok (.aload_n 0, 1) := dk_42 (dk_at dksJ4_charAt_0 1 rfl rfl)
theorem dJ4_charAt_2 : decode cJ4_charAt 2 = .ok (.arraylength, 1) := dk_190 (dk_at dksJ4_charAt_0 2 rfl rfl)
theorem dJ4_charAt_3 : decode cJ4_charAt 3 = .ok (.invokestatic 9, 3) := dk_184 0 9 (dk_at dksJ4_charAt_0 3 rfl rfl)
theorem dJ4_charAt_6 : decode cJ4_charAt 6 = .ok (.aload_n 0, 1) := dk_42 (dk_at dksJ4_charAt_0 6 rfl rfl)
theorem dJ4_charAt_7 : decode cJ4_charAt 7 = .ok (.iload_n 1, 1) := dk_27 (dk_at dksJ4_charAt_0 7 rfl rfl)
theorem dJ4_charAt_8 : decode cJ4_charAt 8 = .ok (.baload, 1) := dk_51 (dk_at dksJ4_charAt_0 8 rfl rfl)
theorem dJ4_charAt_9 : decode cJ4_charAt 9 = .ok (.sipush 255, 3) := dk_17 0 255 (dk_at dksJ4_charAt_0 9 rfl rfl)
theorem dJ4_charAt_12 : decode cJ4_charAt 12 = .ok (.iand, 1) := dk_126 (dk_at dksJ4_charAt_0 12 rfl rfl)
theorem dJ4_charAt_13 : decode cJ4_charAt 13 = .ok (.i2c, 1) := dk_146 (dk_at dksJ4_charAt_0 13 rfl rfl)
theorem dJ4_charAt_14 : decode cJ4_charAt 14 = .ok (.ireturn, 1) := dk_172 (dk_at dksJ4_charAt_0 14 rfl rfl)
theorem q148 : (Jvm.Cond.initialized "java/lang/StringLatin1") ∈ lw_all := lw_g (lw_at lw_m1 11 rfl) rfl
theorem q418 : (Jvm.Cond.static ({ cls := "java/lang/StringLatin1", name := "charAt", desc := "([BI)C" } : Jvm.MethodName)) ∈ lw_all := lw_g (lw_at lw_m2 41 rfl) rfl
theorem q419 : (Jvm.Cond.code ({ cls := "java/lang/StringLatin1", name := "charAt", desc := "([BI)C" } : Jvm.MethodName) prog_32_method_2_code (2 : Nat) (Option.some Jvm.ClassFile.FieldType.char)) ∈ lw_all := lw_g (lw_at lw_m2 42 rfl) rfl
theorem q420 : (Jvm.Cond.methodLink "java/lang/StringLatin1" (9 : Nat) ({ cls := "java/lang/String", name := "checkIndex", desc := "(II)V" } : Jvm.MethodName)) ∈ lw_all := lw_g (lw_at lw_m2 43 rfl) rfl
/-! jdk/internal/util/Preconditions -/
set_option maxRecDepth 100000
def RJ5 : String := "jdk/internal/util/Preconditions"
abbrev cJ5_checkIndex : ByteArray := prog_48_method_11_code
def yJ5_checkIndex : MethodName := ⟨RJ5, "checkIndex", "(IILjava/util/function/BiFunction;)I"⟩
def dkwJ5_checkIndex_0 : List UInt8 := [26, 155, 0, 8, 26, 27, 161, 0, 10, 44, 26, 27, 184, 0, 95, 191, 26, 172]
abbrev dktJ5_checkIndex_0 : List UInt8 := dkwJ5_checkIndex_0 ++ []
theorem dksJ5_checkIndex_0 : cJ5_checkIndex.data.toList.drop 0 = dktJ5_checkIndex_0 := by decide +kernel
theorem dJ5_checkIndex_0 : decode cJ5_checkIndex 0 = .ok (.iload_n 0, 1) := dk_26 (dk_at dksJ5_checkIndex_0 0 rfl rfl)
theorem dJ5_checkIndex_1 : decode cJ5_checkIndex 1 = .ok (.ifCond .lt 8, 3) := dk_155 0 8 (dk_at dksJ5_checkIndex_0 1 rfl rfl)
theorem dJ5_checkIndex_4 : decode cJ5_checkIndex 4 = .ok (.iload_n 0, 1) := dk_26 (dk_at dksJ5_checkIndex_0 4 rfl rfl)
theorem dJ5_checkIndex_5 : decode cJ5_checkIndex 5 = .ok (.iload_n 1, 1) := dk_27 (dk_at dksJ5_checkIndex_0 5 rfl rfl)
theorem dJ5_checkIndex_6 : decode cJ5_checkIndex 6 = .ok (.if_icmp .lt 10, 3) := dk_161 0 10 (dk_at dksJ5_checkIndex_0 6 rfl rfl)
theorem dJ5_checkIndex_9 : decode cJ5_checkIndex 9 = .ok (.aload_n 2, 1) := dk_44 (dk_at dksJ5_checkIndex_0 9 rfl rfl)
theorem dJ5_checkIndex_10 : decode cJ5_checkIndex 10 = .ok (.iload_n 0, 1) := dk_26 (dk_at dksJ5_checkIndex_0 10 rfl rfl)
theorem dJ5_checkIndex_11 : decode cJ5_checkIndex 11 = .ok (.iload_n 1, 1) := dk_27 (dk_at dksJ5_checkIndex_0 11 rfl rfl)
theorem dJ5_checkIndex_12 : decode cJ5_checkIndex 12 = .ok (.invokestatic 95, 3) := dk_184 0 95 (dk_at dksJ5_checkIndex_0 12 rfl rfl)
theorem dJ5_checkIndex_15 : decode cJ5_checkIndex 15 = .ok (.athrow, 1) := dk_191 (dk_at dksJ5_checkIndex_0 15 rfl rfl)
theorem dJ5_checkIndex_16 : decode cJ5_checkIndex 16 = .ok (.iload_n 0, 1) := dk_26 (dk_at dksJ5_checkIndex_0 16 rfl rfl)
theorem dJ5_checkIndex_17 : decode cJ5_checkIndex 17 = .ok (.ireturn, 1) := dk_172 (dk_at dksJ5_checkIndex_0 17 rfl rfl)
theorem q149 : (Jvm.Cond.initialized "jdk/internal/util/Preconditions") ∈ lw_all := lw_g (lw_at lw_m1 12 rfl) rfl
theorem q424 : (Jvm.Cond.laysStatic "jdk/internal/util/Preconditions" "SIOOBE_FORMATTER" "Ljava/util/function/BiFunction;") ∈ lw_tbl := lw_at lw_m2 47 rfl
theorem q426 : (Jvm.Cond.static ({ cls := "jdk/internal/util/Preconditions", name := "checkIndex", desc := "(IILjava/util/function/BiFunction;)I" } : Jvm.MethodName)) ∈ lw_all := lw_g (lw_at lw_m2 49 rfl) rfl
theorem q427 : (Jvm.Cond.code ({ cls := "jdk/internal/util/Preconditions", name := "checkIndex", desc := "(IILjava/util/function/BiFunction;)I" } : Jvm.MethodName) prog_48_method_11_code (3 : Nat) (Option.some Jvm.ClassFile.FieldType.int)) ∈ lw_all := lw_g (lw_at lw_m2 50 rfl) rfl
/-! java/lang/StringUTF16 -/
set_option maxRecDepth 100000
def RJ6 : String := "java/lang/StringUTF16"
abbrev cJ6_charAt : ByteArray := prog_33_method_83_code
def yJ6_charAt : MethodName := ⟨RJ6, "charAt", "([BI)C"⟩
def dkwJ6_charAt_0 : List UInt8 := [27, 42, 184, 0, 67, 42, 27, 184, 0, 71, 172]
abbrev dktJ6_charAt_0 : List UInt8 := dkwJ6_charAt_0 ++ []
theorem dksJ6_charAt_0 : cJ6_charAt.data.toList.drop 0 = dktJ6_charAt_0 := by decide +kernel
theorem dJ6_charAt_0 : decode cJ6_charAt 0 = .ok (.iload_n 1, 1) := dk_27 (dk_at dksJ6_charAt_0 0 rfl rfl)
theorem dJ6_charAt_1 : decode cJ6_charAt 1 = .ok (.aload_n 0, 1) := dk_42 (dk_at dksJ6_charAt_0 1 rfl rfl)
theorem dJ6_charAt_2 : decode cJ6_charAt 2 = .ok (.invokestatic 67, 3) := dk_184 0 67 (dk_at dksJ6_charAt_0 2 rfl rfl)
theorem dJ6_charAt_5 : decode cJ6_charAt 5 = .ok (.aload_n 0, 1) := dk_42 (dk_at dksJ6_charAt_0 5 rfl rfl)
theorem dJ6_charAt_6 : decode cJ6_charAt 6 = .ok (.iload_n 1, 1) := dk_27 (dk_at dksJ6_charAt_0 6 rfl rfl)
theorem dJ6_charAt_7 : decode cJ6_charAt 7 = .ok (.invokestatic 71, 3) := dk_184 0 71 (dk_at dksJ6_charAt_0 7 rfl rfl)
theorem dJ6_charAt_10 : decode cJ6_charAt 10 = .ok (.ireturn, 1) := dk_172 (dk_at dksJ6_charAt_0 10 rfl rfl)
abbrev cJ6_checkIndex : ByteArray := prog_33_method_91_code
def yJ6_checkIndex : MethodName := ⟨RJ6, "checkIndex", "(I[B)V"⟩
def dkwJ6_checkIndex_0 : List UInt8 := [26, 43, 184, 0, 48, 184, 1, 158, 177]
abbrev dktJ6_checkIndex_0 : List UInt8 := dkwJ6_checkIndex_0 ++ []
theorem dksJ6_checkIndex_0 : cJ6_checkIndex.data.toList.drop 0 = dktJ6_checkIndex_0 := by decide +kernel
theorem dJ6_checkIndex_0 : decode cJ6_checkIndex 0 = .ok (.iload_n 0, 1) := dk_26 (dk_at dksJ6_checkIndex_0 0 rfl rfl)
theorem dJ6_checkIndex_1 : decode cJ6_checkIndex 1 = .ok (.aload_n 1, 1) := dk_43 (dk_at dksJ6_checkIndex_0 1 rfl rfl)
theorem dJ6_checkIndex_2 : decode cJ6_checkIndex 2 = .ok (.invokestatic 48, 3) := dk_184 0 48 (dk_at dksJ6_checkIndex_0 2 rfl rfl)
theorem dJ6_checkIndex_5 : decode cJ6_checkIndex 5 = .ok (.invokestatic 414, 3) := dk_184 1 158 (dk_at dksJ6_checkIndex_0 5 rfl rfl)
theorem dJ6_checkIndex_8 : decode cJ6_checkIndex 8 = .ok (.return_, 1) := dk_177 (dk_at dksJ6_checkIndex_0 8 rfl rfl)
abbrev cJ6_length : ByteArray := prog_33_method_6_code
def yJ6_length : MethodName := ⟨RJ6, "length", "([B)I"⟩
def dkwJ6_length_0 : List UInt8 := [42, 190, 4, 122, 172]
abbrev dktJ6_length_0 : List UInt8 := dkwJ6_length_0 ++ []
theorem dksJ6_length_0 : cJ6_length.data.toList.drop 0 = dktJ6_length_0 := by decide +kernel
theorem dJ6_length_0 : decode cJ6_length 0 = .ok (.aload_n 0, 1) := dk_42 (dk_at dksJ6_length_0 0 rfl rfl)
theorem dJ6_length_1 : decode cJ6_length 1 = .ok (.arraylength, 1) := dk_190 (dk_at dksJ6_length_0 1 rfl rfl)
theorem dJ6_length_2 : decode cJ6_length 2 = .ok (.iconst 1, 1) := dk_4 (dk_at dksJ6_length_0 2 rfl rfl)
theorem dJ6_length_3 : decode cJ6_length 3 = .ok (.ishr, 1) := dk_122 (dk_at dksJ6_length_0 3 rfl rfl)
theorem dJ6_length_4 : decode cJ6_length 4 = .ok (.ireturn, 1) := dk_172 (dk_at dksJ6_length_0 4 rfl rfl)
abbrev cJ6_getChar : ByteArray := prog_33_method_5_code
def yJ6_getChar : MethodName := ⟨RJ6, "getChar", "([BI)C"⟩
def dkwJ6_getChar_2 : List UInt8 := [51, 17, 0, 255, 126, 178, 0, 63, 120, 128, 146, 172]
abbrev dktJ6_getChar_2 : List UInt8 := dkwJ6_getChar_2 ++ []
def dkwJ6_getChar_1 : List UInt8 := [183, 0, 56, 191, 27, 4, 120, 60, 42, 27, 132, 1, 1, 51, 17, 0, 255, 126, 178, 0, 59, 120, 42, 27]
abbrev dktJ6_getChar_1 : List UInt8 := dkwJ6_getChar_1 ++ dktJ6_getChar_2
def dkwJ6_getChar_0 : List UInt8 := [178, 0, 44, 154, 0, 25, 27, 155, 0, 11, 27, 42, 184, 0, 48, 161, 0, 13, 187, 0, 52, 89, 18, 54]
abbrev dktJ6_getChar_0 : List UInt8 := dkwJ6_getChar_0 ++ dktJ6_getChar_1
theorem dksJ6_getChar_0 : cJ6_getChar.data.toList.drop 0 = dktJ6_getChar_0 := by decide +kernel
theorem dksJ6_getChar_1 : cJ6_getChar.data.toList.drop 24 = dktJ6_getChar_1 := dk_seg dksJ6_getChar_0 24 rfl rfl
theorem dksJ6_getChar_2 : cJ6_getChar.data.toList.drop 48 = dktJ6_getChar_2 := dk_seg dksJ6_getChar_1 24 rfl rfl
theorem dJ6_getChar_0 : decode cJ6_getChar 0 = .ok (.getstatic 44, 3) := dk_178 0 44 (dk_at dksJ6_getChar_0 0 rfl rfl)
theorem dJ6_getChar_3 : decode cJ6_getChar 3 = .ok (.ifCond .ne 25, 3) := dk_154 0 25 (dk_at dksJ6_getChar_0 3 rfl rfl)
theorem dJ6_getChar_6 : decode cJ6_getChar 6 = .ok (.iload_n 1, 1) := dk_27 (dk_at dksJ6_getChar_0 6 rfl rfl)
theorem dJ6_getChar_7 : decode cJ6_getChar 7 = .ok (.ifCond .lt 11, 3) := dk_155 0 11 (dk_at dksJ6_getChar_0 7 rfl rfl)
theorem dJ6_getChar_10 : decode cJ6_getChar 10 = .ok (.iload_n 1, 1) := dk_27 (dk_at dksJ6_getChar_0 10 rfl rfl)
theorem dJ6_getChar_11 : decode cJ6_getChar 11 = .ok (.aload_n 0, 1) := dk_42 (dk_at dksJ6_getChar_0 11 rfl rfl)
theorem dJ6_getChar_12 : decode cJ6_getChar 12 = .ok (.invokestatic 48, 3) := dk_184 0 48 (dk_at dksJ6_getChar_0 12 rfl rfl)
theorem dJ6_getChar_15 : decode cJ6_getChar 15 = .ok (.if_icmp .lt 13, 3) := dk_161 0 13 (dk_at dksJ6_getChar_0 15 rfl rfl)
theorem dJ6_getChar_18 : decode cJ6_getChar 18 = .ok (.new 52, 3) := dk_187 0 52 (dk_at dksJ6_getChar_0 18 rfl rfl)
theorem dJ6_getChar_21 : decode cJ6_getChar 21 = .ok (.dup, 1) := dk_89 (dk_at dksJ6_getChar_0 21 rfl rfl)
theorem dJ6_getChar_22 : decode cJ6_getChar 22 = .ok (.ldc 54, 2) := dk_18 54 (dk_at dksJ6_getChar_0 22 rfl rfl)
theorem dJ6_getChar_24 : decode cJ6_getChar 24 = .ok (.invokespecial 56, 3) := dk_183 0 56 (dk_at dksJ6_getChar_1 0 rfl rfl)
theorem dJ6_getChar_27 : decode cJ6_getChar 27 = .ok (.athrow, 1) := dk_191 (dk_at dksJ6_getChar_1 3 rfl rfl)
theorem dJ6_getChar_28 : decode cJ6_getChar 28 = .ok (.iload_n 1, 1) := dk_27 (dk_at dksJ6_getChar_1 4 rfl rfl)
theorem dJ6_getChar_29 : decode cJ6_getChar 29 = .ok (.iconst 1, 1) := dk_4 (dk_at dksJ6_getChar_1 5 rfl rfl)
theorem dJ6_getChar_30 : decode cJ6_getChar 30 = .ok (.ishl, 1) := dk_120 (dk_at dksJ6_getChar_1 6 rfl rfl)
theorem dJ6_getChar_31 : decode cJ6_getChar 31 = .ok (.istore_n 1, 1) := dk_60 (dk_at dksJ6_getChar_1 7 rfl rfl)
theorem dJ6_getChar_32 : decode cJ6_getChar 32 = .ok (.aload_n 0, 1) := dk_42 (dk_at dksJ6_getChar_1 8 rfl rfl)
theorem dJ6_getChar_33 : decode cJ6_getChar 33 = .ok (.iload_n 1, 1) := dk_27 (dk_at dksJ6_getChar_1 9 rfl rfl)
theorem dJ6_getChar_34 : decode cJ6_getChar 34 = .ok (.iinc 1 1, 3) := dk_132 1 1 (dk_at dksJ6_getChar_1 10 rfl rfl)
theorem dJ6_getChar_37 : decode cJ6_getChar 37 = .ok (.baload, 1) := dk_51 (dk_at dksJ6_getChar_1 13 rfl rfl)
theorem dJ6_getChar_38 : decode cJ6_getChar 38 = .ok (.sipush 255, 3) := dk_17 0 255 (dk_at dksJ6_getChar_1 14 rfl rfl)
theorem dJ6_getChar_41 : decode cJ6_getChar 41 = .ok (.iand, 1) := dk_126 (dk_at dksJ6_getChar_1 17 rfl rfl)
theorem dJ6_getChar_42 : decode cJ6_getChar 42 = .ok (.getstatic 59, 3) := dk_178 0 59 (dk_at dksJ6_getChar_1 18 rfl rfl)
theorem dJ6_getChar_45 : decode cJ6_getChar 45 = .ok (.ishl, 1) := dk_120 (dk_at dksJ6_getChar_1 21 rfl rfl)
theorem dJ6_getChar_46 : decode cJ6_getChar 46 = .ok (.aload_n 0, 1) := dk_42 (dk_at dksJ6_getChar_1 22 rfl rfl)
theorem dJ6_getChar_47 : decode cJ6_getChar 47 = .ok (.iload_n 1, 1) := dk_27 (dk_at dksJ6_getChar_1 23 rfl rfl)
theorem dJ6_getChar_48 : decode cJ6_getChar 48 = .ok (.baload, 1) := dk_51 (dk_at dksJ6_getChar_2 0 rfl rfl)
theorem dJ6_getChar_49 : decode cJ6_getChar 49 = .ok (.sipush 255, 3) := dk_17 0 255 (dk_at dksJ6_getChar_2 1 rfl rfl)
theorem dJ6_getChar_52 : decode cJ6_getChar 52 = .ok (.iand, 1) := dk_126 (dk_at dksJ6_getChar_2 4 rfl rfl)
theorem dJ6_getChar_53 : decode cJ6_getChar 53 = .ok (.getstatic 63, 3) := dk_178 0 63 (dk_at dksJ6_getChar_2 5 rfl rfl)
theorem dJ6_getChar_56 : decode cJ6_getChar 56 = .ok (.ishl, 1) := dk_120 (dk_at dksJ6_getChar_2 8 rfl rfl)
theorem dJ6_getChar_57 : decode cJ6_getChar 57 = .ok (.ior, 1) := dk_128 (dk_at dksJ6_getChar_2 9 rfl rfl)
theorem dJ6_getChar_58 : decode cJ6_getChar 58 = .ok (.i2c, 1) := dk_146 (dk_at dksJ6_getChar_2 10 rfl rfl)
theorem dJ6_getChar_59 : decode cJ6_getChar 59 = .ok (.ireturn, 1) := dk_172 (dk_at dksJ6_getChar_2 11 rfl rfl)
theorem q150 : (Jvm.Cond.initialized "java/lang/StringUTF16") ∈ lw_all := lw_g (lw_at lw_m1 13 rfl) rfl
theorem q429 : (Jvm.Cond.static ({ cls := "java/lang/StringUTF16", name := "charAt", desc := "([BI)C" } : Jvm.MethodName)) ∈ lw_all := lw_g (lw_at lw_m2 52 rfl) rfl
theorem q430 : (Jvm.Cond.code ({ cls := "java/lang/StringUTF16", name := "charAt", desc := "([BI)C" } : Jvm.MethodName) prog_33_method_83_code (2 : Nat) (Option.some Jvm.ClassFile.FieldType.char)) ∈ lw_all := lw_g (lw_at lw_m2 53 rfl) rfl
theorem q431 : (Jvm.Cond.methodLink "java/lang/StringUTF16" (67 : Nat) ({ cls := "java/lang/StringUTF16", name := "checkIndex", desc := "(I[B)V" } : Jvm.MethodName)) ∈ lw_all := lw_g (lw_at lw_m2 54 rfl) rfl
theorem q432 : (Jvm.Cond.static ({ cls := "java/lang/StringUTF16", name := "checkIndex", desc := "(I[B)V" } : Jvm.MethodName)) ∈ lw_all := lw_g (lw_at lw_m2 55 rfl) rfl
theorem q433 : (Jvm.Cond.code ({ cls := "java/lang/StringUTF16", name := "checkIndex", desc := "(I[B)V" } : Jvm.MethodName) prog_33_method_91_code (2 : Nat) (Option.none : Option Jvm.ClassFile.FieldType)) ∈ lw_all := lw_g (lw_at lw_m2 56 rfl) rfl
theorem q434 : (Jvm.Cond.methodLink "java/lang/StringUTF16" (48 : Nat) ({ cls := "java/lang/StringUTF16", name := "length", desc := "([B)I" } : Jvm.MethodName)) ∈ lw_all := lw_g (lw_at lw_m2 57 rfl) rfl
theorem q435 : (Jvm.Cond.static ({ cls := "java/lang/StringUTF16", name := "length", desc := "([B)I" } : Jvm.MethodName)) ∈ lw_all := lw_g (lw_at lw_m2 58 rfl) rfl
theorem q436 : (Jvm.Cond.code ({ cls := "java/lang/StringUTF16", name := "length", desc := "([B)I" } : Jvm.MethodName) prog_33_method_6_code (1 : Nat) (Option.some Jvm.ClassFile.FieldType.int)) ∈ lw_all := lw_g (lw_at lw_m2 59 rfl) rfl
theorem q437 : (Jvm.Cond.methodLink "java/lang/StringUTF16" (414 : Nat) ({ cls := "java/lang/String", name := "checkIndex", desc := "(II)V" } : Jvm.MethodName)) ∈ lw_all := lw_g (lw_at lw_m2 60 rfl) rfl
theorem q438 : (Jvm.Cond.methodLink "java/lang/StringUTF16" (71 : Nat) ({ cls := "java/lang/StringUTF16", name := "getChar", desc := "([BI)C" } : Jvm.MethodName)) ∈ lw_all := lw_g (lw_at lw_m2 61 rfl) rfl
theorem q439 : (Jvm.Cond.static ({ cls := "java/lang/StringUTF16", name := "getChar", desc := "([BI)C" } : Jvm.MethodName)) ∈ lw_all := lw_g (lw_at lw_m2 62 rfl) rfl
theorem q440 : (Jvm.Cond.code ({ cls := "java/lang/StringUTF16", name := "getChar", desc := "([BI)C" } : Jvm.MethodName) prog_33_method_5_code (2 : Nat) (Option.some Jvm.ClassFile.FieldType.char)) ∈ lw_all := lw_g (lw_at lw_m2 63 rfl) rfl
theorem q441 : (Jvm.Cond.fieldLink "java/lang/StringUTF16" (44 : Nat) "java/lang/StringUTF16" "$assertionsDisabled" "Z") ∈ lw_all := lw_g (lw_at lw_m2 64 rfl) rfl
theorem q442 : (Jvm.Cond.laysStatic "java/lang/StringUTF16" "$assertionsDisabled" "Z") ∈ lw_tbl := lw_at lw_m2 65 rfl
theorem q443 : (Jvm.Cond.fieldLink "java/lang/StringUTF16" (59 : Nat) "java/lang/StringUTF16" "HI_BYTE_SHIFT" "I") ∈ lw_all := lw_g (lw_at lw_m2 66 rfl) rfl
theorem q444 : (Jvm.Cond.laysStatic "java/lang/StringUTF16" "HI_BYTE_SHIFT" "I") ∈ lw_tbl := lw_at lw_m2 67 rfl
theorem q445 : (Jvm.Cond.fieldLink "java/lang/StringUTF16" (63 : Nat) "java/lang/StringUTF16" "LO_BYTE_SHIFT" "I") ∈ lw_all := lw_g (lw_at lw_m2 68 rfl) rfl
theorem q446 : (Jvm.Cond.laysStatic "java/lang/StringUTF16" "LO_BYTE_SHIFT" "I") ∈ lw_tbl := lw_at lw_m2 69 rfl
/-! java/lang/Math -/
set_option maxRecDepth 100000
def RJ7 : String := "java/lang/Math"
abbrev cJ7_min : ByteArray := prog_28_method_69_code
def yJ7_min : MethodName := ⟨RJ7, "min", "(II)I"⟩
def dkwJ7_min_0 : List UInt8 := [26, 27, 163, 0, 7, 26, 167, 0, 4, 27, 172]
abbrev dktJ7_min_0 : List UInt8 := dkwJ7_min_0 ++ []
theorem dksJ7_min_0 : cJ7_min.data.toList.drop 0 = dktJ7_min_0 := by decide +kernel
theorem dJ7_min_0 : decode cJ7_min 0 = .ok (.iload_n 0, 1) := dk_26 (dk_at dksJ7_min_0 0 rfl rfl)
theorem dJ7_min_1 : decode cJ7_min 1 = .ok (.iload_n 1, 1) := dk_27 (dk_at dksJ7_min_0 1 rfl rfl)
theorem dJ7_min_2 : decode cJ7_min 2 = .ok (.if_icmp .gt 7, 3) := dk_163 0 7 (dk_at dksJ7_min_0 2 rfl rfl)
theorem dJ7_min_5 : decode cJ7_min 5 = .ok (.iload_n 0, 1) := dk_26 (dk_at dksJ7_min_0 5 rfl rfl)
theorem dJ7_min_6 : decode cJ7_min 6 = .ok (.goto 4, 3) := dk_167 0 4 (dk_at dksJ7_min_0 6 rfl rfl)
theorem dJ7_min_9 : decode cJ7_min 9 = .ok (.iload_n 1, 1) := dk_27 (dk_at dksJ7_min_0 9 rfl rfl)
theorem dJ7_min_10 : decode cJ7_min 10 = .ok (.ireturn, 1) := dk_172 (dk_at dksJ7_min_0 10 rfl rfl)
abbrev cJ7_max : ByteArray := prog_28_method_65_code
def yJ7_max : MethodName := ⟨RJ7, "max", "(II)I"⟩
def dkwJ7_max_0 : List UInt8 := [26, 27, 161, 0, 7, 26, 167, 0, 4, 27, 172]
abbrev dktJ7_max_0 : List UInt8 := dkwJ7_max_0 ++ []
theorem dksJ7_max_0 : cJ7_max.data.toList.drop 0 = dktJ7_max_0 := by decide +kernel
theorem dJ7_max_0 : decode cJ7_max 0 = .ok (.iload_n 0, 1) := dk_26 (dk_at dksJ7_max_0 0 rfl rfl)
theorem dJ7_max_1 : decode cJ7_max 1 = .ok (.iload_n 1, 1) := dk_27 (dk_at dksJ7_max_0 1 rfl rfl)
theorem dJ7_max_2 : decode cJ7_max 2 = .ok (.if_icmp .lt 7, 3) := dk_161 0 7 (dk_at dksJ7_max_0 2 rfl rfl)
theorem dJ7_max_5 : decode cJ7_max 5 = .ok (.iload_n 0, 1) := dk_26 (dk_at dksJ7_max_0 5 rfl rfl)
theorem dJ7_max_6 : decode cJ7_max 6 = .ok (.goto 4, 3) := dk_167 0 4 (dk_at dksJ7_max_0 6 rfl rfl)
theorem dJ7_max_9 : decode cJ7_max 9 = .ok (.iload_n 1, 1) := dk_27 (dk_at dksJ7_max_0 9 rfl rfl)
theorem dJ7_max_10 : decode cJ7_max 10 = .ok (.ireturn, 1) := dk_172 (dk_at dksJ7_max_0 10 rfl rfl)
abbrev cJ7_abs : ByteArray := prog_28_method_61_code
def yJ7_abs : MethodName := ⟨RJ7, "abs", "(J)J"⟩
def dkwJ7_abs_0 : List UInt8 := [30, 9, 148, 156, 0, 8, 30, 117, 167, 0, 4, 30, 173]
abbrev dktJ7_abs_0 : List UInt8 := dkwJ7_abs_0 ++ []
theorem dksJ7_abs_0 : cJ7_abs.data.toList.drop 0 = dktJ7_abs_0 := by decide +kernel
theorem dJ7_abs_0 : decode cJ7_abs 0 = .ok (.lload_n 0, 1) := dk_30 (dk_at dksJ7_abs_0 0 rfl rfl)
theorem dJ7_abs_1 : decode cJ7_abs 1 = .ok (.lconst 0, 1) := dk_9 (dk_at dksJ7_abs_0 1 rfl rfl)
theorem dJ7_abs_2 : decode cJ7_abs 2 = .ok (.lcmp, 1) := dk_148 (dk_at dksJ7_abs_0 2 rfl rfl)
theorem dJ7_abs_3 : decode cJ7_abs 3 = .ok (.ifCond .ge 8, 3) := dk_156 0 8 (dk_at dksJ7_abs_0 3 rfl rfl)
theorem dJ7_abs_6 : decode cJ7_abs 6 = .ok (.lload_n 0, 1) := dk_30 (dk_at dksJ7_abs_0 6 rfl rfl)
theorem dJ7_abs_7 : decode cJ7_abs 7 = .ok (.lneg, 1) := dk_117 (dk_at dksJ7_abs_0 7 rfl rfl)
theorem dJ7_abs_8 : decode cJ7_abs 8 = .ok (.goto 4, 3) := dk_167 0 4 (dk_at dksJ7_abs_0 8 rfl rfl)
theorem dJ7_abs_11 : decode cJ7_abs 11 = .ok (.lload_n 0, 1) := dk_30 (dk_at dksJ7_abs_0 11 rfl rfl)
theorem dJ7_abs_12 : decode cJ7_abs 12 = .ok (.lreturn, 1) := dk_173 (dk_at dksJ7_abs_0 12 rfl rfl)
abbrev cJ7_min_2 : ByteArray := prog_28_method_70_code
def yJ7_min_2 : MethodName := ⟨RJ7, "min", "(JJ)J"⟩
def dkwJ7_min_2_0 : List UInt8 := [30, 32, 148, 157, 0, 7, 30, 167, 0, 4, 32, 173]
abbrev dktJ7_min_2_0 : List UInt8 := dkwJ7_min_2_0 ++ []
theorem dksJ7_min_2_0 : cJ7_min_2.data.toList.drop 0 = dktJ7_min_2_0 := by decide +kernel
theorem dJ7_min_2_0 : decode cJ7_min_2 0 = .ok (.lload_n 0, 1) := dk_30 (dk_at dksJ7_min_2_0 0 rfl rfl)
theorem dJ7_min_2_1 : decode cJ7_min_2 1 = .ok (.lload_n 2, 1) := dk_32 (dk_at dksJ7_min_2_0 1 rfl rfl)
theorem dJ7_min_2_2 : decode cJ7_min_2 2 = .ok (.lcmp, 1) := dk_148 (dk_at dksJ7_min_2_0 2 rfl rfl)
theorem dJ7_min_2_3 : decode cJ7_min_2 3 = .ok (.ifCond .gt 7, 3) := dk_157 0 7 (dk_at dksJ7_min_2_0 3 rfl rfl)
theorem dJ7_min_2_6 : decode cJ7_min_2 6 = .ok (.lload_n 0, 1) := dk_30 (dk_at dksJ7_min_2_0 6 rfl rfl)
theorem dJ7_min_2_7 : decode cJ7_min_2 7 = .ok (.goto 4, 3) := dk_167 0 4 (dk_at dksJ7_min_2_0 7 rfl rfl)
theorem dJ7_min_2_10 : decode cJ7_min_2 10 = .ok (.lload_n 2, 1) := dk_32 (dk_at dksJ7_min_2_0 10 rfl rfl)
theorem dJ7_min_2_11 : decode cJ7_min_2 11 = .ok (.lreturn, 1) := dk_173 (dk_at dksJ7_min_2_0 11 rfl rfl)
abbrev cJ7_max_2 : ByteArray := prog_28_method_66_code
def yJ7_max_2 : MethodName := ⟨RJ7, "max", "(JJ)J"⟩
def dkwJ7_max_2_0 : List UInt8 := [30, 32, 148, 155, 0, 7, 30, 167, 0, 4, 32, 173]
abbrev dktJ7_max_2_0 : List UInt8 := dkwJ7_max_2_0 ++ []
theorem dksJ7_max_2_0 : cJ7_max_2.data.toList.drop 0 = dktJ7_max_2_0 := by decide +kernel
theorem dJ7_max_2_0 : decode cJ7_max_2 0 = .ok (.lload_n 0, 1) := dk_30 (dk_at dksJ7_max_2_0 0 rfl rfl)
theorem dJ7_max_2_1 : decode cJ7_max_2 1 = .ok (.lload_n 2, 1) := dk_32 (dk_at dksJ7_max_2_0 1 rfl rfl)
theorem dJ7_max_2_2 : decode cJ7_max_2 2 = .ok (.lcmp, 1) := dk_148 (dk_at dksJ7_max_2_0 2 rfl rfl)
theorem dJ7_max_2_3 : decode cJ7_max_2 3 = .ok (.ifCond .lt 7, 3) := dk_155 0 7 (dk_at dksJ7_max_2_0 3 rfl rfl)
theorem dJ7_max_2_6 : decode cJ7_max_2 6 = .ok (.lload_n 0, 1) := dk_30 (dk_at dksJ7_max_2_0 6 rfl rfl)
theorem dJ7_max_2_7 : decode cJ7_max_2 7 = .ok (.goto 4, 3) := dk_167 0 4 (dk_at dksJ7_max_2_0 7 rfl rfl)
theorem dJ7_max_2_10 : decode cJ7_max_2 10 = .ok (.lload_n 2, 1) := dk_32 (dk_at dksJ7_max_2_0 10 rfl rfl)
theorem dJ7_max_2_11 : decode cJ7_max_2 11 = .ok (.lreturn, 1) := dk_173 (dk_at dksJ7_max_2_0 11 rfl rfl)
abbrev cJ7_abs_2 : ByteArray := prog_28_method_59_code
def yJ7_abs_2 : MethodName := ⟨RJ7, "abs", "(I)I"⟩
def dkwJ7_abs_2_0 : List UInt8 := [26, 156, 0, 8, 26, 116, 167, 0, 4, 26, 172]
abbrev dktJ7_abs_2_0 : List UInt8 := dkwJ7_abs_2_0 ++ []
theorem dksJ7_abs_2_0 : cJ7_abs_2.data.toList.drop 0 = dktJ7_abs_2_0 := by decide +kernel
theorem dJ7_abs_2_0 : decode cJ7_abs_2 0 = .ok (.iload_n 0, 1) := dk_26 (dk_at dksJ7_abs_2_0 0 rfl rfl)
theorem dJ7_abs_2_1 : decode cJ7_abs_2 1 = .ok (.ifCond .ge 8, 3) := dk_156 0 8 (dk_at dksJ7_abs_2_0 1 rfl rfl)
theorem dJ7_abs_2_4 : decode cJ7_abs_2 4 = .ok (.iload_n 0, 1) := dk_26 (dk_at dksJ7_abs_2_0 4 rfl rfl)
theorem dJ7_abs_2_5 : decode cJ7_abs_2 5 = .ok (.ineg, 1) := dk_116 (dk_at dksJ7_abs_2_0 5 rfl rfl)
theorem dJ7_abs_2_6 : decode cJ7_abs_2 6 = .ok (.goto 4, 3) := dk_167 0 4 (dk_at dksJ7_abs_2_0 6 rfl rfl)
theorem dJ7_abs_2_9 : decode cJ7_abs_2 9 = .ok (.iload_n 0, 1) := dk_26 (dk_at dksJ7_abs_2_0 9 rfl rfl)
theorem dJ7_abs_2_10 : decode cJ7_abs_2 10 = .ok (.ireturn, 1) := dk_172 (dk_at dksJ7_abs_2_0 10 rfl rfl)
theorem q151 : (Jvm.Cond.initialized "java/lang/Math") ∈ lw_all := lw_g (lw_at lw_m1 14 rfl) rfl
theorem q452 : (Jvm.Cond.static ({ cls := "java/lang/Math", name := "min", desc := "(II)I" } : Jvm.MethodName)) ∈ lw_all := lw_g (lw_at lw_m2 75 rfl) rfl
theorem q453 : (Jvm.Cond.code ({ cls := "java/lang/Math", name := "min", desc := "(II)I" } : Jvm.MethodName) prog_28_method_69_code (2 : Nat) (Option.some Jvm.ClassFile.FieldType.int)) ∈ lw_all := lw_g (lw_at lw_m2 76 rfl) rfl
theorem q667 : (Jvm.Cond.static ({ cls := "java/lang/Math", name := "max", desc := "(II)I" } : Jvm.MethodName)) ∈ lw_all := lw_g (lw_at lw_m3 50 rfl) rfl
theorem q668 : (Jvm.Cond.code ({ cls := "java/lang/Math", name := "max", desc := "(II)I" } : Jvm.MethodName) prog_28_method_65_code (2 : Nat) (Option.some Jvm.ClassFile.FieldType.int)) ∈ lw_all := lw_g (lw_at lw_m3 51 rfl) rfl
theorem q945 : (Jvm.Cond.static ({ cls := "java/lang/Math", name := "abs", desc := "(J)J" } : Jvm.MethodName)) ∈ lw_all := lw_g (lw_at lw_m4 88 rfl) rfl
theorem q946 : (Jvm.Cond.code ({ cls := "java/lang/Math", name := "abs", desc := "(J)J" } : Jvm.MethodName) prog_28_method_61_code (2 : Nat) (Option.some Jvm.ClassFile.FieldType.long)) ∈ lw_all := lw_g (lw_at lw_m4 89 rfl) rfl
theorem q960 : (Jvm.Cond.static ({ cls := "java/lang/Math", name := "min", desc := "(JJ)J" } : Jvm.MethodName)) ∈ lw_all := lw_g (lw_at lw_m4 103 rfl) rfl
theorem q961 : (Jvm.Cond.code ({ cls := "java/lang/Math", name := "min", desc := "(JJ)J" } : Jvm.MethodName) prog_28_method_70_code (4 : Nat) (Option.some Jvm.ClassFile.FieldType.long)) ∈ lw_all := lw_g (lw_at lw_m4 104 rfl) rfl
theorem q963 : (Jvm.Cond.static ({ cls := "java/lang/Math", name := "max", desc := "(JJ)J" } : Jvm.MethodName)) ∈ lw_all := lw_g (lw_at lw_m4 106 rfl) rfl
theorem q964 : (Jvm.Cond.code ({ cls := "java/lang/Math", name := "max", desc := "(JJ)J" } : Jvm.MethodName) prog_28_method_66_code (4 : Nat) (Option.some Jvm.ClassFile.FieldType.long)) ∈ lw_all := lw_g (lw_at lw_m4 107 rfl) rfl
theorem q1216 : (Jvm.Cond.static ({ cls := "java/lang/Math", name := "abs", desc := "(I)I" } : Jvm.MethodName)) ∈ lw_all := lw_g (lw_at lw_m5 119 rfl) rfl
theorem q1217 : (Jvm.Cond.code ({ cls := "java/lang/Math", name := "abs", desc := "(I)I" } : Jvm.MethodName) prog_28_method_59_code (1 : Nat) (Option.some Jvm.ClassFile.FieldType.int)) ∈ lw_all := lw_g (lw_at lw_m5 120 rfl) rfl
/-! java/lang/Throwable -/
set_option maxRecDepth 100000
def RJ8 : String := "java/lang/Throwable"
def TJ8 : u_T := fun k => match k with
  | 0 => ("java/lang/Throwable", "cause", "Ljava/lang/Throwable;", false)
  | 1 => ("java/lang/Throwable", "stackTrace", "[Ljava/lang/StackTraceElement;", false)
  | 2 => ("java/lang/Throwable", "suppressedExceptions", "Ljava/util/List;", false)
  | 3 => ("java/lang/Throwable", "detailMessage", "Ljava/lang/String;", false)
  | _ => ("java/lang/Throwable", "backtrace", "Ljava/lang/Object;", false)
def tyJ8 : Nat → FieldType := fun k => match k with
  | 0 => .object "java/lang/Throwable"
  | 1 => .array (.object "java/lang/StackTraceElement")
  | 2 => .object "java/util/List"
  | 3 => .object "java/lang/String"
  | _ => .object "java/lang/Object"
abbrev wsJ80 : List Cond := u_ws RJ8 TJ8 5
theorem nmJ8 : ∀ a, a < 5 → ∀ b, b < 5 → a ≠ b → (TJ8 a).2.1 ≠ (TJ8 b).2.1 := by decide +kernel
theorem tyJ8_ok : ∀ k, k < 5 → parseFieldDescriptor (TJ8 k).2.2.1 = some (tyJ8 k) := by decide +kernel
abbrev cJ8_init : ByteArray := prog_35_method_1_code
def yJ8_init : MethodName := ⟨RJ8, "<init>", "()V"⟩
def dkwJ8_init_1 : List UInt8 := [182, 0, 27, 87, 177]
abbrev dktJ8_init_1 : List UInt8 := dkwJ8_init_1 ++ []
def dkwJ8_init_0 : List UInt8 := [42, 183, 0, 1, 42, 42, 181, 0, 7, 42, 178, 0, 13, 181, 0, 17, 42, 178, 0, 20, 181, 0, 24, 42]
abbrev dktJ8_init_0 : List UInt8 := dkwJ8_init_0 ++ dktJ8_init_1
theorem dksJ8_init_0 : cJ8_init.data.toList.drop 0 = dktJ8_init_0 := by decide +kernel
theorem dksJ8_init_1 : cJ8_init.data.toList.drop 24 = dktJ8_init_1 := dk_seg dksJ8_init_0 24 rfl rfl
theorem dJ8_init_0 : decode cJ8_init 0 = .ok (.aload_n 0, 1) := dk_42 (dk_at dksJ8_init_0 0 rfl rfl)
theorem dJ8_init_1 : decode cJ8_init 1 = .ok (.invokespecial 1, 3) := dk_183 0 1 (dk_at dksJ8_init_0 1 rfl rfl)
theorem dJ8_init_4 : decode cJ8_init 4 = .ok (.aload_n 0, 1) := dk_42 (dk_at dksJ8_init_0 4 rfl rfl)
theorem dJ8_init_5 : decode cJ8_init 5 = .ok (.aload_n 0, 1) := dk_42 (dk_at dksJ8_init_0 5 rfl rfl)
theorem dJ8_init_6 : decode cJ8_init 6 = .ok (.putfield 7, 3) := dk_181 0 7 (dk_at dksJ8_init_0 6 rfl rfl)
theorem dJ8_init_9 : decode cJ8_init 9 = .ok (.aload_n 0, 1) := dk_42 (dk_at dksJ8_init_0 9 rfl rfl)
theorem dJ8_init_10 : decode cJ8_init 10 = .ok (.getstatic 13, 3) := dk_178 0 13 (dk_at dksJ8_init_0 10 rfl rfl)
theorem dJ8_init_13 : decode cJ8_init 13 = .ok (.putfield 17, 3) := dk_181 0 17 (dk_at dksJ8_init_0 13 rfl rfl)
theorem dJ8_init_16 : decode cJ8_init 16 = .ok (.aload_n 0, 1) := dk_42 (dk_at dksJ8_init_0 16 rfl rfl)
theorem dJ8_init_17 : decode cJ8_init 17 = .ok (.getstatic 20, 3) := dk_178 0 20 (dk_at dksJ8_init_0 17 rfl rfl)
theorem dJ8_init_20 : decode cJ8_init 20 = .ok (.putfield 24, 3) := dk_181 0 24 (dk_at dksJ8_init_0 20 rfl rfl)
theorem dJ8_init_23 : decode cJ8_init 23 = .ok (.aload_n 0, 1) := dk_42 (dk_at dksJ8_init_0 23 rfl rfl)
theorem dJ8_init_24 : decode cJ8_init 24 = .ok (.invokevirtual 27, 3) := dk_182 0 27 (dk_at dksJ8_init_1 0 rfl rfl)
theorem dJ8_init_27 : decode cJ8_init 27 = .ok (.pop, 1) := dk_87 (dk_at dksJ8_init_1 3 rfl rfl)
theorem dJ8_init_28 : decode cJ8_init 28 = .ok (.return_, 1) := dk_177 (dk_at dksJ8_init_1 4 rfl rfl)
theorem q152 : (Jvm.Cond.initialized "java/lang/Throwable") ∈ lw_all := lw_g (lw_at lw_m1 15 rfl) rfl
theorem q464 : (Jvm.Cond.declares ({ cls := "java/lang/Throwable", name := "<init>", desc := "()V" } : Jvm.MethodName)) ∈ lw_tbl := lw_at lw_m2 87 rfl
theorem q465 : (Jvm.Cond.declares ({ cls := "java/lang/Throwable", name := "<init>", desc := "(Ljava/lang/String;)V" } : Jvm.MethodName)) ∈ lw_tbl := lw_at lw_m2 88 rfl
theorem q469 : (Jvm.Cond.lays "java/lang/Throwable" "java/lang/Throwable" "cause" "Ljava/lang/Throwable;") ∈ lw_all := lw_g (lw_at lw_m2 92 rfl) rfl
theorem q471 : (Jvm.Cond.lays "java/lang/Throwable" "java/lang/Throwable" "stackTrace" "[Ljava/lang/StackTraceElement;") ∈ lw_all := lw_g (lw_at lw_m2 94 rfl) rfl
theorem q473 : (Jvm.Cond.lays "java/lang/Throwable" "java/lang/Throwable" "suppressedExceptions" "Ljava/util/List;") ∈ lw_all := lw_g (lw_at lw_m2 96 rfl) rfl
theorem q475 : (Jvm.Cond.lays "java/lang/Throwable" "java/lang/Throwable" "detailMessage" "Ljava/lang/String;") ∈ lw_all := lw_g (lw_at lw_m2 98 rfl) rfl
theorem q477 : (Jvm.Cond.lays "java/lang/Throwable" "java/lang/Throwable" "backtrace" "Ljava/lang/Object;") ∈ lw_all := lw_g (lw_at lw_m2 100 rfl) rfl
theorem q478 : (Jvm.Cond.fieldLink "java/lang/Throwable" (198 : Nat) "java/lang/Throwable" "backtrace" "Ljava/lang/Object;") ∈ lw_all := lw_g (lw_at lw_m2 101 rfl) rfl
theorem q479 : (Jvm.Cond.superclass "java/lang/Throwable" "java/lang/Object") ∈ lw_all := lw_g (lw_at lw_m2 102 rfl) rfl
theorem q480 : (Jvm.Cond.instanceMethod ({ cls := "java/lang/Throwable", name := "<init>", desc := "()V" } : Jvm.MethodName)) ∈ lw_all := lw_g (lw_at lw_m2 103 rfl) rfl
theorem q481 : (Jvm.Cond.code ({ cls := "java/lang/Throwable", name := "<init>", desc := "()V" } : Jvm.MethodName) prog_35_method_1_code (1 : Nat) (Option.none : Option Jvm.ClassFile.FieldType)) ∈ lw_all := lw_g (lw_at lw_m2 104 rfl) rfl
theorem q482 : (Jvm.Cond.methodLink "java/lang/Throwable" (1 : Nat) ({ cls := "java/lang/Object", name := "<init>", desc := "()V" } : Jvm.MethodName)) ∈ lw_all := lw_g (lw_at lw_m2 105 rfl) rfl
theorem q483 : (Jvm.Cond.fieldLink "java/lang/Throwable" (13 : Nat) "java/lang/Throwable" "UNASSIGNED_STACK" "[Ljava/lang/StackTraceElement;") ∈ lw_all := lw_g (lw_at lw_m2 106 rfl) rfl
theorem q484 : (Jvm.Cond.laysStatic "java/lang/Throwable" "UNASSIGNED_STACK" "[Ljava/lang/StackTraceElement;") ∈ lw_tbl := lw_at lw_m2 107 rfl
theorem q485 : (Jvm.Cond.fieldLink "java/lang/Throwable" (20 : Nat) "java/lang/Throwable" "SUPPRESSED_SENTINEL" "Ljava/util/List;") ∈ lw_all := lw_g (lw_at lw_m2 108 rfl) rfl
theorem q486 : (Jvm.Cond.laysStatic "java/lang/Throwable" "SUPPRESSED_SENTINEL" "Ljava/util/List;") ∈ lw_tbl := lw_at lw_m2 109 rfl
theorem q487 : (Jvm.Cond.methodLink "java/lang/Throwable" (27 : Nat) ({ cls := "java/lang/Throwable", name := "fillInStackTrace", desc := "()Ljava/lang/Throwable;" } : Jvm.MethodName)) ∈ lw_all := lw_g (lw_at lw_m2 110 rfl) rfl
theorem q488 : (Jvm.Cond.instanceMethod ({ cls := "java/lang/Throwable", name := "fillInStackTrace", desc := "()Ljava/lang/Throwable;" } : Jvm.MethodName)) ∈ lw_all := lw_g (lw_at lw_m2 111 rfl) rfl
theorem q489 : (Jvm.Cond.sameMethod "java/lang/Throwable" "java/lang/Throwable" "fillInStackTrace" "()Ljava/lang/Throwable;") ∈ lw_all := lw_g (lw_at lw_m2 112 rfl) rfl
theorem q490 : (Jvm.Cond.codeSync ({ cls := "java/lang/Throwable", name := "fillInStackTrace", desc := "()Ljava/lang/Throwable;" } : Jvm.MethodName) prog_35_method_18_code (1 : Nat) (Option.some (Jvm.ClassFile.FieldType.object "java/lang/Throwable"))) ∈ lw_all := lw_g (lw_at lw_m2 113 rfl) rfl
theorem q491 : (Jvm.Cond.methodLink "java/lang/Throwable" (202 : Nat) ({ cls := "java/lang/Throwable", name := "fillInStackTrace", desc := "(I)Ljava/lang/Throwable;" } : Jvm.MethodName)) ∈ lw_all := lw_g (lw_at lw_m2 114 rfl) rfl
theorem q492 : (Jvm.Cond.privateMethod ({ cls := "java/lang/Throwable", name := "fillInStackTrace", desc := "(I)Ljava/lang/Throwable;" } : Jvm.MethodName)) ∈ lw_tbl := lw_at lw_m2 115 rfl
theorem q493 : (Jvm.Cond.instanceMethod ({ cls := "java/lang/Throwable", name := "fillInStackTrace", desc := "(I)Ljava/lang/Throwable;" } : Jvm.MethodName)) ∈ lw_all := lw_g (lw_at lw_m2 116 rfl) rfl
theorem q494 : (Jvm.Cond.instantiable "java/lang/Throwable" (6 : Nat)) ∈ lw_all := lw_g (lw_at lw_m2 117 rfl) rfl
theorem q495 : (Jvm.Cond.native ({ cls := "java/lang/Throwable", name := "fillInStackTrace", desc := "(I)Ljava/lang/Throwable;" } : Jvm.MethodName)) ∈ lw_all := lw_g (lw_at lw_m2 118 rfl) rfl
theorem q507 : (Jvm.Cond.fieldLink "java/lang/Throwable" (198 : Nat) "java/lang/Throwable" "backtrace" "Ljava/lang/Object;") ∈ lw_all := lw_g (lw_at lw_m2 130 rfl) rfl
theorem q508 : (Jvm.Cond.fieldLink "java/lang/Throwable" (7 : Nat) "java/lang/Throwable" "cause" "Ljava/lang/Throwable;") ∈ lw_all := lw_g (lw_at lw_m2 131 rfl) rfl
theorem q509 : (Jvm.Cond.fieldLink "java/lang/Throwable" (17 : Nat) "java/lang/Throwable" "stackTrace" "[Ljava/lang/StackTraceElement;") ∈ lw_all := lw_g (lw_at lw_m2 132 rfl) rfl
theorem q510 : (Jvm.Cond.fieldLink "java/lang/Throwable" (24 : Nat) "java/lang/Throwable" "suppressedExceptions" "Ljava/util/List;") ∈ lw_all := lw_g (lw_at lw_m2 133 rfl) rfl
theorem q515 : (Jvm.Cond.soleField "java/lang/Throwable" "backtrace") ∈ lw_all := lw_g (lw_at lw_m2 138 rfl) rfl
theorem q516 : (Jvm.Cond.soleField "java/lang/Throwable" "detailMessage") ∈ lw_all := lw_g (lw_at lw_m2 139 rfl) rfl
theorem q517 : (Jvm.Cond.soleField "java/lang/Throwable" "cause") ∈ lw_all := lw_g (lw_at lw_m2 140 rfl) rfl
theorem q518 : (Jvm.Cond.soleField "java/lang/Throwable" "stackTrace") ∈ lw_all := lw_g (lw_at lw_m2 141 rfl) rfl
theorem q520 : (Jvm.Cond.soleField "java/lang/Throwable" "depth") ∈ lw_all := lw_g (lw_at lw_m2 143 rfl) rfl
theorem q521 : (Jvm.Cond.soleField "java/lang/Throwable" "suppressedExceptions") ∈ lw_all := lw_g (lw_at lw_m2 144 rfl) rfl
theorem q2025 : (Jvm.Cond.sameMethod "java/lang/Throwable" "java/lang/Throwable" "fillInStackTrace" "(I)Ljava/lang/Throwable;") ∈ lw_all := lw_g (lw_at lw_m8 208 rfl) rfl
theorem q2046 : (Jvm.Cond.castable "java/lang/Throwable" "java/lang/Object") ∈ lw_tbl := lw_at lw_m8 229 rfl
theorem in_J8 : ∀ w ∈ wsJ80, w ∈ lw_all := lw_in wsJ80 [469, 471, 473, 475, 477] (by decide +kernel) (by decide +kernel)
/-! java/lang/Exception -/
set_option maxRecDepth 100000
def RJ9 : String := "java/lang/Exception"
abbrev cJ9_init : ByteArray := prog_24_method_1_code
def yJ9_init : MethodName := ⟨RJ9, "<init>", "()V"⟩
theorem dJ9_init_0 : decode cJ9_init 0 = .ok (.aload_n 0, 1) := by decide +kernel
theorem dJ9_init_1 : decode cJ9_init 1 = .ok (.invokespecial 1, 3) := by decide +kernel
theorem dJ9_init_4 : decode cJ9_init 4 = .ok (.return_, 1) := by decide +kernel
theorem q153 : (Jvm.Cond.initialized "java/lang/Exception") ∈ lw_all := lw_g (lw_at lw_m1 16 rfl) rfl
theorem q462 : (Jvm.Cond.declares ({ cls := "java/lang/Exception", name := "<init>", desc := "()V" } : Jvm.MethodName)) ∈ lw_tbl := lw_at lw_m2 85 rfl
theorem q463 : (Jvm.Cond.declares ({ cls := "java/lang/Exception", name := "<init>", desc := "(Ljava/lang/String;)V" } : Jvm.MethodName)) ∈ lw_tbl := lw_at lw_m2 86 rfl
theorem q500 : (Jvm.Cond.instanceMethod ({ cls := "java/lang/Exception", name := "<init>", desc := "()V" } : Jvm.MethodName)) ∈ lw_all := lw_g (lw_at lw_m2 123 rfl) rfl
theorem q501 : (Jvm.Cond.code ({ cls := "java/lang/Exception", name := "<init>", desc := "()V" } : Jvm.MethodName) prog_24_method_1_code (1 : Nat) (Option.none : Option Jvm.ClassFile.FieldType)) ∈ lw_all := lw_g (lw_at lw_m2 124 rfl) rfl
theorem q502 : (Jvm.Cond.methodLink "java/lang/Exception" (1 : Nat) ({ cls := "java/lang/Throwable", name := "<init>", desc := "()V" } : Jvm.MethodName)) ∈ lw_all := lw_g (lw_at lw_m2 125 rfl) rfl
theorem q137 : (Jvm.Cond.initialized "ShutDaysLaw") ∈ lw_all := lw_g (lw_at lw_m1 0 rfl) rfl
set_option maxRecDepth 100000
theorem q172 : (Jvm.Cond.classLink "ShutDaysLaw" (7 : Nat) "ShutDays") ∈ lw_all := lw_g (lw_at lw_m1 35 rfl) rfl
theorem q174 : (Jvm.Cond.methodLink "ShutDaysLaw" (9 : Nat) ({ cls := "ShutDays", name := "<init>", desc := "()V" } : Jvm.MethodName)) ∈ lw_all := lw_g (lw_at lw_m1 37 rfl) rfl
theorem q267 : (Jvm.Cond.methodLink "ShutDaysLaw" (13 : Nat) ({ cls := "ShutDays", name := "house", desc := "(IIIII)I" } : Jvm.MethodName)) ∈ lw_all := lw_g (lw_at lw_m1 130 rfl) rfl
theorem q281 : (Jvm.Cond.methodLink "ShutDaysLaw" (18 : Nat) ({ cls := "ShutDays", name := "feed", desc := "(IIIII)I" } : Jvm.MethodName)) ∈ lw_all := lw_g (lw_at lw_m1 144 rfl) rfl
theorem q289 : (Jvm.Cond.methodLink "ShutDaysLaw" (22 : Nat) ({ cls := "ShutDays", name := "end", desc := "(I)I" } : Jvm.MethodName)) ∈ lw_all := lw_g (lw_at lw_m1 152 rfl) rfl
theorem q293 : (Jvm.Cond.methodLink "ShutDaysLaw" (27 : Nat) ({ cls := "ShutDays", name := "text", desc := "()I" } : Jvm.MethodName)) ∈ lw_all := lw_g (lw_at lw_m1 156 rfl) rfl
theorem q834 : (Jvm.Cond.methodLink "ShutDaysLaw" (32 : Nat) ({ cls := "ShutDays", name := "fault", desc := "(I)I" } : Jvm.MethodName)) ∈ lw_all := lw_g (lw_at lw_m3 217 rfl) rfl
theorem q838 : (Jvm.Cond.methodLink "ShutDaysLaw" (36 : Nat) ({ cls := "ShutDays", name := "by", desc := "(I)Z" } : Jvm.MethodName)) ∈ lw_all := lw_g (lw_at lw_m3 221 rfl) rfl
theorem q846 : (Jvm.Cond.methodLink "ShutDaysLaw" (59 : Nat) ({ cls := "ShutDays", name := "day", desc := "(I)I" } : Jvm.MethodName)) ∈ lw_all := lw_g (lw_at lw_m3 229 rfl) rfl
theorem q976 : (Jvm.Cond.methodLink "ShutDaysLaw" (41 : Nat) ({ cls := "ShutDays", name := "knock", desc := "(I)I" } : Jvm.MethodName)) ∈ lw_all := lw_g (lw_at lw_m4 119 rfl) rfl
theorem q1032 : (Jvm.Cond.methodLink "ShutDaysLaw" (45 : Nat) ({ cls := "ShutDays", name := "marry", desc := "(II)I" } : Jvm.MethodName)) ∈ lw_all := lw_g (lw_at lw_m4 175 rfl) rfl
theorem q1040 : (Jvm.Cond.methodLink "ShutDaysLaw" (50 : Nat) ({ cls := "ShutDays", name := "hat", desc := "(I)I" } : Jvm.MethodName)) ∈ lw_all := lw_g (lw_at lw_m4 183 rfl) rfl
theorem q1056 : (Jvm.Cond.methodLink "ShutDaysLaw" (54 : Nat) ({ cls := "ShutDays", name := "forget", desc := "(II)Z" } : Jvm.MethodName)) ∈ lw_all := lw_g (lw_at lw_m4 199 rfl) rfl
theorem q1067 : (Jvm.Cond.methodLink "ShutDaysLaw" (63 : Nat) ({ cls := "ShutDays", name := "played", desc := "(I)I" } : Jvm.MethodName)) ∈ lw_all := lw_g (lw_at lw_m4 210 rfl) rfl
theorem q1112 : (Jvm.Cond.methodLink "ShutDaysLaw" (67 : Nat) ({ cls := "ShutDays", name := "years", desc := "(II)I" } : Jvm.MethodName)) ∈ lw_all := lw_g (lw_at lw_m5 15 rfl) rfl
theorem q1120 : (Jvm.Cond.methodLink "ShutDaysLaw" (71 : Nat) ({ cls := "ShutDays", name := "undo", desc := "()I" } : Jvm.MethodName)) ∈ lw_all := lw_g (lw_at lw_m5 23 rfl) rfl
theorem q1125 : (Jvm.Cond.methodLink "ShutDaysLaw" (75 : Nat) ({ cls := "ShutDays", name := "of", desc := "(II)I" } : Jvm.MethodName)) ∈ lw_all := lw_g (lw_at lw_m5 28 rfl) rfl
theorem q1129 : (Jvm.Cond.methodLink "ShutDaysLaw" (79 : Nat) ({ cls := "ShutDays", name := "is", desc := "(I)I" } : Jvm.MethodName)) ∈ lw_all := lw_g (lw_at lw_m5 32 rfl) rfl
theorem q1133 : (Jvm.Cond.methodLink "ShutDaysLaw" (83 : Nat) ({ cls := "ShutDays", name := "book", desc := "(II)I" } : Jvm.MethodName)) ∈ lw_all := lw_g (lw_at lw_m5 36 rfl) rfl
theorem q1137 : (Jvm.Cond.methodLink "ShutDaysLaw" (87 : Nat) ({ cls := "ShutDays", name := "foretold", desc := "(II)I" } : Jvm.MethodName)) ∈ lw_all := lw_g (lw_at lw_m5 40 rfl) rfl
theorem q1145 : (Jvm.Cond.methodLink "ShutDaysLaw" (91 : Nat) ({ cls := "ShutDays", name := "indoors", desc := "(I)I" } : Jvm.MethodName)) ∈ lw_all := lw_g (lw_at lw_m5 48 rfl) rfl
theorem q1153 : (Jvm.Cond.methodLink "ShutDaysLaw" (95 : Nat) ({ cls := "ShutDays", name := "crowded", desc := "(Z)I" } : Jvm.MethodName)) ∈ lw_all := lw_g (lw_at lw_m5 56 rfl) rfl
theorem q1157 : (Jvm.Cond.methodLink "ShutDaysLaw" (100 : Nat) ({ cls := "ShutDays", name := "feast", desc := "(Z)I" } : Jvm.MethodName)) ∈ lw_all := lw_g (lw_at lw_m5 60 rfl) rfl
theorem q1165 : (Jvm.Cond.methodLink "ShutDaysLaw" (104 : Nat) ({ cls := "ShutDays", name := "alone", desc := "()I" } : Jvm.MethodName)) ∈ lw_all := lw_g (lw_at lw_m5 68 rfl) rfl
theorem q1169 : (Jvm.Cond.methodLink "ShutDaysLaw" (108 : Nat) ({ cls := "ShutDays", name := "nobodys", desc := "()I" } : Jvm.MethodName)) ∈ lw_all := lw_g (lw_at lw_m5 72 rfl) rfl
theorem q1173 : (Jvm.Cond.methodLink "ShutDaysLaw" (112 : Nat) ({ cls := "ShutDays", name := "poorest", desc := "(I)I" } : Jvm.MethodName)) ∈ lw_all := lw_g (lw_at lw_m5 76 rfl) rfl
theorem q1177 : (Jvm.Cond.methodLink "ShutDaysLaw" (116 : Nat) ({ cls := "ShutDays", name := "seen", desc := "(IIZ)I" } : Jvm.MethodName)) ∈ lw_all := lw_g (lw_at lw_m5 80 rfl) rfl
theorem q1189 : (Jvm.Cond.methodLink "ShutDaysLaw" (121 : Nat) ({ cls := "ShutDays", name := "sets", desc := "(IIZ)I" } : Jvm.MethodName)) ∈ lw_all := lw_g (lw_at lw_m5 92 rfl) rfl
theorem q1204 : (Jvm.Cond.methodLink "ShutDaysLaw" (125 : Nat) ({ cls := "ShutDays", name := "odds", desc := "(IIIZ)I" } : Jvm.MethodName)) ∈ lw_all := lw_g (lw_at lw_m5 107 rfl) rfl
theorem q1211 : (Jvm.Cond.methodLink "ShutDaysLaw" (130 : Nat) ({ cls := "ShutDays", name := "nextKnock", desc := "(II)I" } : Jvm.MethodName)) ∈ lw_all := lw_g (lw_at lw_m5 114 rfl) rfl
theorem q1218 : (Jvm.Cond.methodLink "ShutDaysLaw" (134 : Nat) ({ cls := "ShutDays", name := "thieves", desc := "(IIZ)I" } : Jvm.MethodName)) ∈ lw_all := lw_g (lw_at lw_m5 121 rfl) rfl
theorem q1234 : (Jvm.Cond.methodLink "ShutDaysLaw" (138 : Nat) ({ cls := "ShutDays", name := "night", desc := "(I)I" } : Jvm.MethodName)) ∈ lw_all := lw_g (lw_at lw_m5 137 rfl) rfl
theorem q1238 : (Jvm.Cond.methodLink "ShutDaysLaw" (142 : Nat) ({ cls := "ShutDays", name := "appointments", desc := "(II)I" } : Jvm.MethodName)) ∈ lw_all := lw_g (lw_at lw_m5 141 rfl) rfl
theorem q1250 : (Jvm.Cond.methodLink "ShutDaysLaw" (146 : Nat) ({ cls := "ShutDays", name := "rounds", desc := "()I" } : Jvm.MethodName)) ∈ lw_all := lw_g (lw_at lw_m5 153 rfl) rfl
theorem q1262 : (Jvm.Cond.methodLink "ShutDaysLaw" (150 : Nat) ({ cls := "ShutDays", name := "weddings", desc := "(I)I" } : Jvm.MethodName)) ∈ lw_all := lw_g (lw_at lw_m5 165 rfl) rfl
theorem q1277 : (Jvm.Cond.methodLink "ShutDaysLaw" (154 : Nat) ({ cls := "ShutDays", name := "twins", desc := "()I" } : Jvm.MethodName)) ∈ lw_all := lw_g (lw_at lw_m5 180 rfl) rfl
theorem q1281 : (Jvm.Cond.methodLink "ShutDaysLaw" (158 : Nat) ({ cls := "ShutDays", name := "gossip", desc := "(II)I" } : Jvm.MethodName)) ∈ lw_all := lw_g (lw_at lw_m5 184 rfl) rfl
theorem q1285 : (Jvm.Cond.methodLink "ShutDaysLaw" (162 : Nat) ({ cls := "ShutDays", name := "knows", desc := "(II)I" } : Jvm.MethodName)) ∈ lw_all := lw_g (lw_at lw_m5 188 rfl) rfl
theorem q1293 : (Jvm.Cond.methodLink "ShutDaysLaw" (166 : Nat) ({ cls := "ShutDays", name := "never", desc := "(I)I" } : Jvm.MethodName)) ∈ lw_all := lw_g (lw_at lw_m5 196 rfl) rfl
theorem q1297 : (Jvm.Cond.methodLink "ShutDaysLaw" (170 : Nat) ({ cls := "ShutDays", name := "richest", desc := "(Z)I" } : Jvm.MethodName)) ∈ lw_all := lw_g (lw_at lw_m5 200 rfl) rfl
theorem q1305 : (Jvm.Cond.methodLink "ShutDaysLaw" (174 : Nat) ({ cls := "ShutDays", name := "whose", desc := "(I)I" } : Jvm.MethodName)) ∈ lw_all := lw_g (lw_at lw_m5 208 rfl) rfl
theorem q1313 : (Jvm.Cond.methodLink "ShutDaysLaw" (178 : Nat) ({ cls := "ShutDays", name := "knocks", desc := "(IZ)I" } : Jvm.MethodName)) ∈ lw_all := lw_g (lw_at lw_m5 216 rfl) rfl
theorem q1321 : (Jvm.Cond.methodLink "ShutDaysLaw" (183 : Nat) ({ cls := "ShutDays", name := "offended", desc := "()I" } : Jvm.MethodName)) ∈ lw_all := lw_g (lw_at lw_m5 224 rfl) rfl
theorem q1325 : (Jvm.Cond.methodLink "ShutDaysLaw" (187 : Nat) ({ cls := "ShutDays", name := "leap", desc := "(II)I" } : Jvm.MethodName)) ∈ lw_all := lw_g (lw_at lw_m5 228 rfl) rfl
theorem q1330 : (Jvm.Cond.methodLink "ShutDaysLaw" (191 : Nat) ({ cls := "ShutDays", name := "image", desc := "()I" } : Jvm.MethodName)) ∈ lw_all := lw_g (lw_at lw_m5 233 rfl) rfl
theorem q1334 : (Jvm.Cond.methodLink "ShutDaysLaw" (195 : Nat) ({ cls := "ShutDays", name := "back", desc := "()I" } : Jvm.MethodName)) ∈ lw_all := lw_g (lw_at lw_m5 237 rfl) rfl
theorem q1338 : (Jvm.Cond.methodLink "ShutDaysLaw" (199 : Nat) ({ cls := "ShutDays", name := "about", desc := "(I)I" } : Jvm.MethodName)) ∈ lw_all := lw_g (lw_at lw_m6 1 rfl) rfl
theorem q1342 : (Jvm.Cond.classLink "ShutDaysLaw" (10 : Nat) "ShutDaysModel") ∈ lw_all := lw_g (lw_at lw_m6 5 rfl) rfl
theorem q1344 : (Jvm.Cond.methodLink "ShutDaysLaw" (12 : Nat) ({ cls := "ShutDaysModel", name := "<init>", desc := "()V" } : Jvm.MethodName)) ∈ lw_all := lw_g (lw_at lw_m6 7 rfl) rfl
theorem q1462 : (Jvm.Cond.methodLink "ShutDaysLaw" (17 : Nat) ({ cls := "ShutDaysModel", name := "house", desc := "(IIIII)I" } : Jvm.MethodName)) ∈ lw_all := lw_g (lw_at lw_m6 125 rfl) rfl
theorem q1481 : (Jvm.Cond.methodLink "ShutDaysLaw" (21 : Nat) ({ cls := "ShutDaysModel", name := "feed", desc := "(IIIII)I" } : Jvm.MethodName)) ∈ lw_all := lw_g (lw_at lw_m6 144 rfl) rfl
theorem q1489 : (Jvm.Cond.methodLink "ShutDaysLaw" (26 : Nat) ({ cls := "ShutDaysModel", name := "end", desc := "(I)I" } : Jvm.MethodName)) ∈ lw_all := lw_g (lw_at lw_m6 152 rfl) rfl
theorem q1493 : (Jvm.Cond.methodLink "ShutDaysLaw" (31 : Nat) ({ cls := "ShutDaysModel", name := "text", desc := "()I" } : Jvm.MethodName)) ∈ lw_all := lw_g (lw_at lw_m6 156 rfl) rfl
theorem q1633 : (Jvm.Cond.methodLink "ShutDaysLaw" (35 : Nat) ({ cls := "ShutDaysModel", name := "fault", desc := "(I)I" } : Jvm.MethodName)) ∈ lw_all := lw_g (lw_at lw_m7 56 rfl) rfl
theorem q1637 : (Jvm.Cond.methodLink "ShutDaysLaw" (40 : Nat) ({ cls := "ShutDaysModel", name := "by", desc := "(I)Z" } : Jvm.MethodName)) ∈ lw_all := lw_g (lw_at lw_m7 60 rfl) rfl
theorem q1641 : (Jvm.Cond.methodLink "ShutDaysLaw" (74 : Nat) ({ cls := "ShutDaysModel", name := "undo", desc := "()I" } : Jvm.MethodName)) ∈ lw_all := lw_g (lw_at lw_m7 64 rfl) rfl
theorem q1645 : (Jvm.Cond.methodLink "ShutDaysLaw" (44 : Nat) ({ cls := "ShutDaysModel", name := "knock", desc := "(I)I" } : Jvm.MethodName)) ∈ lw_all := lw_g (lw_at lw_m7 68 rfl) rfl
theorem q1729 : (Jvm.Cond.methodLink "ShutDaysLaw" (49 : Nat) ({ cls := "ShutDaysModel", name := "marry", desc := "(II)I" } : Jvm.MethodName)) ∈ lw_all := lw_g (lw_at lw_m7 152 rfl) rfl
theorem q1733 : (Jvm.Cond.methodLink "ShutDaysLaw" (53 : Nat) ({ cls := "ShutDaysModel", name := "hat", desc := "(I)I" } : Jvm.MethodName)) ∈ lw_all := lw_g (lw_at lw_m7 156 rfl) rfl
theorem q1752 : (Jvm.Cond.methodLink "ShutDaysLaw" (58 : Nat) ({ cls := "ShutDaysModel", name := "forget", desc := "(II)Z" } : Jvm.MethodName)) ∈ lw_all := lw_g (lw_at lw_m7 175 rfl) rfl
theorem q1764 : (Jvm.Cond.methodLink "ShutDaysLaw" (62 : Nat) ({ cls := "ShutDaysModel", name := "day", desc := "(I)I" } : Jvm.MethodName)) ∈ lw_all := lw_g (lw_at lw_m7 187 rfl) rfl
theorem q1788 : (Jvm.Cond.methodLink "ShutDaysLaw" (66 : Nat) ({ cls := "ShutDaysModel", name := "played", desc := "(I)I" } : Jvm.MethodName)) ∈ lw_all := lw_g (lw_at lw_m7 211 rfl) rfl
theorem q1801 : (Jvm.Cond.methodLink "ShutDaysLaw" (70 : Nat) ({ cls := "ShutDaysModel", name := "years", desc := "(II)I" } : Jvm.MethodName)) ∈ lw_all := lw_g (lw_at lw_m7 224 rfl) rfl
theorem q1809 : (Jvm.Cond.methodLink "ShutDaysLaw" (78 : Nat) ({ cls := "ShutDaysModel", name := "of", desc := "(II)I" } : Jvm.MethodName)) ∈ lw_all := lw_g (lw_at lw_m7 232 rfl) rfl
theorem q1813 : (Jvm.Cond.methodLink "ShutDaysLaw" (82 : Nat) ({ cls := "ShutDaysModel", name := "is", desc := "(I)I" } : Jvm.MethodName)) ∈ lw_all := lw_g (lw_at lw_m7 236 rfl) rfl
theorem q1817 : (Jvm.Cond.methodLink "ShutDaysLaw" (86 : Nat) ({ cls := "ShutDaysModel", name := "book", desc := "(II)I" } : Jvm.MethodName)) ∈ lw_all := lw_g (lw_at lw_m8 0 rfl) rfl
theorem q1825 : (Jvm.Cond.methodLink "ShutDaysLaw" (182 : Nat) ({ cls := "ShutDaysModel", name := "knocks", desc := "(IZ)I" } : Jvm.MethodName)) ∈ lw_all := lw_g (lw_at lw_m8 8 rfl) rfl
theorem q1833 : (Jvm.Cond.methodLink "ShutDaysLaw" (186 : Nat) ({ cls := "ShutDaysModel", name := "offended", desc := "()I" } : Jvm.MethodName)) ∈ lw_all := lw_g (lw_at lw_m8 16 rfl) rfl
theorem q1837 : (Jvm.Cond.methodLink "ShutDaysLaw" (90 : Nat) ({ cls := "ShutDaysModel", name := "foretold", desc := "(II)I" } : Jvm.MethodName)) ∈ lw_all := lw_g (lw_at lw_m8 20 rfl) rfl
theorem q1853 : (Jvm.Cond.methodLink "ShutDaysLaw" (115 : Nat) ({ cls := "ShutDaysModel", name := "poorest", desc := "(I)I" } : Jvm.MethodName)) ∈ lw_all := lw_g (lw_at lw_m8 36 rfl) rfl
theorem q1857 : (Jvm.Cond.methodLink "ShutDaysLaw" (177 : Nat) ({ cls := "ShutDaysModel", name := "whose", desc := "(I)I" } : Jvm.MethodName)) ∈ lw_all := lw_g (lw_at lw_m8 40 rfl) rfl
theorem q1861 : (Jvm.Cond.methodLink "ShutDaysLaw" (94 : Nat) ({ cls := "ShutDaysModel", name := "indoors", desc := "(I)I" } : Jvm.MethodName)) ∈ lw_all := lw_g (lw_at lw_m8 44 rfl) rfl
theorem q1869 : (Jvm.Cond.methodLink "ShutDaysLaw" (99 : Nat) ({ cls := "ShutDaysModel", name := "crowded", desc := "(Z)I" } : Jvm.MethodName)) ∈ lw_all := lw_g (lw_at lw_m8 52 rfl) rfl
theorem q1873 : (Jvm.Cond.methodLink "ShutDaysLaw" (103 : Nat) ({ cls := "ShutDaysModel", name := "feast", desc := "(Z)I" } : Jvm.MethodName)) ∈ lw_all := lw_g (lw_at lw_m8 56 rfl) rfl
theorem q1881 : (Jvm.Cond.methodLink "ShutDaysLaw" (107 : Nat) ({ cls := "ShutDaysModel", name := "alone", desc := "()I" } : Jvm.MethodName)) ∈ lw_all := lw_g (lw_at lw_m8 64 rfl) rfl
theorem q1885 : (Jvm.Cond.methodLink "ShutDaysLaw" (111 : Nat) ({ cls := "ShutDaysModel", name := "nobodys", desc := "()I" } : Jvm.MethodName)) ∈ lw_all := lw_g (lw_at lw_m8 68 rfl) rfl
theorem q1889 : (Jvm.Cond.methodLink "ShutDaysLaw" (120 : Nat) ({ cls := "ShutDaysModel", name := "seen", desc := "(IIZ)I" } : Jvm.MethodName)) ∈ lw_all := lw_g (lw_at lw_m8 72 rfl) rfl
theorem q1893 : (Jvm.Cond.methodLink "ShutDaysLaw" (124 : Nat) ({ cls := "ShutDaysModel", name := "sets", desc := "(IIZ)I" } : Jvm.MethodName)) ∈ lw_all := lw_g (lw_at lw_m8 76 rfl) rfl
theorem q1910 : (Jvm.Cond.methodLink "ShutDaysLaw" (129 : Nat) ({ cls := "ShutDaysModel", name := "odds", desc := "(IIIZ)I" } : Jvm.MethodName)) ∈ lw_all := lw_g (lw_at lw_m8 93 rfl) rfl
theorem q1917 : (Jvm.Cond.methodLink "ShutDaysLaw" (133 : Nat) ({ cls := "ShutDaysModel", name := "nextKnock", desc := "(II)I" } : Jvm.MethodName)) ∈ lw_all := lw_g (lw_at lw_m8 100 rfl) rfl
theorem q1922 : (Jvm.Cond.methodLink "ShutDaysLaw" (137 : Nat) ({ cls := "ShutDaysModel", name := "thieves", desc := "(IIZ)I" } : Jvm.MethodName)) ∈ lw_all := lw_g (lw_at lw_m8 105 rfl) rfl
theorem q1930 : (Jvm.Cond.methodLink "ShutDaysLaw" (141 : Nat) ({ cls := "ShutDaysModel", name := "night", desc := "(I)I" } : Jvm.MethodName)) ∈ lw_all := lw_g (lw_at lw_m8 113 rfl) rfl
theorem q1934 : (Jvm.Cond.methodLink "ShutDaysLaw" (145 : Nat) ({ cls := "ShutDaysModel", name := "appointments", desc := "(II)I" } : Jvm.MethodName)) ∈ lw_all := lw_g (lw_at lw_m8 117 rfl) rfl
theorem q1950 : (Jvm.Cond.methodLink "ShutDaysLaw" (149 : Nat) ({ cls := "ShutDaysModel", name := "rounds", desc := "()I" } : Jvm.MethodName)) ∈ lw_all := lw_g (lw_at lw_m8 133 rfl) rfl
theorem q1958 : (Jvm.Cond.methodLink "ShutDaysLaw" (153 : Nat) ({ cls := "ShutDaysModel", name := "weddings", desc := "(I)I" } : Jvm.MethodName)) ∈ lw_all := lw_g (lw_at lw_m8 141 rfl) rfl
theorem q1978 : (Jvm.Cond.methodLink "ShutDaysLaw" (157 : Nat) ({ cls := "ShutDaysModel", name := "twins", desc := "()I" } : Jvm.MethodName)) ∈ lw_all := lw_g (lw_at lw_m8 161 rfl) rfl
theorem q1982 : (Jvm.Cond.methodLink "ShutDaysLaw" (161 : Nat) ({ cls := "ShutDaysModel", name := "gossip", desc := "(II)I" } : Jvm.MethodName)) ∈ lw_all := lw_g (lw_at lw_m8 165 rfl) rfl
theorem q1986 : (Jvm.Cond.methodLink "ShutDaysLaw" (165 : Nat) ({ cls := "ShutDaysModel", name := "knows", desc := "(II)I" } : Jvm.MethodName)) ∈ lw_all := lw_g (lw_at lw_m8 169 rfl) rfl
theorem q1994 : (Jvm.Cond.methodLink "ShutDaysLaw" (169 : Nat) ({ cls := "ShutDaysModel", name := "never", desc := "(I)I" } : Jvm.MethodName)) ∈ lw_all := lw_g (lw_at lw_m8 177 rfl) rfl
theorem q1998 : (Jvm.Cond.methodLink "ShutDaysLaw" (173 : Nat) ({ cls := "ShutDaysModel", name := "richest", desc := "(Z)I" } : Jvm.MethodName)) ∈ lw_all := lw_g (lw_at lw_m8 181 rfl) rfl
theorem q2006 : (Jvm.Cond.methodLink "ShutDaysLaw" (190 : Nat) ({ cls := "ShutDaysModel", name := "leap", desc := "(II)I" } : Jvm.MethodName)) ∈ lw_all := lw_g (lw_at lw_m8 189 rfl) rfl
theorem q2013 : (Jvm.Cond.methodLink "ShutDaysLaw" (194 : Nat) ({ cls := "ShutDaysModel", name := "image", desc := "()I" } : Jvm.MethodName)) ∈ lw_all := lw_g (lw_at lw_m8 196 rfl) rfl
theorem q2017 : (Jvm.Cond.methodLink "ShutDaysLaw" (198 : Nat) ({ cls := "ShutDaysModel", name := "back", desc := "()I" } : Jvm.MethodName)) ∈ lw_all := lw_g (lw_at lw_m8 200 rfl) rfl
theorem q2021 : (Jvm.Cond.methodLink "ShutDaysLaw" (202 : Nat) ({ cls := "ShutDaysModel", name := "about", desc := "(I)I" } : Jvm.MethodName)) ∈ lw_all := lw_g (lw_at lw_m8 204 rfl) rfl
theorem q994 : (Jvm.Cond.interfaceMethod "ShutDays$Asked" "ShutDays$Asked" "is" "([I)Z") ∈ lw_tbl := lw_at lw_m4 137 rfl
set_option maxRecDepth 100000
theorem q995 : (Jvm.Cond.declares ({ cls := "ShutDays$Asked", name := "is", desc := "([I)Z" } : Jvm.MethodName)) ∈ lw_tbl := lw_at lw_m4 138 rfl
theorem q906 : (Jvm.Cond.interfaceMethod "ShutDays$Sum" "ShutDays$Sum" "of" "([I)J") ∈ lw_tbl := lw_at lw_m4 49 rfl
set_option maxRecDepth 100000
theorem q907 : (Jvm.Cond.declares ({ cls := "ShutDays$Sum", name := "of", desc := "([I)J" } : Jvm.MethodName)) ∈ lw_tbl := lw_at lw_m4 50 rfl
theorem q2053 : (Jvm.Cond.castable "[B" "java/lang/Object") ∈ lw_tbl := lw_at lw_m8 236 rfl
set_option maxRecDepth 100000
theorem q2052 : (Jvm.Cond.castable "[I" "java/lang/Object") ∈ lw_tbl := lw_at lw_m8 235 rfl
set_option maxRecDepth 100000
theorem q2055 : (Jvm.Cond.castable "[J" "java/lang/Object") ∈ lw_tbl := lw_at lw_m8 238 rfl
set_option maxRecDepth 100000
theorem q2051 : (Jvm.Cond.castable "[LShutDays$Text;" "java/lang/Object") ∈ lw_tbl := lw_at lw_m8 234 rfl
set_option maxRecDepth 100000
theorem q2047 : (Jvm.Cond.sameMethod "[Ljava/lang/Object;" "java/lang/Object" "getClass" "()Ljava/lang/Class;") ∈ lw_all := lw_g (lw_at lw_m8 230 rfl) rfl
set_option maxRecDepth 100000
theorem q2048 : (Jvm.Cond.selects "[Ljava/lang/Object;" ({ cls := "java/lang/Object", name := "getClass", desc := "()Ljava/lang/Class;" } : Jvm.MethodName) ({ cls := "java/lang/Object", name := "getClass", desc := "()Ljava/lang/Class;" } : Jvm.MethodName)) ∈ lw_all := lw_g (lw_at lw_m8 231 rfl) rfl
theorem q2054 : (Jvm.Cond.castable "[Ljava/lang/Object;" "java/lang/Object") ∈ lw_tbl := lw_at lw_m8 237 rfl
theorem q2057 : (Jvm.Cond.castable "[Ljava/lang/String;" "java/lang/Object") ∈ lw_tbl := lw_at lw_m9 0 rfl
set_option maxRecDepth 100000
theorem q2056 : (Jvm.Cond.castable "[Z" "java/lang/Object") ∈ lw_tbl := lw_at lw_m8 239 rfl
set_option maxRecDepth 100000
theorem q2050 : (Jvm.Cond.castable "[[I" "java/lang/Object") ∈ lw_tbl := lw_at lw_m8 233 rfl
set_option maxRecDepth 100000
theorem q163 : (Jvm.Cond.initialized "java/lang/Integer$IntegerCache") ∈ lw_all := lw_g (lw_at lw_m1 26 rfl) rfl
set_option maxRecDepth 100000
theorem q631 : (Jvm.Cond.laysStatic "java/lang/Integer$IntegerCache" "high" "I") ∈ lw_tbl := lw_at lw_m3 14 rfl
theorem q633 : (Jvm.Cond.laysStatic "java/lang/Integer$IntegerCache" "cache" "[Ljava/lang/Integer;") ∈ lw_tbl := lw_at lw_m3 16 rfl
theorem q140 : (Jvm.Cond.initialized "java/lang/System") ∈ lw_all := lw_g (lw_at lw_m1 3 rfl) rfl
set_option maxRecDepth 100000
theorem q224 : (Jvm.Cond.static ({ cls := "java/lang/System", name := "arraycopy", desc := "(Ljava/lang/Object;ILjava/lang/Object;II)V" } : Jvm.MethodName)) ∈ lw_all := lw_g (lw_at lw_m1 87 rfl) rfl
theorem q225 : (Jvm.Cond.native ({ cls := "java/lang/System", name := "arraycopy", desc := "(Ljava/lang/Object;ILjava/lang/Object;II)V" } : Jvm.MethodName)) ∈ lw_all := lw_g (lw_at lw_m1 88 rfl) rfl
theorem q187 : (Jvm.Cond.arrayOver (Jvm.ClassFile.FieldType.array Jvm.ClassFile.FieldType.int)) ∈ lw_tbl := lw_at lw_m1 50 rfl
set_option maxRecDepth 100000
theorem q189 : (Jvm.Cond.arrayOver (Jvm.ClassFile.FieldType.object "ShutDays$Text")) ∈ lw_tbl := lw_at lw_m1 52 rfl
theorem q215 : (Jvm.Cond.arrayClass Jvm.ClassFile.FieldType.int) ∈ lw_all := lw_g (lw_at lw_m1 78 rfl) rfl
theorem q266 : (Jvm.Cond.arrayClass Jvm.ClassFile.FieldType.byte) ∈ lw_all := lw_g (lw_at lw_m1 129 rfl) rfl
theorem q702 : (Jvm.Cond.arrayOver (Jvm.ClassFile.FieldType.object "java/lang/Object")) ∈ lw_tbl := lw_at lw_m3 85 rfl
theorem q1460 : (Jvm.Cond.arrayClass Jvm.ClassFile.FieldType.long) ∈ lw_all := lw_g (lw_at lw_m6 123 rfl) rfl
theorem q1461 : (Jvm.Cond.arrayClass Jvm.ClassFile.FieldType.boolean) ∈ lw_all := lw_g (lw_at lw_m6 124 rfl) rfl
theorem q2082 : (Jvm.Cond.arrayOver (Jvm.ClassFile.FieldType.object "java/lang/String")) ∈ lw_tbl := lw_at lw_m9 25 rfl
