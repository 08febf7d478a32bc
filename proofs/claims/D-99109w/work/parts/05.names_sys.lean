/-! ShutDays -/
set_option maxRecDepth 100000
def RX0 : String := "ShutDays"
def TX0 : u_T := fun k => match k with
  | 0 => ("ShutDays", "now", "LShutDays$State;", true)
  | 1 => ("ShutDays", "image", "LShutDays$State;", true)
  | 2 => ("ShutDays", "tape", "[B", true)
  | 3 => ("ShutDays", "taped", "I", false)
  | 4 => ("ShutDays", "fault", "I", false)
  | 5 => ("ShutDays", "faultAt", "I", false)
  | 6 => ("ShutDays", "names", "[I", true)
  | 7 => ("ShutDays", "tried", "[I", true)
  | 8 => ("ShutDays", "visited", "[I", true)
  | 9 => ("ShutDays", "beside", "[I", true)
  | 10 => ("ShutDays", "bestBeside", "[I", true)
  | _ => ("ShutDays", "most", "I", false)
def tyX0 : Nat → FieldType := fun k => match k with
  | 0 => .object "ShutDays$State"
  | 1 => .object "ShutDays$State"
  | 2 => .array .byte
  | 3 => .int
  | 4 => .int
  | 5 => .int
  | 6 => .array .int
  | 7 => .array .int
  | 8 => .array .int
  | 9 => .array .int
  | 10 => .array .int
  | _ => .int
abbrev wsX00 : List Cond := u_ws RX0 TX0 12
theorem nmX0 : ∀ a, a < 12 → ∀ b, b < 12 → a ≠ b → (TX0 a).2.1 ≠ (TX0 b).2.1 := by decide +kernel
theorem tyX0_ok : ∀ k, k < 12 → parseFieldDescriptor (TX0 k).2.2.1 = some (tyX0 k) := by decide +kernel
abbrev cX0_init : ByteArray := prog_1_method_4_code
def yX0_init : MethodName := ⟨RX0, "<init>", "()V"⟩
def dkwX0_init_4 : List UInt8 := [182, 0, 55, 177]
abbrev dktX0_init_4 : List UInt8 := dkwX0_init_4 ++ []
def dkwX0_init_3 : List UInt8 := [42, 16, 7, 188, 10, 181, 0, 49, 42, 16, 7, 188, 10, 181, 0, 52, 42, 180, 0, 25, 42, 180, 0, 21]
abbrev dktX0_init_3 : List UInt8 := dkwX0_init_3 ++ dktX0_init_4
def dkwX0_init_2 : List UInt8 := [16, 8, 188, 10, 181, 0, 39, 42, 17, 0, 145, 188, 10, 181, 0, 43, 42, 16, 7, 188, 10, 181, 0, 46]
abbrev dktX0_init_2 : List UInt8 := dkwX0_init_2 ++ dktX0_init_3
def dkwX0_init_1 : List UInt8 := [181, 0, 25, 42, 17, 1, 44, 188, 8, 181, 0, 28, 42, 2, 181, 0, 32, 42, 2, 181, 0, 36, 42]
abbrev dktX0_init_1 : List UInt8 := dkwX0_init_1 ++ dktX0_init_2
def dkwX0_init_0 : List UInt8 := [42, 183, 0, 12, 42, 187, 0, 18, 89, 183, 0, 20, 181, 0, 21, 42, 187, 0, 18, 89, 183, 0, 20]
abbrev dktX0_init_0 : List UInt8 := dkwX0_init_0 ++ dktX0_init_1
theorem dksX0_init_0 : cX0_init.data.toList.drop 0 = dktX0_init_0 := by decide +kernel
theorem dksX0_init_1 : cX0_init.data.toList.drop 23 = dktX0_init_1 := dk_seg dksX0_init_0 23 rfl rfl
theorem dksX0_init_2 : cX0_init.data.toList.drop 46 = dktX0_init_2 := dk_seg dksX0_init_1 23 rfl rfl
theorem dksX0_init_3 : cX0_init.data.toList.drop 70 = dktX0_init_3 := dk_seg dksX0_init_2 24 rfl rfl
theorem dksX0_init_4 : cX0_init.data.toList.drop 94 = dktX0_init_4 := dk_seg dksX0_init_3 24 rfl rfl
theorem dX0_init_0 : decode cX0_init 0 = .ok (.aload_n 0, 1) := dk_42 (dk_at dksX0_init_0 0 rfl rfl)
theorem dX0_init_1 : decode cX0_init 1 = .ok (.invokespecial 12, 3) := dk_183 0 12 (dk_at dksX0_init_0 1 rfl rfl)
theorem dX0_init_4 : decode cX0_init 4 = .ok (.aload_n 0, 1) := dk_42 (dk_at dksX0_init_0 4 rfl rfl)
theorem dX0_init_5 : decode cX0_init 5 = .ok (.new 18, 3) := dk_187 0 18 (dk_at dksX0_init_0 5 rfl rfl)
theorem dX0_init_8 : decode cX0_init 8 = .ok (.dup, 1) := dk_89 (dk_at dksX0_init_0 8 rfl rfl)
theorem dX0_init_9 : decode cX0_init 9 = .ok (.invokespecial 20, 3) := dk_183 0 20 (dk_at dksX0_init_0 9 rfl rfl)
theorem dX0_init_12 : decode cX0_init 12 = .ok (.putfield 21, 3) := dk_181 0 21 (dk_at dksX0_init_0 12 rfl rfl)
theorem dX0_init_15 : decode cX0_init 15 = .ok (.aload_n 0, 1) := dk_42 (dk_at dksX0_init_0 15 rfl rfl)
theorem dX0_init_16 : decode cX0_init 16 = .ok (.new 18, 3) := dk_187 0 18 (dk_at dksX0_init_0 16 rfl rfl)
theorem dX0_init_19 : decode cX0_init 19 = .ok (.dup, 1) := dk_89 (dk_at dksX0_init_0 19 rfl rfl)
theorem dX0_init_20 : decode cX0_init 20 = .ok (.invokespecial 20, 3) := dk_183 0 20 (dk_at dksX0_init_0 20 rfl rfl)
theorem dX0_init_23 : decode cX0_init 23 = .ok (.putfield 25, 3) := dk_181 0 25 (dk_at dksX0_init_1 0 rfl rfl)
theorem dX0_init_26 : decode cX0_init 26 = .ok (.aload_n 0, 1) := dk_42 (dk_at dksX0_init_1 3 rfl rfl)
theorem dX0_init_27 : decode cX0_init 27 = .ok (.sipush 300, 3) := dk_17 1 44 (dk_at dksX0_init_1 4 rfl rfl)
theorem dX0_init_30 : decode cX0_init 30 = .ok (.newarray .byte, 2) := dk_188_8 (dk_at dksX0_init_1 7 rfl rfl)
theorem dX0_init_32 : decode cX0_init 32 = .ok (.putfield 28, 3) := dk_181 0 28 (dk_at dksX0_init_1 9 rfl rfl)
theorem dX0_init_35 : decode cX0_init 35 = .ok (.aload_n 0, 1) := dk_42 (dk_at dksX0_init_1 12 rfl rfl)
theorem dX0_init_36 : decode cX0_init 36 = .ok (.iconst (-1), 1) := dk_2 (dk_at dksX0_init_1 13 rfl rfl)
theorem dX0_init_37 : decode cX0_init 37 = .ok (.putfield 32, 3) := dk_181 0 32 (dk_at dksX0_init_1 14 rfl rfl)
theorem dX0_init_40 : decode cX0_init 40 = .ok (.aload_n 0, 1) := dk_42 (dk_at dksX0_init_1 17 rfl rfl)
theorem dX0_init_41 : decode cX0_init 41 = .ok (.iconst (-1), 1) := dk_2 (dk_at dksX0_init_1 18 rfl rfl)
theorem dX0_init_42 : decode cX0_init 42 = .ok (.putfield 36, 3) := dk_181 0 36 (dk_at dksX0_init_1 19 rfl rfl)
theorem dX0_init_45 : decode cX0_init 45 = .ok (.aload_n 0, 1) := dk_42 (dk_at dksX0_init_1 22 rfl rfl)
theorem dX0_init_46 : decode cX0_init 46 = .ok (.bipush 8, 2) := dk_16 8 (dk_at dksX0_init_2 0 rfl rfl)
theorem dX0_init_48 : decode cX0_init 48 = .ok (.newarray .int, 2) := dk_188_10 (dk_at dksX0_init_2 2 rfl rfl)
theorem dX0_init_50 : decode cX0_init 50 = .ok (.putfield 39, 3) := dk_181 0 39 (dk_at dksX0_init_2 4 rfl rfl)
theorem dX0_init_53 : decode cX0_init 53 = .ok (.aload_n 0, 1) := dk_42 (dk_at dksX0_init_2 7 rfl rfl)
theorem dX0_init_54 : decode cX0_init 54 = .ok (.sipush 145, 3) := dk_17 0 145 (dk_at dksX0_init_2 8 rfl rfl)
theorem dX0_init_57 : decode cX0_init 57 = .ok (.newarray .int, 2) := dk_188_10 (dk_at dksX0_init_2 11 rfl rfl)
theorem dX0_init_59 : decode cX0_init 59 = .ok (.putfield 43, 3) := dk_181 0 43 (dk_at dksX0_init_2 13 rfl rfl)
theorem dX0_init_62 : decode cX0_init 62 = .ok (.aload_n 0, 1) := dk_42 (dk_at dksX0_init_2 16 rfl rfl)
theorem dX0_init_63 : decode cX0_init 63 = .ok (.bipush 7, 2) := dk_16 7 (dk_at dksX0_init_2 17 rfl rfl)
theorem dX0_init_65 : decode cX0_init 65 = .ok (.newarray .int, 2) := dk_188_10 (dk_at dksX0_init_2 19 rfl rfl)
theorem dX0_init_67 : decode cX0_init 67 = .ok (.putfield 46, 3) := dk_181 0 46 (dk_at dksX0_init_2 21 rfl rfl)
theorem dX0_init_70 : decode cX0_init 70 = .ok (.aload_n 0, 1) := dk_42 (dk_at dksX0_init_3 0 rfl rfl)
theorem dX0_init_71 : decode cX0_init 71 = .ok (.bipush 7, 2) := dk_16 7 (dk_at dksX0_init_3 1 rfl rfl)
theorem dX0_init_73 : decode cX0_init 73 = .ok (.newarray .int, 2) := dk_188_10 (dk_at dksX0_init_3 3 rfl rfl)
theorem dX0_init_75 : decode cX0_init 75 = .ok (.putfield 49, 3) := dk_181 0 49 (dk_at dksX0_init_3 5 rfl rfl)
theorem dX0_init_78 : decode cX0_init 78 = .ok (.aload_n 0, 1) := dk_42 (dk_at dksX0_init_3 8 rfl rfl)
theorem dX0_init_79 : decode cX0_init 79 = .ok (.bipush 7, 2) := dk_16 7 (dk_at dksX0_init_3 9 rfl rfl)
theorem dX0_init_81 : decode cX0_init 81 = .ok (.newarray .int, 2) := dk_188_10 (dk_at dksX0_init_3 11 rfl rfl)
theorem dX0_init_83 : decode cX0_init 83 = .ok (.putfield 52, 3) := dk_181 0 52 (dk_at dksX0_init_3 13 rfl rfl)
theorem dX0_init_86 : decode cX0_init 86 = .ok (.aload_n 0, 1) := dk_42 (dk_at dksX0_init_3 16 rfl rfl)
theorem dX0_init_87 : decode cX0_init 87 = .ok (.getfield 25, 3) := dk_180 0 25 (dk_at dksX0_init_3 17 rfl rfl)
theorem dX0_init_90 : decode cX0_init 90 = .ok (.aload_n 0, 1) := dk_42 (dk_at dksX0_init_3 20 rfl rfl)
theorem dX0_init_91 : decode cX0_init 91 = .ok (.getfield 21, 3) := dk_180 0 21 (dk_at dksX0_init_3 21 rfl rfl)
theorem dX0_init_94 : decode cX0_init 94 = .ok (.invokevirtual 55, 3) := dk_182 0 55 (dk_at dksX0_init_4 0 rfl rfl)
theorem dX0_init_97 : decode cX0_init 97 = .ok (.return_, 1) := dk_177 (dk_at dksX0_init_4 3 rfl rfl)
abbrev cX0_house : ByteArray := prog_1_method_11_code
def yX0_house : MethodName := ⟨RX0, "house", "(IIIII)I"⟩
def dkwX0_house_7 : List UInt8 := [21, 5, 182, 0, 85, 21, 6, 172]
abbrev dktX0_house_7 : List UInt8 := dkwX0_house_7 ++ []
def dkwX0_house_6 : List UInt8 := [42, 180, 0, 21, 16, 10, 21, 6, 96, 21, 4, 182, 0, 85, 42, 180, 0, 21, 16, 17, 21, 6, 96]
abbrev dktX0_house_6 : List UInt8 := dkwX0_house_6 ++ dktX0_house_7
def dkwX0_house_5 : List UInt8 := [180, 0, 21, 6, 21, 6, 96, 27, 184, 0, 81, 28, 184, 0, 81, 128, 29, 184, 0, 81, 128, 182, 0, 85]
abbrev dktX0_house_5 : List UInt8 := dkwX0_house_5 ++ dktX0_house_6
def dkwX0_house_4 : List UInt8 := [184, 0, 81, 126, 153, 0, 5, 2, 172, 42, 180, 0, 21, 180, 0, 59, 3, 92, 46, 4, 96, 79, 42]
abbrev dktX0_house_4 : List UInt8 := dkwX0_house_4 ++ dktX0_house_5
def dkwX0_house_3 : List UInt8 := [2, 172, 27, 184, 0, 81, 28, 184, 0, 81, 126, 154, 0, 20, 27, 184, 0, 81, 28, 184, 0, 81, 128, 29]
abbrev dktX0_house_3 : List UInt8 := dkwX0_house_3 ++ dktX0_house_4
def dkwX0_house_2 : List UInt8 := [184, 0, 62, 153, 0, 21, 21, 5, 3, 16, 99, 184, 0, 62, 153, 0, 10, 21, 6, 16, 7, 160, 0, 5]
abbrev dktX0_house_2 : List UInt8 := dkwX0_house_2 ++ dktX0_house_3
def dkwX0_house_1 : List UInt8 := [16, 19, 184, 0, 62, 153, 0, 43, 29, 2, 16, 19, 184, 0, 62, 153, 0, 33, 21, 4, 3, 17, 39, 15]
abbrev dktX0_house_1 : List UInt8 := dkwX0_house_1 ++ dktX0_house_2
def dkwX0_house_0 : List UInt8 := [42, 180, 0, 21, 180, 0, 59, 3, 46, 54, 6, 27, 2, 16, 19, 184, 0, 62, 153, 0, 53, 28, 2]
abbrev dktX0_house_0 : List UInt8 := dkwX0_house_0 ++ dktX0_house_1
theorem dksX0_house_0 : cX0_house.data.toList.drop 0 = dktX0_house_0 := by decide +kernel
theorem dksX0_house_1 : cX0_house.data.toList.drop 23 = dktX0_house_1 := dk_seg dksX0_house_0 23 rfl rfl
theorem dksX0_house_2 : cX0_house.data.toList.drop 47 = dktX0_house_2 := dk_seg dksX0_house_1 24 rfl rfl
theorem dksX0_house_3 : cX0_house.data.toList.drop 71 = dktX0_house_3 := dk_seg dksX0_house_2 24 rfl rfl
theorem dksX0_house_4 : cX0_house.data.toList.drop 95 = dktX0_house_4 := dk_seg dksX0_house_3 24 rfl rfl
theorem dksX0_house_5 : cX0_house.data.toList.drop 118 = dktX0_house_5 := dk_seg dksX0_house_4 23 rfl rfl
theorem dksX0_house_6 : cX0_house.data.toList.drop 142 = dktX0_house_6 := dk_seg dksX0_house_5 24 rfl rfl
theorem dksX0_house_7 : cX0_house.data.toList.drop 165 = dktX0_house_7 := dk_seg dksX0_house_6 23 rfl rfl
theorem dX0_house_0 : decode cX0_house 0 = .ok (.aload_n 0, 1) := dk_42 (dk_at dksX0_house_0 0 rfl rfl)
theorem dX0_house_1 : decode cX0_house 1 = .ok (.getfield 21, 3) := dk_180 0 21 (dk_at dksX0_house_0 1 rfl rfl)
theorem dX0_house_4 : decode cX0_house 4 = .ok (.getfield 59, 3) := dk_180 0 59 (dk_at dksX0_house_0 4 rfl rfl)
theorem dX0_house_7 : decode cX0_house 7 = .ok (.iconst 0, 1) := dk_3 (dk_at dksX0_house_0 7 rfl rfl)
theorem dX0_house_8 : decode cX0_house 8 = .ok (.iaload, 1) := dk_46 (dk_at dksX0_house_0 8 rfl rfl)
theorem dX0_house_9 : decode cX0_house 9 = .ok (.istore 6, 2) := dk_54 6 (dk_at dksX0_house_0 9 rfl rfl)
theorem dX0_house_11 : decode cX0_house 11 = .ok (.iload_n 1, 1) := dk_27 (dk_at dksX0_house_0 11 rfl rfl)
theorem dX0_house_12 : decode cX0_house 12 = .ok (.iconst (-1), 1) := dk_2 (dk_at dksX0_house_0 12 rfl rfl)
theorem dX0_house_13 : decode cX0_house 13 = .ok (.bipush 19, 2) := dk_16 19 (dk_at dksX0_house_0 13 rfl rfl)
theorem dX0_house_15 : decode cX0_house 15 = .ok (.invokestatic 62, 3) := dk_184 0 62 (dk_at dksX0_house_0 15 rfl rfl)
theorem dX0_house_18 : decode cX0_house 18 = .ok (.ifCond .eq 53, 3) := dk_153 0 53 (dk_at dksX0_house_0 18 rfl rfl)
theorem dX0_house_21 : decode cX0_house 21 = .ok (.iload_n 2, 1) := dk_28 (dk_at dksX0_house_0 21 rfl rfl)
theorem dX0_house_22 : decode cX0_house 22 = .ok (.iconst (-1), 1) := dk_2 (dk_at dksX0_house_0 22 rfl rfl)
theorem dX0_house_23 : decode cX0_house 23 = .ok (.bipush 19, 2) := dk_16 19 (dk_at dksX0_house_1 0 rfl rfl)
theorem dX0_house_25 : decode cX0_house 25 = .ok (.invokestatic 62, 3) := dk_184 0 62 (dk_at dksX0_house_1 2 rfl rfl)
theorem dX0_house_28 : decode cX0_house 28 = .ok (.ifCond .eq 43, 3) := dk_153 0 43 (dk_at dksX0_house_1 5 rfl rfl)
theorem dX0_house_31 : decode cX0_house 31 = .ok (.iload_n 3, 1) := dk_29 (dk_at dksX0_house_1 8 rfl rfl)
theorem dX0_house_32 : decode cX0_house 32 = .ok (.iconst (-1), 1) := dk_2 (dk_at dksX0_house_1 9 rfl rfl)
theorem dX0_house_33 : decode cX0_house 33 = .ok (.bipush 19, 2) := dk_16 19 (dk_at dksX0_house_1 10 rfl rfl)
theorem dX0_house_35 : decode cX0_house 35 = .ok (.invokestatic 62, 3) := dk_184 0 62 (dk_at dksX0_house_1 12 rfl rfl)
theorem dX0_house_38 : decode cX0_house 38 = .ok (.ifCond .eq 33, 3) := dk_153 0 33 (dk_at dksX0_house_1 15 rfl rfl)
theorem dX0_house_41 : decode cX0_house 41 = .ok (.iload 4, 2) := dk_21 4 (dk_at dksX0_house_1 18 rfl rfl)
theorem dX0_house_43 : decode cX0_house 43 = .ok (.iconst 0, 1) := dk_3 (dk_at dksX0_house_1 20 rfl rfl)
theorem dX0_house_44 : decode cX0_house 44 = .ok (.sipush 9999, 3) := dk_17 39 15 (dk_at dksX0_house_1 21 rfl rfl)
theorem dX0_house_47 : decode cX0_house 47 = .ok (.invokestatic 62, 3) := dk_184 0 62 (dk_at dksX0_house_2 0 rfl rfl)
theorem dX0_house_50 : decode cX0_house 50 = .ok (.ifCond .eq 21, 3) := dk_153 0 21 (dk_at dksX0_house_2 3 rfl rfl)
theorem dX0_house_53 : decode cX0_house 53 = .ok (.iload 5, 2) := dk_21 5 (dk_at dksX0_house_2 6 rfl rfl)
theorem dX0_house_55 : decode cX0_house 55 = .ok (.iconst 0, 1) := dk_3 (dk_at dksX0_house_2 8 rfl rfl)
theorem dX0_house_56 : decode cX0_house 56 = .ok (.bipush 99, 2) := dk_16 99 (dk_at dksX0_house_2 9 rfl rfl)
theorem dX0_house_58 : decode cX0_house 58 = .ok (.invokestatic 62, 3) := dk_184 0 62 (dk_at dksX0_house_2 11 rfl rfl)
theorem dX0_house_61 : decode cX0_house 61 = .ok (.ifCond .eq 10, 3) := dk_153 0 10 (dk_at dksX0_house_2 14 rfl rfl)
theorem dX0_house_64 : decode cX0_house 64 = .ok (.iload 6, 2) := dk_21 6 (dk_at dksX0_house_2 17 rfl rfl)
theorem dX0_house_66 : decode cX0_house 66 = .ok (.bipush 7, 2) := dk_16 7 (dk_at dksX0_house_2 19 rfl rfl)
theorem dX0_house_68 : decode cX0_house 68 = .ok (.if_icmp .ne 5, 3) := dk_160 0 5 (dk_at dksX0_house_2 21 rfl rfl)
theorem dX0_house_71 : decode cX0_house 71 = .ok (.iconst (-1), 1) := dk_2 (dk_at dksX0_house_3 0 rfl rfl)
theorem dX0_house_72 : decode cX0_house 72 = .ok (.ireturn, 1) := dk_172 (dk_at dksX0_house_3 1 rfl rfl)
theorem dX0_house_73 : decode cX0_house 73 = .ok (.iload_n 1, 1) := dk_27 (dk_at dksX0_house_3 2 rfl rfl)
theorem dX0_house_74 : decode cX0_house 74 = .ok (.invokestatic 81, 3) := dk_184 0 81 (dk_at dksX0_house_3 3 rfl rfl)
theorem dX0_house_77 : decode cX0_house 77 = .ok (.iload_n 2, 1) := dk_28 (dk_at dksX0_house_3 6 rfl rfl)
theorem dX0_house_78 : decode cX0_house 78 = .ok (.invokestatic 81, 3) := dk_184 0 81 (dk_at dksX0_house_3 7 rfl rfl)
theorem dX0_house_81 : decode cX0_house 81 = .ok (.iand, 1) := dk_126 (dk_at dksX0_house_3 10 rfl rfl)
theorem dX0_house_82 : decode cX0_house 82 = .ok (.ifCond .ne 20, 3) := dk_154 0 20 (dk_at dksX0_house_3 11 rfl rfl)
theorem dX0_house_85 : decode cX0_house 85 = .ok (.iload_n 1, 1) := dk_27 (dk_at dksX0_house_3 14 rfl rfl)
theorem dX0_house_86 : decode cX0_house 86 = .ok (.invokestatic 81, 3) := dk_184 0 81 (dk_at dksX0_house_3 15 rfl rfl)
theorem dX0_house_89 : decode cX0_house 89 = .ok (.iload_n 2, 1) := dk_28 (dk_at dksX0_house_3 18 rfl rfl)
theorem dX0_house_90 : decode cX0_house 90 = .ok (.invokestatic 81, 3) := dk_184 0 81 (dk_at dksX0_house_3 19 rfl rfl)
theorem dX0_house_93 : decode cX0_house 93 = .ok (.ior, 1) := dk_128 (dk_at dksX0_house_3 22 rfl rfl)
theorem dX0_house_94 : decode cX0_house 94 = .ok (.iload_n 3, 1) := dk_29 (dk_at dksX0_house_3 23 rfl rfl)
theorem dX0_house_95 : decode cX0_house 95 = .ok (.invokestatic 81, 3) := dk_184 0 81 (dk_at dksX0_house_4 0 rfl rfl)
theorem dX0_house_98 : decode cX0_house 98 = .ok (.iand, 1) := dk_126 (dk_at dksX0_house_4 3 rfl rfl)
theorem dX0_house_99 : decode cX0_house 99 = .ok (.ifCond .eq 5, 3) := dk_153 0 5 (dk_at dksX0_house_4 4 rfl rfl)
theorem dX0_house_102 : decode cX0_house 102 = .ok (.iconst (-1), 1) := dk_2 (dk_at dksX0_house_4 7 rfl rfl)
theorem dX0_house_103 : decode cX0_house 103 = .ok (.ireturn, 1) := dk_172 (dk_at dksX0_house_4 8 rfl rfl)
theorem dX0_house_104 : decode cX0_house 104 = .ok (.aload_n 0, 1) := dk_42 (dk_at dksX0_house_4 9 rfl rfl)
theorem dX0_house_105 : decode cX0_house 105 = .ok (.getfield 21, 3) := dk_180 0 21 (dk_at dksX0_house_4 10 rfl rfl)
theorem dX0_house_108 : decode cX0_house 108 = .ok (.getfield 59, 3) := dk_180 0 59 (dk_at dksX0_house_4 13 rfl rfl)
theorem dX0_house_111 : decode cX0_house 111 = .ok (.iconst 0, 1) := dk_3 (dk_at dksX0_house_4 16 rfl rfl)
theorem dX0_house_112 : decode cX0_house 112 = .ok (.dup2, 1) := dk_92 (dk_at dksX0_house_4 17 rfl rfl)
theorem dX0_house_113 : decode cX0_house 113 = .ok (.iaload, 1) := dk_46 (dk_at dksX0_house_4 18 rfl rfl)
theorem dX0_house_114 : decode cX0_house 114 = .ok (.iconst 1, 1) := dk_4 (dk_at dksX0_house_4 19 rfl rfl)
theorem dX0_house_115 : decode cX0_house 115 = .ok (.iadd, 1) := dk_96 (dk_at dksX0_house_4 20 rfl rfl)
theorem dX0_house_116 : decode cX0_house 116 = .ok (.iastore, 1) := dk_79 (dk_at dksX0_house_4 21 rfl rfl)
theorem dX0_house_117 : decode cX0_house 117 = .ok (.aload_n 0, 1) := dk_42 (dk_at dksX0_house_4 22 rfl rfl)
theorem dX0_house_118 : decode cX0_house 118 = .ok (.getfield 21, 3) := dk_180 0 21 (dk_at dksX0_house_5 0 rfl rfl)
theorem dX0_house_121 : decode cX0_house 121 = .ok (.iconst 3, 1) := dk_6 (dk_at dksX0_house_5 3 rfl rfl)
theorem dX0_house_122 : decode cX0_house 122 = .ok (.iload 6, 2) := dk_21 6 (dk_at dksX0_house_5 4 rfl rfl)
theorem dX0_house_124 : decode cX0_house 124 = .ok (.iadd, 1) := dk_96 (dk_at dksX0_house_5 6 rfl rfl)
theorem dX0_house_125 : decode cX0_house 125 = .ok (.iload_n 1, 1) := dk_27 (dk_at dksX0_house_5 7 rfl rfl)
theorem dX0_house_126 : decode cX0_house 126 = .ok (.invokestatic 81, 3) := dk_184 0 81 (dk_at dksX0_house_5 8 rfl rfl)
theorem dX0_house_129 : decode cX0_house 129 = .ok (.iload_n 2, 1) := dk_28 (dk_at dksX0_house_5 11 rfl rfl)
theorem dX0_house_130 : decode cX0_house 130 = .ok (.invokestatic 81, 3) := dk_184 0 81 (dk_at dksX0_house_5 12 rfl rfl)
theorem dX0_house_133 : decode cX0_house 133 = .ok (.ior, 1) := dk_128 (dk_at dksX0_house_5 15 rfl rfl)
theorem dX0_house_134 : decode cX0_house 134 = .ok (.iload_n 3, 1) := dk_29 (dk_at dksX0_house_5 16 rfl rfl)
theorem dX0_house_135 : decode cX0_house 135 = .ok (.invokestatic 81, 3) := dk_184 0 81 (dk_at dksX0_house_5 17 rfl rfl)
theorem dX0_house_138 : decode cX0_house 138 = .ok (.ior, 1) := dk_128 (dk_at dksX0_house_5 20 rfl rfl)
theorem dX0_house_139 : decode cX0_house 139 = .ok (.invokevirtual 85, 3) := dk_182 0 85 (dk_at dksX0_house_5 21 rfl rfl)
theorem dX0_house_142 : decode cX0_house 142 = .ok (.aload_n 0, 1) := dk_42 (dk_at dksX0_house_6 0 rfl rfl)
theorem dX0_house_143 : decode cX0_house 143 = .ok (.getfield 21, 3) := dk_180 0 21 (dk_at dksX0_house_6 1 rfl rfl)
theorem dX0_house_146 : decode cX0_house 146 = .ok (.bipush 10, 2) := dk_16 10 (dk_at dksX0_house_6 4 rfl rfl)
theorem dX0_house_148 : decode cX0_house 148 = .ok (.iload 6, 2) := dk_21 6 (dk_at dksX0_house_6 6 rfl rfl)
theorem dX0_house_150 : decode cX0_house 150 = .ok (.iadd, 1) := dk_96 (dk_at dksX0_house_6 8 rfl rfl)
theorem dX0_house_151 : decode cX0_house 151 = .ok (.iload 4, 2) := dk_21 4 (dk_at dksX0_house_6 9 rfl rfl)
theorem dX0_house_153 : decode cX0_house 153 = .ok (.invokevirtual 85, 3) := dk_182 0 85 (dk_at dksX0_house_6 11 rfl rfl)
theorem dX0_house_156 : decode cX0_house 156 = .ok (.aload_n 0, 1) := dk_42 (dk_at dksX0_house_6 14 rfl rfl)
theorem dX0_house_157 : decode cX0_house 157 = .ok (.getfield 21, 3) := dk_180 0 21 (dk_at dksX0_house_6 15 rfl rfl)
theorem dX0_house_160 : decode cX0_house 160 = .ok (.bipush 17, 2) := dk_16 17 (dk_at dksX0_house_6 18 rfl rfl)
theorem dX0_house_162 : decode cX0_house 162 = .ok (.iload 6, 2) := dk_21 6 (dk_at dksX0_house_6 20 rfl rfl)
theorem dX0_house_164 : decode cX0_house 164 = .ok (.iadd, 1) := dk_96 (dk_at dksX0_house_6 22 rfl rfl)
theorem dX0_house_165 : decode cX0_house 165 = .ok (.iload 5, 2) := dk_21 5 (dk_at dksX0_house_7 0 rfl rfl)
theorem dX0_house_167 : decode cX0_house 167 = .ok (.invokevirtual 85, 3) := dk_182 0 85 (dk_at dksX0_house_7 2 rfl rfl)
theorem dX0_house_170 : decode cX0_house 170 = .ok (.iload 6, 2) := dk_21 6 (dk_at dksX0_house_7 5 rfl rfl)
theorem dX0_house_172 : decode cX0_house 172 = .ok (.ireturn, 1) := dk_172 (dk_at dksX0_house_7 7 rfl rfl)
abbrev cX0_in : ByteArray := prog_1_method_1_code
def yX0_in : MethodName := ⟨RX0, "in", "(III)Z"⟩
def dkwX0_in_0 : List UInt8 := [26, 27, 161, 0, 12, 26, 28, 163, 0, 7, 4, 167, 0, 4, 3, 172]
abbrev dktX0_in_0 : List UInt8 := dkwX0_in_0 ++ []
theorem dksX0_in_0 : cX0_in.data.toList.drop 0 = dktX0_in_0 := by decide +kernel
theorem dX0_in_0 : decode cX0_in 0 = .ok (.iload_n 0, 1) := dk_26 (dk_at dksX0_in_0 0 rfl rfl)
theorem dX0_in_1 : decode cX0_in 1 = .ok (.iload_n 1, 1) := dk_27 (dk_at dksX0_in_0 1 rfl rfl)
theorem dX0_in_2 : decode cX0_in 2 = .ok (.if_icmp .lt 12, 3) := dk_161 0 12 (dk_at dksX0_in_0 2 rfl rfl)
theorem dX0_in_5 : decode cX0_in 5 = .ok (.iload_n 0, 1) := dk_26 (dk_at dksX0_in_0 5 rfl rfl)
theorem dX0_in_6 : decode cX0_in 6 = .ok (.iload_n 2, 1) := dk_28 (dk_at dksX0_in_0 6 rfl rfl)
theorem dX0_in_7 : decode cX0_in 7 = .ok (.if_icmp .gt 7, 3) := dk_163 0 7 (dk_at dksX0_in_0 7 rfl rfl)
theorem dX0_in_10 : decode cX0_in 10 = .ok (.iconst 1, 1) := dk_4 (dk_at dksX0_in_0 10 rfl rfl)
theorem dX0_in_11 : decode cX0_in 11 = .ok (.goto 4, 3) := dk_167 0 4 (dk_at dksX0_in_0 11 rfl rfl)
theorem dX0_in_14 : decode cX0_in 14 = .ok (.iconst 0, 1) := dk_3 (dk_at dksX0_in_0 14 rfl rfl)
theorem dX0_in_15 : decode cX0_in 15 = .ok (.ireturn, 1) := dk_172 (dk_at dksX0_in_0 15 rfl rfl)
abbrev cX0_bitOf : ByteArray := prog_1_method_10_code
def yX0_bitOf : MethodName := ⟨RX0, "bitOf", "(I)I"⟩
def dkwX0_bitOf_0 : List UInt8 := [26, 2, 160, 0, 7, 3, 167, 0, 6, 4, 26, 120, 172]
abbrev dktX0_bitOf_0 : List UInt8 := dkwX0_bitOf_0 ++ []
theorem dksX0_bitOf_0 : cX0_bitOf.data.toList.drop 0 = dktX0_bitOf_0 := by decide +kernel
theorem dX0_bitOf_0 : decode cX0_bitOf 0 = .ok (.iload_n 0, 1) := dk_26 (dk_at dksX0_bitOf_0 0 rfl rfl)
theorem dX0_bitOf_1 : decode cX0_bitOf 1 = .ok (.iconst (-1), 1) := dk_2 (dk_at dksX0_bitOf_0 1 rfl rfl)
theorem dX0_bitOf_2 : decode cX0_bitOf 2 = .ok (.if_icmp .ne 7, 3) := dk_160 0 7 (dk_at dksX0_bitOf_0 2 rfl rfl)
theorem dX0_bitOf_5 : decode cX0_bitOf 5 = .ok (.iconst 0, 1) := dk_3 (dk_at dksX0_bitOf_0 5 rfl rfl)
theorem dX0_bitOf_6 : decode cX0_bitOf 6 = .ok (.goto 6, 3) := dk_167 0 6 (dk_at dksX0_bitOf_0 6 rfl rfl)
theorem dX0_bitOf_9 : decode cX0_bitOf 9 = .ok (.iconst 1, 1) := dk_4 (dk_at dksX0_bitOf_0 9 rfl rfl)
theorem dX0_bitOf_10 : decode cX0_bitOf 10 = .ok (.iload_n 0, 1) := dk_26 (dk_at dksX0_bitOf_0 10 rfl rfl)
theorem dX0_bitOf_11 : decode cX0_bitOf 11 = .ok (.ishl, 1) := dk_120 (dk_at dksX0_bitOf_0 11 rfl rfl)
theorem dX0_bitOf_12 : decode cX0_bitOf 12 = .ok (.ireturn, 1) := dk_172 (dk_at dksX0_bitOf_0 12 rfl rfl)
abbrev cX0_feed : ByteArray := prog_1_method_13_code
def yX0_feed : MethodName := ⟨RX0, "feed", "(IIIII)I"⟩
def dkwX0_feed_2 : List UInt8 := [172]
abbrev dktX0_feed_2 : List UInt8 := dkwX0_feed_2 ++ []
def dkwX0_feed_1 : List UInt8 := [182, 0, 92, 42, 29, 182, 0, 92, 42, 21, 4, 182, 0, 92, 42, 21, 5, 182, 0, 92, 42, 180, 0, 89]
abbrev dktX0_feed_1 : List UInt8 := dkwX0_feed_1 ++ dktX0_feed_2
def dkwX0_feed_0 : List UInt8 := [42, 180, 0, 89, 16, 20, 96, 17, 1, 44, 164, 0, 5, 2, 172, 42, 27, 182, 0, 92, 42, 28]
abbrev dktX0_feed_0 : List UInt8 := dkwX0_feed_0 ++ dktX0_feed_1
theorem dksX0_feed_0 : cX0_feed.data.toList.drop 0 = dktX0_feed_0 := by decide +kernel
theorem dksX0_feed_1 : cX0_feed.data.toList.drop 22 = dktX0_feed_1 := dk_seg dksX0_feed_0 22 rfl rfl
theorem dksX0_feed_2 : cX0_feed.data.toList.drop 46 = dktX0_feed_2 := dk_seg dksX0_feed_1 24 rfl rfl
theorem dX0_feed_0 : decode cX0_feed 0 = .ok (.aload_n 0, 1) := dk_42 (dk_at dksX0_feed_0 0 rfl rfl)
theorem dX0_feed_1 : decode cX0_feed 1 = .ok (.getfield 89, 3) := dk_180 0 89 (dk_at dksX0_feed_0 1 rfl rfl)
theorem dX0_feed_4 : decode cX0_feed 4 = .ok (.bipush 20, 2) := dk_16 20 (dk_at dksX0_feed_0 4 rfl rfl)
theorem dX0_feed_6 : decode cX0_feed 6 = .ok (.iadd, 1) := dk_96 (dk_at dksX0_feed_0 6 rfl rfl)
theorem dX0_feed_7 : decode cX0_feed 7 = .ok (.sipush 300, 3) := dk_17 1 44 (dk_at dksX0_feed_0 7 rfl rfl)
theorem dX0_feed_10 : decode cX0_feed 10 = .ok (.if_icmp .le 5, 3) := dk_164 0 5 (dk_at dksX0_feed_0 10 rfl rfl)
theorem dX0_feed_13 : decode cX0_feed 13 = .ok (.iconst (-1), 1) := dk_2 (dk_at dksX0_feed_0 13 rfl rfl)
theorem dX0_feed_14 : decode cX0_feed 14 = .ok (.ireturn, 1) := dk_172 (dk_at dksX0_feed_0 14 rfl rfl)
theorem dX0_feed_15 : decode cX0_feed 15 = .ok (.aload_n 0, 1) := dk_42 (dk_at dksX0_feed_0 15 rfl rfl)
theorem dX0_feed_16 : decode cX0_feed 16 = .ok (.iload_n 1, 1) := dk_27 (dk_at dksX0_feed_0 16 rfl rfl)
theorem dX0_feed_17 : decode cX0_feed 17 = .ok (.invokevirtual 92, 3) := dk_182 0 92 (dk_at dksX0_feed_0 17 rfl rfl)
theorem dX0_feed_20 : decode cX0_feed 20 = .ok (.aload_n 0, 1) := dk_42 (dk_at dksX0_feed_0 20 rfl rfl)
theorem dX0_feed_21 : decode cX0_feed 21 = .ok (.iload_n 2, 1) := dk_28 (dk_at dksX0_feed_0 21 rfl rfl)
theorem dX0_feed_22 : decode cX0_feed 22 = .ok (.invokevirtual 92, 3) := dk_182 0 92 (dk_at dksX0_feed_1 0 rfl rfl)
theorem dX0_feed_25 : decode cX0_feed 25 = .ok (.aload_n 0, 1) := dk_42 (dk_at dksX0_feed_1 3 rfl rfl)
theorem dX0_feed_26 : decode cX0_feed 26 = .ok (.iload_n 3, 1) := dk_29 (dk_at dksX0_feed_1 4 rfl rfl)
theorem dX0_feed_27 : decode cX0_feed 27 = .ok (.invokevirtual 92, 3) := dk_182 0 92 (dk_at dksX0_feed_1 5 rfl rfl)
theorem dX0_feed_30 : decode cX0_feed 30 = .ok (.aload_n 0, 1) := dk_42 (dk_at dksX0_feed_1 8 rfl rfl)
theorem dX0_feed_31 : decode cX0_feed 31 = .ok (.iload 4, 2) := dk_21 4 (dk_at dksX0_feed_1 9 rfl rfl)
theorem dX0_feed_33 : decode cX0_feed 33 = .ok (.invokevirtual 92, 3) := dk_182 0 92 (dk_at dksX0_feed_1 11 rfl rfl)
theorem dX0_feed_36 : decode cX0_feed 36 = .ok (.aload_n 0, 1) := dk_42 (dk_at dksX0_feed_1 14 rfl rfl)
theorem dX0_feed_37 : decode cX0_feed 37 = .ok (.iload 5, 2) := dk_21 5 (dk_at dksX0_feed_1 15 rfl rfl)
theorem dX0_feed_39 : decode cX0_feed 39 = .ok (.invokevirtual 92, 3) := dk_182 0 92 (dk_at dksX0_feed_1 17 rfl rfl)
theorem dX0_feed_42 : decode cX0_feed 42 = .ok (.aload_n 0, 1) := dk_42 (dk_at dksX0_feed_1 20 rfl rfl)
theorem dX0_feed_43 : decode cX0_feed 43 = .ok (.getfield 89, 3) := dk_180 0 89 (dk_at dksX0_feed_1 21 rfl rfl)
theorem dX0_feed_46 : decode cX0_feed 46 = .ok (.ireturn, 1) := dk_172 (dk_at dksX0_feed_2 0 rfl rfl)
abbrev cX0_put : ByteArray := prog_1_method_12_code
def yX0_put : MethodName := ⟨RX0, "put", "(I)V"⟩
def dkwX0_put_1 : List UInt8 := [180, 0, 89, 4, 96, 181, 0, 89, 132, 2, 248, 167, 255, 226, 177]
abbrev dktX0_put_1 : List UInt8 := dkwX0_put_1 ++ []
def dkwX0_put_0 : List UInt8 := [16, 24, 61, 28, 155, 0, 32, 42, 180, 0, 28, 42, 180, 0, 89, 27, 28, 122, 145, 84, 42, 89]
abbrev dktX0_put_0 : List UInt8 := dkwX0_put_0 ++ dktX0_put_1
theorem dksX0_put_0 : cX0_put.data.toList.drop 0 = dktX0_put_0 := by decide +kernel
theorem dksX0_put_1 : cX0_put.data.toList.drop 22 = dktX0_put_1 := dk_seg dksX0_put_0 22 rfl rfl
theorem dX0_put_0 : decode cX0_put 0 = .ok (.bipush 24, 2) := dk_16 24 (dk_at dksX0_put_0 0 rfl rfl)
theorem dX0_put_2 : decode cX0_put 2 = .ok (.istore_n 2, 1) := dk_61 (dk_at dksX0_put_0 2 rfl rfl)
theorem dX0_put_3 : decode cX0_put 3 = .ok (.iload_n 2, 1) := dk_28 (dk_at dksX0_put_0 3 rfl rfl)
theorem dX0_put_4 : decode cX0_put 4 = .ok (.ifCond .lt 32, 3) := dk_155 0 32 (dk_at dksX0_put_0 4 rfl rfl)
theorem dX0_put_7 : decode cX0_put 7 = .ok (.aload_n 0, 1) := dk_42 (dk_at dksX0_put_0 7 rfl rfl)
theorem dX0_put_8 : decode cX0_put 8 = .ok (.getfield 28, 3) := dk_180 0 28 (dk_at dksX0_put_0 8 rfl rfl)
theorem dX0_put_11 : decode cX0_put 11 = .ok (.aload_n 0, 1) := dk_42 (dk_at dksX0_put_0 11 rfl rfl)
theorem dX0_put_12 : decode cX0_put 12 = .ok (.getfield 89, 3) := dk_180 0 89 (dk_at dksX0_put_0 12 rfl rfl)
theorem dX0_put_15 : decode cX0_put 15 = .ok (.iload_n 1, 1) := dk_27 (dk_at dksX0_put_0 15 rfl rfl)
theorem dX0_put_16 : decode cX0_put 16 = .ok (.iload_n 2, 1) := dk_28 (dk_at dksX0_put_0 16 rfl rfl)
theorem dX0_put_17 : decode cX0_put 17 = .ok (.ishr, 1) := dk_122 (dk_at dksX0_put_0 17 rfl rfl)
theorem dX0_put_18 : decode cX0_put 18 = .ok (.i2b, 1) := dk_145 (dk_at dksX0_put_0 18 rfl rfl)
theorem dX0_put_19 : decode cX0_put 19 = .ok (.bastore, 1) := dk_84 (dk_at dksX0_put_0 19 rfl rfl)
theorem dX0_put_20 : decode cX0_put 20 = .ok (.aload_n 0, 1) := dk_42 (dk_at dksX0_put_0 20 rfl rfl)
theorem dX0_put_21 : decode cX0_put 21 = .ok (.dup, 1) := dk_89 (dk_at dksX0_put_0 21 rfl rfl)
theorem dX0_put_22 : decode cX0_put 22 = .ok (.getfield 89, 3) := dk_180 0 89 (dk_at dksX0_put_1 0 rfl rfl)
theorem dX0_put_25 : decode cX0_put 25 = .ok (.iconst 1, 1) := dk_4 (dk_at dksX0_put_1 3 rfl rfl)
theorem dX0_put_26 : decode cX0_put 26 = .ok (.iadd, 1) := dk_96 (dk_at dksX0_put_1 4 rfl rfl)
theorem dX0_put_27 : decode cX0_put 27 = .ok (.putfield 89, 3) := dk_181 0 89 (dk_at dksX0_put_1 5 rfl rfl)
theorem dX0_put_30 : decode cX0_put 30 = .ok (.iinc 2 (-8), 3) := dk_132 2 248 (dk_at dksX0_put_1 8 rfl rfl)
theorem dX0_put_33 : decode cX0_put 33 = .ok (.goto (-30), 3) := dk_167 255 226 (dk_at dksX0_put_1 11 rfl rfl)
theorem dX0_put_36 : decode cX0_put 36 = .ok (.return_, 1) := dk_177 (dk_at dksX0_put_1 14 rfl rfl)
abbrev cX0_end : ByteArray := prog_1_method_14_code
def yX0_end : MethodName := ⟨RX0, "end", "(I)I"⟩
def dkwX0_end_0 : List UInt8 := [27, 3, 42, 180, 0, 89, 184, 0, 62, 154, 0, 5, 2, 172, 42, 27, 181, 0, 89, 27, 172]
abbrev dktX0_end_0 : List UInt8 := dkwX0_end_0 ++ []
theorem dksX0_end_0 : cX0_end.data.toList.drop 0 = dktX0_end_0 := by decide +kernel
theorem dX0_end_0 : decode cX0_end 0 = .ok (.iload_n 1, 1) := dk_27 (dk_at dksX0_end_0 0 rfl rfl)
theorem dX0_end_1 : decode cX0_end 1 = .ok (.iconst 0, 1) := dk_3 (dk_at dksX0_end_0 1 rfl rfl)
theorem dX0_end_2 : decode cX0_end 2 = .ok (.aload_n 0, 1) := dk_42 (dk_at dksX0_end_0 2 rfl rfl)
theorem dX0_end_3 : decode cX0_end 3 = .ok (.getfield 89, 3) := dk_180 0 89 (dk_at dksX0_end_0 3 rfl rfl)
theorem dX0_end_6 : decode cX0_end 6 = .ok (.invokestatic 62, 3) := dk_184 0 62 (dk_at dksX0_end_0 6 rfl rfl)
theorem dX0_end_9 : decode cX0_end 9 = .ok (.ifCond .ne 5, 3) := dk_154 0 5 (dk_at dksX0_end_0 9 rfl rfl)
theorem dX0_end_12 : decode cX0_end 12 = .ok (.iconst (-1), 1) := dk_2 (dk_at dksX0_end_0 12 rfl rfl)
theorem dX0_end_13 : decode cX0_end 13 = .ok (.ireturn, 1) := dk_172 (dk_at dksX0_end_0 13 rfl rfl)
theorem dX0_end_14 : decode cX0_end 14 = .ok (.aload_n 0, 1) := dk_42 (dk_at dksX0_end_0 14 rfl rfl)
theorem dX0_end_15 : decode cX0_end 15 = .ok (.iload_n 1, 1) := dk_27 (dk_at dksX0_end_0 15 rfl rfl)
theorem dX0_end_16 : decode cX0_end 16 = .ok (.putfield 89, 3) := dk_181 0 89 (dk_at dksX0_end_0 16 rfl rfl)
theorem dX0_end_19 : decode cX0_end 19 = .ok (.iload_n 1, 1) := dk_27 (dk_at dksX0_end_0 19 rfl rfl)
theorem dX0_end_20 : decode cX0_end 20 = .ok (.ireturn, 1) := dk_172 (dk_at dksX0_end_0 20 rfl rfl)
abbrev cX0_text : ByteArray := prog_1_method_15_code
def yX0_text : MethodName := ⟨RX0, "text", "()I"⟩
def dkwX0_text_5 : List UInt8 := [79, 42, 180, 0, 21, 180, 0, 59, 4, 46, 4, 100, 172]
abbrev dktX0_text_5 : List UInt8 := dkwX0_text_5 ++ []
def dkwX0_text_4 : List UInt8 := [29, 172, 58, 4, 42, 3, 181, 0, 89, 25, 4, 191, 42, 180, 0, 21, 180, 0, 59, 4, 92, 46, 4, 96]
abbrev dktX0_text_4 : List UInt8 := dkwX0_text_4 ++ dktX0_text_5
def dkwX0_text_3 : List UInt8 := [77, 42, 44, 180, 0, 111, 181, 0, 32, 42, 44, 180, 0, 112, 181, 0, 36, 2, 62, 42, 3, 181, 0, 89]
abbrev dktX0_text_3 : List UInt8 := dkwX0_text_3 ++ dktX0_text_4
def dkwX0_text_2 : List UInt8 := [187, 0, 100, 89, 42, 180, 0, 28, 27, 183, 0, 102, 182, 0, 105, 83, 42, 3, 181, 0, 89, 167, 0, 39]
abbrev dktX0_text_2 : List UInt8 := dkwX0_text_2 ++ dktX0_text_3
def dkwX0_text_1 : List UInt8 := [181, 0, 32, 42, 2, 181, 0, 36, 42, 180, 0, 21, 180, 0, 96, 42, 180, 0, 21, 180, 0, 59, 4, 46]
abbrev dktX0_text_1 : List UInt8 := dkwX0_text_1 ++ dktX0_text_2
def dkwX0_text_0 : List UInt8 := [42, 180, 0, 21, 180, 0, 59, 4, 46, 7, 160, 0, 5, 2, 172, 42, 180, 0, 89, 60, 42, 3]
abbrev dktX0_text_0 : List UInt8 := dkwX0_text_0 ++ dktX0_text_1
theorem dksX0_text_0 : cX0_text.data.toList.drop 0 = dktX0_text_0 := by decide +kernel
theorem dksX0_text_1 : cX0_text.data.toList.drop 22 = dktX0_text_1 := dk_seg dksX0_text_0 22 rfl rfl
theorem dksX0_text_2 : cX0_text.data.toList.drop 46 = dktX0_text_2 := dk_seg dksX0_text_1 24 rfl rfl
theorem dksX0_text_3 : cX0_text.data.toList.drop 70 = dktX0_text_3 := dk_seg dksX0_text_2 24 rfl rfl
theorem dksX0_text_4 : cX0_text.data.toList.drop 94 = dktX0_text_4 := dk_seg dksX0_text_3 24 rfl rfl
theorem dksX0_text_5 : cX0_text.data.toList.drop 118 = dktX0_text_5 := dk_seg dksX0_text_4 24 rfl rfl
theorem dX0_text_0 : decode cX0_text 0 = .ok (.aload_n 0, 1) := dk_42 (dk_at dksX0_text_0 0 rfl rfl)
theorem dX0_text_1 : decode cX0_text 1 = .ok (.getfield 21, 3) := dk_180 0 21 (dk_at dksX0_text_0 1 rfl rfl)
theorem dX0_text_4 : decode cX0_text 4 = .ok (.getfield 59, 3) := dk_180 0 59 (dk_at dksX0_text_0 4 rfl rfl)
theorem dX0_text_7 : decode cX0_text 7 = .ok (.iconst 1, 1) := dk_4 (dk_at dksX0_text_0 7 rfl rfl)
theorem dX0_text_8 : decode cX0_text 8 = .ok (.iaload, 1) := dk_46 (dk_at dksX0_text_0 8 rfl rfl)
theorem dX0_text_9 : decode cX0_text 9 = .ok (.iconst 4, 1) := dk_7 (dk_at dksX0_text_0 9 rfl rfl)
theorem dX0_text_10 : decode cX0_text 10 = .ok (.if_icmp .ne 5, 3) := dk_160 0 5 (dk_at dksX0_text_0 10 rfl rfl)
theorem dX0_text_13 : decode cX0_text 13 = .ok (.iconst (-1), 1) := dk_2 (dk_at dksX0_text_0 13 rfl rfl)
theorem dX0_text_14 : decode cX0_text 14 = .ok (.ireturn, 1) := dk_172 (dk_at dksX0_text_0 14 rfl rfl)
theorem dX0_text_15 : decode cX0_text 15 = .ok (.aload_n 0, 1) := dk_42 (dk_at dksX0_text_0 15 rfl rfl)
theorem dX0_text_16 : decode cX0_text 16 = .ok (.getfield 89, 3) := dk_180 0 89 (dk_at dksX0_text_0 16 rfl rfl)
theorem dX0_text_19 : decode cX0_text 19 = .ok (.istore_n 1, 1) := dk_60 (dk_at dksX0_text_0 19 rfl rfl)
theorem dX0_text_20 : decode cX0_text 20 = .ok (.aload_n 0, 1) := dk_42 (dk_at dksX0_text_0 20 rfl rfl)
theorem dX0_text_21 : decode cX0_text 21 = .ok (.iconst 0, 1) := dk_3 (dk_at dksX0_text_0 21 rfl rfl)
theorem dX0_text_22 : decode cX0_text 22 = .ok (.putfield 32, 3) := dk_181 0 32 (dk_at dksX0_text_1 0 rfl rfl)
theorem dX0_text_25 : decode cX0_text 25 = .ok (.aload_n 0, 1) := dk_42 (dk_at dksX0_text_1 3 rfl rfl)
theorem dX0_text_26 : decode cX0_text 26 = .ok (.iconst (-1), 1) := dk_2 (dk_at dksX0_text_1 4 rfl rfl)
theorem dX0_text_27 : decode cX0_text 27 = .ok (.putfield 36, 3) := dk_181 0 36 (dk_at dksX0_text_1 5 rfl rfl)
theorem dX0_text_30 : decode cX0_text 30 = .ok (.aload_n 0, 1) := dk_42 (dk_at dksX0_text_1 8 rfl rfl)
theorem dX0_text_31 : decode cX0_text 31 = .ok (.getfield 21, 3) := dk_180 0 21 (dk_at dksX0_text_1 9 rfl rfl)
theorem dX0_text_34 : decode cX0_text 34 = .ok (.getfield 96, 3) := dk_180 0 96 (dk_at dksX0_text_1 12 rfl rfl)
theorem dX0_text_37 : decode cX0_text 37 = .ok (.aload_n 0, 1) := dk_42 (dk_at dksX0_text_1 15 rfl rfl)
theorem dX0_text_38 : decode cX0_text 38 = .ok (.getfield 21, 3) := dk_180 0 21 (dk_at dksX0_text_1 16 rfl rfl)
theorem dX0_text_41 : decode cX0_text 41 = .ok (.getfield 59, 3) := dk_180 0 59 (dk_at dksX0_text_1 19 rfl rfl)
theorem dX0_text_44 : decode cX0_text 44 = .ok (.iconst 1, 1) := dk_4 (dk_at dksX0_text_1 22 rfl rfl)
theorem dX0_text_45 : decode cX0_text 45 = .ok (.iaload, 1) := dk_46 (dk_at dksX0_text_1 23 rfl rfl)
theorem dX0_text_46 : decode cX0_text 46 = .ok (.new 100, 3) := dk_187 0 100 (dk_at dksX0_text_2 0 rfl rfl)
theorem dX0_text_49 : decode cX0_text 49 = .ok (.dup, 1) := dk_89 (dk_at dksX0_text_2 3 rfl rfl)
theorem dX0_text_50 : decode cX0_text 50 = .ok (.aload_n 0, 1) := dk_42 (dk_at dksX0_text_2 4 rfl rfl)
theorem dX0_text_51 : decode cX0_text 51 = .ok (.getfield 28, 3) := dk_180 0 28 (dk_at dksX0_text_2 5 rfl rfl)
theorem dX0_text_54 : decode cX0_text 54 = .ok (.iload_n 1, 1) := dk_27 (dk_at dksX0_text_2 8 rfl rfl)
theorem dX0_text_55 : decode cX0_text 55 = .ok (.invokespecial 102, 3) := dk_183 0 102 (dk_at dksX0_text_2 9 rfl rfl)
theorem dX0_text_58 : decode cX0_text 58 = .ok (.invokevirtual 105, 3) := dk_182 0 105 (dk_at dksX0_text_2 12 rfl rfl)
theorem dX0_text_61 : decode cX0_text 61 = .ok (.aastore, 1) := dk_83 (dk_at dksX0_text_2 15 rfl rfl)
theorem dX0_text_62 : decode cX0_text 62 = .ok (.aload_n 0, 1) := dk_42 (dk_at dksX0_text_2 16 rfl rfl)
theorem dX0_text_63 : decode cX0_text 63 = .ok (.iconst 0, 1) := dk_3 (dk_at dksX0_text_2 17 rfl rfl)
theorem dX0_text_64 : decode cX0_text 64 = .ok (.putfield 89, 3) := dk_181 0 89 (dk_at dksX0_text_2 18 rfl rfl)
theorem dX0_text_67 : decode cX0_text 67 = .ok (.goto 39, 3) := dk_167 0 39 (dk_at dksX0_text_2 21 rfl rfl)
theorem dX0_text_70 : decode cX0_text 70 = .ok (.astore_n 2, 1) := dk_77 (dk_at dksX0_text_3 0 rfl rfl)
theorem dX0_text_71 : decode cX0_text 71 = .ok (.aload_n 0, 1) := dk_42 (dk_at dksX0_text_3 1 rfl rfl)
theorem dX0_text_72 : decode cX0_text 72 = .ok (.aload_n 2, 1) := dk_44 (dk_at dksX0_text_3 2 rfl rfl)
theorem dX0_text_73 : decode cX0_text 73 = .ok (.getfield 111, 3) := dk_180 0 111 (dk_at dksX0_text_3 3 rfl rfl)
theorem dX0_text_76 : decode cX0_text 76 = .ok (.putfield 32, 3) := dk_181 0 32 (dk_at dksX0_text_3 6 rfl rfl)
theorem dX0_text_79 : decode cX0_text 79 = .ok (.aload_n 0, 1) := dk_42 (dk_at dksX0_text_3 9 rfl rfl)
theorem dX0_text_80 : decode cX0_text 80 = .ok (.aload_n 2, 1) := dk_44 (dk_at dksX0_text_3 10 rfl rfl)
theorem dX0_text_81 : decode cX0_text 81 = .ok (.getfield 112, 3) := dk_180 0 112 (dk_at dksX0_text_3 11 rfl rfl)
theorem dX0_text_84 : decode cX0_text 84 = .ok (.putfield 36, 3) := dk_181 0 36 (dk_at dksX0_text_3 14 rfl rfl)
theorem dX0_text_87 : decode cX0_text 87 = .ok (.iconst (-1), 1) := dk_2 (dk_at dksX0_text_3 17 rfl rfl)
theorem dX0_text_88 : decode cX0_text 88 = .ok (.istore_n 3, 1) := dk_62 (dk_at dksX0_text_3 18 rfl rfl)
theorem dX0_text_89 : decode cX0_text 89 = .ok (.aload_n 0, 1) := dk_42 (dk_at dksX0_text_3 19 rfl rfl)
theorem dX0_text_90 : decode cX0_text 90 = .ok (.iconst 0, 1) := dk_3 (dk_at dksX0_text_3 20 rfl rfl)
theorem dX0_text_91 : decode cX0_text 91 = .ok (.putfield 89, 3) := dk_181 0 89 (dk_at dksX0_text_3 21 rfl rfl)
theorem dX0_text_94 : decode cX0_text 94 = .ok (.iload_n 3, 1) := dk_29 (dk_at dksX0_text_4 0 rfl rfl)
theorem dX0_text_95 : decode cX0_text 95 = .ok (.ireturn, 1) := dk_172 (dk_at dksX0_text_4 1 rfl rfl)
theorem dX0_text_96 : decode cX0_text 96 = .ok (.astore 4, 2) := dk_58 4 (dk_at dksX0_text_4 2 rfl rfl)
theorem dX0_text_98 : decode cX0_text 98 = .ok (.aload_n 0, 1) := dk_42 (dk_at dksX0_text_4 4 rfl rfl)
theorem dX0_text_99 : decode cX0_text 99 = .ok (.iconst 0, 1) := dk_3 (dk_at dksX0_text_4 5 rfl rfl)
theorem dX0_text_100 : decode cX0_text 100 = .ok (.putfield 89, 3) := dk_181 0 89 (dk_at dksX0_text_4 6 rfl rfl)
theorem dX0_text_103 : decode cX0_text 103 = .ok (.aload 4, 2) := dk_25 4 (dk_at dksX0_text_4 9 rfl rfl)
theorem dX0_text_105 : decode cX0_text 105 = .ok (.athrow, 1) := dk_191 (dk_at dksX0_text_4 11 rfl rfl)
theorem dX0_text_106 : decode cX0_text 106 = .ok (.aload_n 0, 1) := dk_42 (dk_at dksX0_text_4 12 rfl rfl)
theorem dX0_text_107 : decode cX0_text 107 = .ok (.getfield 21, 3) := dk_180 0 21 (dk_at dksX0_text_4 13 rfl rfl)
theorem dX0_text_110 : decode cX0_text 110 = .ok (.getfield 59, 3) := dk_180 0 59 (dk_at dksX0_text_4 16 rfl rfl)
theorem dX0_text_113 : decode cX0_text 113 = .ok (.iconst 1, 1) := dk_4 (dk_at dksX0_text_4 19 rfl rfl)
theorem dX0_text_114 : decode cX0_text 114 = .ok (.dup2, 1) := dk_92 (dk_at dksX0_text_4 20 rfl rfl)
theorem dX0_text_115 : decode cX0_text 115 = .ok (.iaload, 1) := dk_46 (dk_at dksX0_text_4 21 rfl rfl)
theorem dX0_text_116 : decode cX0_text 116 = .ok (.iconst 1, 1) := dk_4 (dk_at dksX0_text_4 22 rfl rfl)
theorem dX0_text_117 : decode cX0_text 117 = .ok (.iadd, 1) := dk_96 (dk_at dksX0_text_4 23 rfl rfl)
theorem dX0_text_118 : decode cX0_text 118 = .ok (.iastore, 1) := dk_79 (dk_at dksX0_text_5 0 rfl rfl)
theorem dX0_text_119 : decode cX0_text 119 = .ok (.aload_n 0, 1) := dk_42 (dk_at dksX0_text_5 1 rfl rfl)
theorem dX0_text_120 : decode cX0_text 120 = .ok (.getfield 21, 3) := dk_180 0 21 (dk_at dksX0_text_5 2 rfl rfl)
theorem dX0_text_123 : decode cX0_text 123 = .ok (.getfield 59, 3) := dk_180 0 59 (dk_at dksX0_text_5 5 rfl rfl)
theorem dX0_text_126 : decode cX0_text 126 = .ok (.iconst 1, 1) := dk_4 (dk_at dksX0_text_5 8 rfl rfl)
theorem dX0_text_127 : decode cX0_text 127 = .ok (.iaload, 1) := dk_46 (dk_at dksX0_text_5 9 rfl rfl)
theorem dX0_text_128 : decode cX0_text 128 = .ok (.iconst 1, 1) := dk_4 (dk_at dksX0_text_5 10 rfl rfl)
theorem dX0_text_129 : decode cX0_text 129 = .ok (.isub, 1) := dk_100 (dk_at dksX0_text_5 11 rfl rfl)
theorem dX0_text_130 : decode cX0_text 130 = .ok (.ireturn, 1) := dk_172 (dk_at dksX0_text_5 12 rfl rfl)
abbrev cX0_fault : ByteArray := prog_1_method_16_code
def yX0_fault : MethodName := ⟨RX0, "fault", "(I)I"⟩
def dkwX0_fault_1 : List UInt8 := [172]
abbrev dktX0_fault_1 : List UInt8 := dkwX0_fault_1 ++ []
def dkwX0_fault_0 : List UInt8 := [27, 154, 0, 10, 42, 180, 0, 32, 167, 0, 16, 27, 4, 160, 0, 10, 42, 180, 0, 36, 167, 0, 4, 2]
abbrev dktX0_fault_0 : List UInt8 := dkwX0_fault_0 ++ dktX0_fault_1
theorem dksX0_fault_0 : cX0_fault.data.toList.drop 0 = dktX0_fault_0 := by decide +kernel
theorem dksX0_fault_1 : cX0_fault.data.toList.drop 24 = dktX0_fault_1 := dk_seg dksX0_fault_0 24 rfl rfl
theorem dX0_fault_0 : decode cX0_fault 0 = .ok (.iload_n 1, 1) := dk_27 (dk_at dksX0_fault_0 0 rfl rfl)
theorem dX0_fault_1 : decode cX0_fault 1 = .ok (.ifCond .ne 10, 3) := dk_154 0 10 (dk_at dksX0_fault_0 1 rfl rfl)
theorem dX0_fault_4 : decode cX0_fault 4 = .ok (.aload_n 0, 1) := dk_42 (dk_at dksX0_fault_0 4 rfl rfl)
theorem dX0_fault_5 : decode cX0_fault 5 = .ok (.getfield 32, 3) := dk_180 0 32 (dk_at dksX0_fault_0 5 rfl rfl)
theorem dX0_fault_8 : decode cX0_fault 8 = .ok (.goto 16, 3) := dk_167 0 16 (dk_at dksX0_fault_0 8 rfl rfl)
theorem dX0_fault_11 : decode cX0_fault 11 = .ok (.iload_n 1, 1) := dk_27 (dk_at dksX0_fault_0 11 rfl rfl)
theorem dX0_fault_12 : decode cX0_fault 12 = .ok (.iconst 1, 1) := dk_4 (dk_at dksX0_fault_0 12 rfl rfl)
theorem dX0_fault_13 : decode cX0_fault 13 = .ok (.if_icmp .ne 10, 3) := dk_160 0 10 (dk_at dksX0_fault_0 13 rfl rfl)
theorem dX0_fault_16 : decode cX0_fault 16 = .ok (.aload_n 0, 1) := dk_42 (dk_at dksX0_fault_0 16 rfl rfl)
theorem dX0_fault_17 : decode cX0_fault 17 = .ok (.getfield 36, 3) := dk_180 0 36 (dk_at dksX0_fault_0 17 rfl rfl)
theorem dX0_fault_20 : decode cX0_fault 20 = .ok (.goto 4, 3) := dk_167 0 4 (dk_at dksX0_fault_0 20 rfl rfl)
theorem dX0_fault_23 : decode cX0_fault 23 = .ok (.iconst (-1), 1) := dk_2 (dk_at dksX0_fault_0 23 rfl rfl)
theorem dX0_fault_24 : decode cX0_fault 24 = .ok (.ireturn, 1) := dk_172 (dk_at dksX0_fault_1 0 rfl rfl)
abbrev cX0_by : ByteArray := prog_1_method_18_code
def yX0_by : MethodName := ⟨RX0, "by", "(I)Z"⟩
def dkwX0_by_1 : List UInt8 := [79, 4, 172]
abbrev dktX0_by_1 : List UInt8 := dkwX0_by_1 ++ []
def dkwX0_by_0 : List UInt8 := [27, 2, 159, 0, 13, 42, 27, 182, 0, 115, 154, 0, 5, 3, 172, 42, 180, 0, 21, 180, 0, 59, 5, 27]
abbrev dktX0_by_0 : List UInt8 := dkwX0_by_0 ++ dktX0_by_1
theorem dksX0_by_0 : cX0_by.data.toList.drop 0 = dktX0_by_0 := by decide +kernel
theorem dksX0_by_1 : cX0_by.data.toList.drop 24 = dktX0_by_1 := dk_seg dksX0_by_0 24 rfl rfl
theorem dX0_by_0 : decode cX0_by 0 = .ok (.iload_n 1, 1) := dk_27 (dk_at dksX0_by_0 0 rfl rfl)
theorem dX0_by_1 : decode cX0_by 1 = .ok (.iconst (-1), 1) := dk_2 (dk_at dksX0_by_0 1 rfl rfl)
theorem dX0_by_2 : decode cX0_by 2 = .ok (.if_icmp .eq 13, 3) := dk_159 0 13 (dk_at dksX0_by_0 2 rfl rfl)
theorem dX0_by_5 : decode cX0_by 5 = .ok (.aload_n 0, 1) := dk_42 (dk_at dksX0_by_0 5 rfl rfl)
theorem dX0_by_6 : decode cX0_by 6 = .ok (.iload_n 1, 1) := dk_27 (dk_at dksX0_by_0 6 rfl rfl)
theorem dX0_by_7 : decode cX0_by 7 = .ok (.invokevirtual 115, 3) := dk_182 0 115 (dk_at dksX0_by_0 7 rfl rfl)
theorem dX0_by_10 : decode cX0_by 10 = .ok (.ifCond .ne 5, 3) := dk_154 0 5 (dk_at dksX0_by_0 10 rfl rfl)
theorem dX0_by_13 : decode cX0_by 13 = .ok (.iconst 0, 1) := dk_3 (dk_at dksX0_by_0 13 rfl rfl)
theorem dX0_by_14 : decode cX0_by 14 = .ok (.ireturn, 1) := dk_172 (dk_at dksX0_by_0 14 rfl rfl)
theorem dX0_by_15 : decode cX0_by 15 = .ok (.aload_n 0, 1) := dk_42 (dk_at dksX0_by_0 15 rfl rfl)
theorem dX0_by_16 : decode cX0_by 16 = .ok (.getfield 21, 3) := dk_180 0 21 (dk_at dksX0_by_0 16 rfl rfl)
theorem dX0_by_19 : decode cX0_by 19 = .ok (.getfield 59, 3) := dk_180 0 59 (dk_at dksX0_by_0 19 rfl rfl)
theorem dX0_by_22 : decode cX0_by 22 = .ok (.iconst 2, 1) := dk_5 (dk_at dksX0_by_0 22 rfl rfl)
theorem dX0_by_23 : decode cX0_by 23 = .ok (.iload_n 1, 1) := dk_27 (dk_at dksX0_by_0 23 rfl rfl)
theorem dX0_by_24 : decode cX0_by 24 = .ok (.iastore, 1) := dk_79 (dk_at dksX0_by_1 0 rfl rfl)
theorem dX0_by_25 : decode cX0_by 25 = .ok (.iconst 1, 1) := dk_4 (dk_at dksX0_by_1 1 rfl rfl)
theorem dX0_by_26 : decode cX0_by 26 = .ok (.ireturn, 1) := dk_172 (dk_at dksX0_by_1 2 rfl rfl)
abbrev cX0_isText : ByteArray := prog_1_method_17_code
def yX0_isText : MethodName := ⟨RX0, "isText", "(I)Z"⟩
def dkwX0_isText_0 : List UInt8 := [27, 3, 42, 180, 0, 21, 180, 0, 59, 4, 46, 4, 100, 184, 0, 62, 172]
abbrev dktX0_isText_0 : List UInt8 := dkwX0_isText_0 ++ []
theorem dksX0_isText_0 : cX0_isText.data.toList.drop 0 = dktX0_isText_0 := by decide +kernel
theorem dX0_isText_0 : decode cX0_isText 0 = .ok (.iload_n 1, 1) := dk_27 (dk_at dksX0_isText_0 0 rfl rfl)
theorem dX0_isText_1 : decode cX0_isText 1 = .ok (.iconst 0, 1) := dk_3 (dk_at dksX0_isText_0 1 rfl rfl)
theorem dX0_isText_2 : decode cX0_isText 2 = .ok (.aload_n 0, 1) := dk_42 (dk_at dksX0_isText_0 2 rfl rfl)
theorem dX0_isText_3 : decode cX0_isText 3 = .ok (.getfield 21, 3) := dk_180 0 21 (dk_at dksX0_isText_0 3 rfl rfl)
theorem dX0_isText_6 : decode cX0_isText 6 = .ok (.getfield 59, 3) := dk_180 0 59 (dk_at dksX0_isText_0 6 rfl rfl)
theorem dX0_isText_9 : decode cX0_isText 9 = .ok (.iconst 1, 1) := dk_4 (dk_at dksX0_isText_0 9 rfl rfl)
theorem dX0_isText_10 : decode cX0_isText 10 = .ok (.iaload, 1) := dk_46 (dk_at dksX0_isText_0 10 rfl rfl)
theorem dX0_isText_11 : decode cX0_isText 11 = .ok (.iconst 1, 1) := dk_4 (dk_at dksX0_isText_0 11 rfl rfl)
theorem dX0_isText_12 : decode cX0_isText 12 = .ok (.isub, 1) := dk_100 (dk_at dksX0_isText_0 12 rfl rfl)
theorem dX0_isText_13 : decode cX0_isText 13 = .ok (.invokestatic 62, 3) := dk_184 0 62 (dk_at dksX0_isText_0 13 rfl rfl)
theorem dX0_isText_16 : decode cX0_isText 16 = .ok (.ireturn, 1) := dk_172 (dk_at dksX0_isText_0 16 rfl rfl)
abbrev cX0_day : ByteArray := prog_1_method_29_code
def yX0_day : MethodName := ⟨RX0, "day", "(I)I"⟩
def dkwX0_day_3 : List UInt8 := [184, 0, 173, 172]
abbrev dktX0_day_3 : List UInt8 := dkwX0_day_3 ++ []
def dkwX0_day_2 : List UInt8 := [42, 180, 0, 21, 180, 0, 74, 182, 0, 195, 132, 2, 1, 167, 255, 226, 42, 180, 0, 21, 180, 0, 74]
abbrev dktX0_day_2 : List UInt8 := dkwX0_day_2 ++ dktX0_day_3
def dkwX0_day_1 : List UInt8 := [164, 0, 5, 2, 172, 3, 61, 28, 27, 162, 0, 31, 42, 180, 0, 21, 182, 0, 189, 42, 42, 182, 0, 192]
abbrev dktX0_day_1 : List UInt8 := dkwX0_day_1 ++ dktX0_day_2
def dkwX0_day_0 : List UInt8 := [27, 4, 16, 60, 184, 0, 62, 153, 0, 20, 42, 180, 0, 21, 180, 0, 74, 3, 46, 27, 96, 17, 39, 15]
abbrev dktX0_day_0 : List UInt8 := dkwX0_day_0 ++ dktX0_day_1
theorem dksX0_day_0 : cX0_day.data.toList.drop 0 = dktX0_day_0 := by decide +kernel
theorem dksX0_day_1 : cX0_day.data.toList.drop 24 = dktX0_day_1 := dk_seg dksX0_day_0 24 rfl rfl
theorem dksX0_day_2 : cX0_day.data.toList.drop 48 = dktX0_day_2 := dk_seg dksX0_day_1 24 rfl rfl
theorem dksX0_day_3 : cX0_day.data.toList.drop 71 = dktX0_day_3 := dk_seg dksX0_day_2 23 rfl rfl
theorem dX0_day_0 : decode cX0_day 0 = .ok (.iload_n 1, 1) := dk_27 (dk_at dksX0_day_0 0 rfl rfl)
theorem dX0_day_1 : decode cX0_day 1 = .ok (.iconst 1, 1) := dk_4 (dk_at dksX0_day_0 1 rfl rfl)
theorem dX0_day_2 : decode cX0_day 2 = .ok (.bipush 60, 2) := dk_16 60 (dk_at dksX0_day_0 2 rfl rfl)
theorem dX0_day_4 : decode cX0_day 4 = .ok (.invokestatic 62, 3) := dk_184 0 62 (dk_at dksX0_day_0 4 rfl rfl)
theorem dX0_day_7 : decode cX0_day 7 = .ok (.ifCond .eq 20, 3) := dk_153 0 20 (dk_at dksX0_day_0 7 rfl rfl)
theorem dX0_day_10 : decode cX0_day 10 = .ok (.aload_n 0, 1) := dk_42 (dk_at dksX0_day_0 10 rfl rfl)
theorem dX0_day_11 : decode cX0_day 11 = .ok (.getfield 21, 3) := dk_180 0 21 (dk_at dksX0_day_0 11 rfl rfl)
theorem dX0_day_14 : decode cX0_day 14 = .ok (.getfield 74, 3) := dk_180 0 74 (dk_at dksX0_day_0 14 rfl rfl)
theorem dX0_day_17 : decode cX0_day 17 = .ok (.iconst 0, 1) := dk_3 (dk_at dksX0_day_0 17 rfl rfl)
theorem dX0_day_18 : decode cX0_day 18 = .ok (.iaload, 1) := dk_46 (dk_at dksX0_day_0 18 rfl rfl)
theorem dX0_day_19 : decode cX0_day 19 = .ok (.iload_n 1, 1) := dk_27 (dk_at dksX0_day_0 19 rfl rfl)
theorem dX0_day_20 : decode cX0_day 20 = .ok (.iadd, 1) := dk_96 (dk_at dksX0_day_0 20 rfl rfl)
theorem dX0_day_21 : decode cX0_day 21 = .ok (.sipush 9999, 3) := dk_17 39 15 (dk_at dksX0_day_0 21 rfl rfl)
theorem dX0_day_24 : decode cX0_day 24 = .ok (.if_icmp .le 5, 3) := dk_164 0 5 (dk_at dksX0_day_1 0 rfl rfl)
theorem dX0_day_27 : decode cX0_day 27 = .ok (.iconst (-1), 1) := dk_2 (dk_at dksX0_day_1 3 rfl rfl)
theorem dX0_day_28 : decode cX0_day 28 = .ok (.ireturn, 1) := dk_172 (dk_at dksX0_day_1 4 rfl rfl)
theorem dX0_day_29 : decode cX0_day 29 = .ok (.iconst 0, 1) := dk_3 (dk_at dksX0_day_1 5 rfl rfl)
theorem dX0_day_30 : decode cX0_day 30 = .ok (.istore_n 2, 1) := dk_61 (dk_at dksX0_day_1 6 rfl rfl)
theorem dX0_day_31 : decode cX0_day 31 = .ok (.iload_n 2, 1) := dk_28 (dk_at dksX0_day_1 7 rfl rfl)
theorem dX0_day_32 : decode cX0_day 32 = .ok (.iload_n 1, 1) := dk_27 (dk_at dksX0_day_1 8 rfl rfl)
theorem dX0_day_33 : decode cX0_day 33 = .ok (.if_icmp .ge 31, 3) := dk_162 0 31 (dk_at dksX0_day_1 9 rfl rfl)
theorem dX0_day_36 : decode cX0_day 36 = .ok (.aload_n 0, 1) := dk_42 (dk_at dksX0_day_1 12 rfl rfl)
theorem dX0_day_37 : decode cX0_day 37 = .ok (.getfield 21, 3) := dk_180 0 21 (dk_at dksX0_day_1 13 rfl rfl)
theorem dX0_day_40 : decode cX0_day 40 = .ok (.invokevirtual 189, 3) := dk_182 0 189 (dk_at dksX0_day_1 16 rfl rfl)
theorem dX0_day_43 : decode cX0_day 43 = .ok (.aload_n 0, 1) := dk_42 (dk_at dksX0_day_1 19 rfl rfl)
theorem dX0_day_44 : decode cX0_day 44 = .ok (.aload_n 0, 1) := dk_42 (dk_at dksX0_day_1 20 rfl rfl)
theorem dX0_day_45 : decode cX0_day 45 = .ok (.invokevirtual 192, 3) := dk_182 0 192 (dk_at dksX0_day_1 21 rfl rfl)
theorem dX0_day_48 : decode cX0_day 48 = .ok (.aload_n 0, 1) := dk_42 (dk_at dksX0_day_2 0 rfl rfl)
theorem dX0_day_49 : decode cX0_day 49 = .ok (.getfield 21, 3) := dk_180 0 21 (dk_at dksX0_day_2 1 rfl rfl)
theorem dX0_day_52 : decode cX0_day 52 = .ok (.getfield 74, 3) := dk_180 0 74 (dk_at dksX0_day_2 4 rfl rfl)
theorem dX0_day_55 : decode cX0_day 55 = .ok (.invokevirtual 195, 3) := dk_182 0 195 (dk_at dksX0_day_2 7 rfl rfl)
theorem dX0_day_58 : decode cX0_day 58 = .ok (.iinc 2 1, 3) := dk_132 2 1 (dk_at dksX0_day_2 10 rfl rfl)
theorem dX0_day_61 : decode cX0_day 61 = .ok (.goto (-30), 3) := dk_167 255 226 (dk_at dksX0_day_2 13 rfl rfl)
theorem dX0_day_64 : decode cX0_day 64 = .ok (.aload_n 0, 1) := dk_42 (dk_at dksX0_day_2 16 rfl rfl)
theorem dX0_day_65 : decode cX0_day 65 = .ok (.getfield 21, 3) := dk_180 0 21 (dk_at dksX0_day_2 17 rfl rfl)
theorem dX0_day_68 : decode cX0_day 68 = .ok (.getfield 74, 3) := dk_180 0 74 (dk_at dksX0_day_2 20 rfl rfl)
theorem dX0_day_71 : decode cX0_day 71 = .ok (.invokestatic 173, 3) := dk_184 0 173 (dk_at dksX0_day_3 0 rfl rfl)
theorem dX0_day_74 : decode cX0_day 74 = .ok (.ireturn, 1) := dk_172 (dk_at dksX0_day_3 3 rfl rfl)
abbrev cX0_rules : ByteArray := prog_1_method_19_code
def yX0_rules : MethodName := ⟨RX0, "rules", "()LShutDays$Text;"⟩
def dkwX0_rules_1 : List UInt8 := [180, 0, 96, 42, 180, 0, 21, 180, 0, 59, 5, 46, 50, 176]
abbrev dktX0_rules_1 : List UInt8 := dkwX0_rules_1 ++ []
def dkwX0_rules_0 : List UInt8 := [42, 180, 0, 21, 180, 0, 59, 5, 46, 2, 160, 0, 9, 178, 0, 118, 167, 0, 20, 42, 180, 0, 21]
abbrev dktX0_rules_0 : List UInt8 := dkwX0_rules_0 ++ dktX0_rules_1
theorem dksX0_rules_0 : cX0_rules.data.toList.drop 0 = dktX0_rules_0 := by decide +kernel
theorem dksX0_rules_1 : cX0_rules.data.toList.drop 23 = dktX0_rules_1 := dk_seg dksX0_rules_0 23 rfl rfl
theorem dX0_rules_0 : decode cX0_rules 0 = .ok (.aload_n 0, 1) := dk_42 (dk_at dksX0_rules_0 0 rfl rfl)
theorem dX0_rules_1 : decode cX0_rules 1 = .ok (.getfield 21, 3) := dk_180 0 21 (dk_at dksX0_rules_0 1 rfl rfl)
theorem dX0_rules_4 : decode cX0_rules 4 = .ok (.getfield 59, 3) := dk_180 0 59 (dk_at dksX0_rules_0 4 rfl rfl)
theorem dX0_rules_7 : decode cX0_rules 7 = .ok (.iconst 2, 1) := dk_5 (dk_at dksX0_rules_0 7 rfl rfl)
theorem dX0_rules_8 : decode cX0_rules 8 = .ok (.iaload, 1) := dk_46 (dk_at dksX0_rules_0 8 rfl rfl)
theorem dX0_rules_9 : decode cX0_rules 9 = .ok (.iconst (-1), 1) := dk_2 (dk_at dksX0_rules_0 9 rfl rfl)
theorem dX0_rules_10 : decode cX0_rules 10 = .ok (.if_icmp .ne 9, 3) := dk_160 0 9 (dk_at dksX0_rules_0 10 rfl rfl)
theorem dX0_rules_13 : decode cX0_rules 13 = .ok (.getstatic 118, 3) := dk_178 0 118 (dk_at dksX0_rules_0 13 rfl rfl)
theorem dX0_rules_16 : decode cX0_rules 16 = .ok (.goto 20, 3) := dk_167 0 20 (dk_at dksX0_rules_0 16 rfl rfl)
theorem dX0_rules_19 : decode cX0_rules 19 = .ok (.aload_n 0, 1) := dk_42 (dk_at dksX0_rules_0 19 rfl rfl)
theorem dX0_rules_20 : decode cX0_rules 20 = .ok (.getfield 21, 3) := dk_180 0 21 (dk_at dksX0_rules_0 20 rfl rfl)
theorem dX0_rules_23 : decode cX0_rules 23 = .ok (.getfield 96, 3) := dk_180 0 96 (dk_at dksX0_rules_1 0 rfl rfl)
theorem dX0_rules_26 : decode cX0_rules 26 = .ok (.aload_n 0, 1) := dk_42 (dk_at dksX0_rules_1 3 rfl rfl)
theorem dX0_rules_27 : decode cX0_rules 27 = .ok (.getfield 21, 3) := dk_180 0 21 (dk_at dksX0_rules_1 4 rfl rfl)
theorem dX0_rules_30 : decode cX0_rules 30 = .ok (.getfield 59, 3) := dk_180 0 59 (dk_at dksX0_rules_1 7 rfl rfl)
theorem dX0_rules_33 : decode cX0_rules 33 = .ok (.iconst 2, 1) := dk_5 (dk_at dksX0_rules_1 10 rfl rfl)
theorem dX0_rules_34 : decode cX0_rules 34 = .ok (.iaload, 1) := dk_46 (dk_at dksX0_rules_1 11 rfl rfl)
theorem dX0_rules_35 : decode cX0_rules 35 = .ok (.aaload, 1) := dk_50 (dk_at dksX0_rules_1 12 rfl rfl)
theorem dX0_rules_36 : decode cX0_rules 36 = .ok (.areturn, 1) := dk_176 (dk_at dksX0_rules_1 13 rfl rfl)
abbrev cX0_passes : ByteArray := prog_1_method_28_code
def yX0_passes : MethodName := ⟨RX0, "passes", "(LShutDays$Text;[I)V"⟩
def dkwX0_passes_4 : List UInt8 := [96, 184, 0, 187, 79, 132, 3, 1, 167, 255, 155, 44, 3, 92, 46, 4, 96, 79, 177]
abbrev dktX0_passes_4 : List UInt8 := dkwX0_passes_4 ++ []
def dkwX0_passes_3 : List UInt8 := [44, 16, 10, 29, 96, 17, 39, 15, 44, 16, 10, 29, 96, 46, 42, 43, 44, 29, 44, 3, 46, 182, 0, 184]
abbrev dktX0_passes_3 : List UInt8 := dkwX0_passes_3 ++ dktX0_passes_4
def dkwX0_passes_2 : List UInt8 := [44, 16, 10, 29, 96, 46, 42, 43, 44, 29, 44, 3, 46, 182, 0, 177, 100, 184, 0, 181, 79, 167, 0, 32]
abbrev dktX0_passes_2 : List UInt8 := dkwX0_passes_2 ++ dktX0_passes_3
def dkwX0_passes_1 : List UInt8 := [167, 0, 77, 44, 6, 29, 96, 46, 44, 184, 0, 173, 184, 0, 66, 153, 0, 33, 44, 16, 10, 29, 96, 3]
abbrev dktX0_passes_1 : List UInt8 := dkwX0_passes_1 ++ dktX0_passes_2
def dkwX0_passes_0 : List UInt8 := [3, 62, 29, 42, 180, 0, 21, 180, 0, 59, 3, 46, 162, 0, 94, 44, 29, 184, 0, 77, 153, 0, 6]
abbrev dktX0_passes_0 : List UInt8 := dkwX0_passes_0 ++ dktX0_passes_1
theorem dksX0_passes_0 : cX0_passes.data.toList.drop 0 = dktX0_passes_0 := by decide +kernel
theorem dksX0_passes_1 : cX0_passes.data.toList.drop 23 = dktX0_passes_1 := dk_seg dksX0_passes_0 23 rfl rfl
theorem dksX0_passes_2 : cX0_passes.data.toList.drop 47 = dktX0_passes_2 := dk_seg dksX0_passes_1 24 rfl rfl
theorem dksX0_passes_3 : cX0_passes.data.toList.drop 71 = dktX0_passes_3 := dk_seg dksX0_passes_2 24 rfl rfl
theorem dksX0_passes_4 : cX0_passes.data.toList.drop 95 = dktX0_passes_4 := dk_seg dksX0_passes_3 24 rfl rfl
theorem dX0_passes_0 : decode cX0_passes 0 = .ok (.iconst 0, 1) := dk_3 (dk_at dksX0_passes_0 0 rfl rfl)
theorem dX0_passes_1 : decode cX0_passes 1 = .ok (.istore_n 3, 1) := dk_62 (dk_at dksX0_passes_0 1 rfl rfl)
theorem dX0_passes_2 : decode cX0_passes 2 = .ok (.iload_n 3, 1) := dk_29 (dk_at dksX0_passes_0 2 rfl rfl)
theorem dX0_passes_3 : decode cX0_passes 3 = .ok (.aload_n 0, 1) := dk_42 (dk_at dksX0_passes_0 3 rfl rfl)
theorem dX0_passes_4 : decode cX0_passes 4 = .ok (.getfield 21, 3) := dk_180 0 21 (dk_at dksX0_passes_0 4 rfl rfl)
theorem dX0_passes_7 : decode cX0_passes 7 = .ok (.getfield 59, 3) := dk_180 0 59 (dk_at dksX0_passes_0 7 rfl rfl)
theorem dX0_passes_10 : decode cX0_passes 10 = .ok (.iconst 0, 1) := dk_3 (dk_at dksX0_passes_0 10 rfl rfl)
theorem dX0_passes_11 : decode cX0_passes 11 = .ok (.iaload, 1) := dk_46 (dk_at dksX0_passes_0 11 rfl rfl)
theorem dX0_passes_12 : decode cX0_passes 12 = .ok (.if_icmp .ge 94, 3) := dk_162 0 94 (dk_at dksX0_passes_0 12 rfl rfl)
theorem dX0_passes_15 : decode cX0_passes 15 = .ok (.aload_n 2, 1) := dk_44 (dk_at dksX0_passes_0 15 rfl rfl)
theorem dX0_passes_16 : decode cX0_passes 16 = .ok (.iload_n 3, 1) := dk_29 (dk_at dksX0_passes_0 16 rfl rfl)
theorem dX0_passes_17 : decode cX0_passes 17 = .ok (.invokestatic 77, 3) := dk_184 0 77 (dk_at dksX0_passes_0 17 rfl rfl)
theorem dX0_passes_20 : decode cX0_passes 20 = .ok (.ifCond .eq 6, 3) := dk_153 0 6 (dk_at dksX0_passes_0 20 rfl rfl)
theorem dX0_passes_23 : decode cX0_passes 23 = .ok (.goto 77, 3) := dk_167 0 77 (dk_at dksX0_passes_1 0 rfl rfl)
theorem dX0_passes_26 : decode cX0_passes 26 = .ok (.aload_n 2, 1) := dk_44 (dk_at dksX0_passes_1 3 rfl rfl)
theorem dX0_passes_27 : decode cX0_passes 27 = .ok (.iconst 3, 1) := dk_6 (dk_at dksX0_passes_1 4 rfl rfl)
theorem dX0_passes_28 : decode cX0_passes 28 = .ok (.iload_n 3, 1) := dk_29 (dk_at dksX0_passes_1 5 rfl rfl)
theorem dX0_passes_29 : decode cX0_passes 29 = .ok (.iadd, 1) := dk_96 (dk_at dksX0_passes_1 6 rfl rfl)
theorem dX0_passes_30 : decode cX0_passes 30 = .ok (.iaload, 1) := dk_46 (dk_at dksX0_passes_1 7 rfl rfl)
theorem dX0_passes_31 : decode cX0_passes 31 = .ok (.aload_n 2, 1) := dk_44 (dk_at dksX0_passes_1 8 rfl rfl)
theorem dX0_passes_32 : decode cX0_passes 32 = .ok (.invokestatic 173, 3) := dk_184 0 173 (dk_at dksX0_passes_1 9 rfl rfl)
theorem dX0_passes_35 : decode cX0_passes 35 = .ok (.invokestatic 66, 3) := dk_184 0 66 (dk_at dksX0_passes_1 12 rfl rfl)
theorem dX0_passes_38 : decode cX0_passes 38 = .ok (.ifCond .eq 33, 3) := dk_153 0 33 (dk_at dksX0_passes_1 15 rfl rfl)
theorem dX0_passes_41 : decode cX0_passes 41 = .ok (.aload_n 2, 1) := dk_44 (dk_at dksX0_passes_1 18 rfl rfl)
theorem dX0_passes_42 : decode cX0_passes 42 = .ok (.bipush 10, 2) := dk_16 10 (dk_at dksX0_passes_1 19 rfl rfl)
theorem dX0_passes_44 : decode cX0_passes 44 = .ok (.iload_n 3, 1) := dk_29 (dk_at dksX0_passes_1 21 rfl rfl)
theorem dX0_passes_45 : decode cX0_passes 45 = .ok (.iadd, 1) := dk_96 (dk_at dksX0_passes_1 22 rfl rfl)
theorem dX0_passes_46 : decode cX0_passes 46 = .ok (.iconst 0, 1) := dk_3 (dk_at dksX0_passes_1 23 rfl rfl)
theorem dX0_passes_47 : decode cX0_passes 47 = .ok (.aload_n 2, 1) := dk_44 (dk_at dksX0_passes_2 0 rfl rfl)
theorem dX0_passes_48 : decode cX0_passes 48 = .ok (.bipush 10, 2) := dk_16 10 (dk_at dksX0_passes_2 1 rfl rfl)
theorem dX0_passes_50 : decode cX0_passes 50 = .ok (.iload_n 3, 1) := dk_29 (dk_at dksX0_passes_2 3 rfl rfl)
theorem dX0_passes_51 : decode cX0_passes 51 = .ok (.iadd, 1) := dk_96 (dk_at dksX0_passes_2 4 rfl rfl)
theorem dX0_passes_52 : decode cX0_passes 52 = .ok (.iaload, 1) := dk_46 (dk_at dksX0_passes_2 5 rfl rfl)
theorem dX0_passes_53 : decode cX0_passes 53 = .ok (.aload_n 0, 1) := dk_42 (dk_at dksX0_passes_2 6 rfl rfl)
theorem dX0_passes_54 : decode cX0_passes 54 = .ok (.aload_n 1, 1) := dk_43 (dk_at dksX0_passes_2 7 rfl rfl)
theorem dX0_passes_55 : decode cX0_passes 55 = .ok (.aload_n 2, 1) := dk_44 (dk_at dksX0_passes_2 8 rfl rfl)
theorem dX0_passes_56 : decode cX0_passes 56 = .ok (.iload_n 3, 1) := dk_29 (dk_at dksX0_passes_2 9 rfl rfl)
theorem dX0_passes_57 : decode cX0_passes 57 = .ok (.aload_n 2, 1) := dk_44 (dk_at dksX0_passes_2 10 rfl rfl)
theorem dX0_passes_58 : decode cX0_passes 58 = .ok (.iconst 0, 1) := dk_3 (dk_at dksX0_passes_2 11 rfl rfl)
theorem dX0_passes_59 : decode cX0_passes 59 = .ok (.iaload, 1) := dk_46 (dk_at dksX0_passes_2 12 rfl rfl)
theorem dX0_passes_60 : decode cX0_passes 60 = .ok (.invokevirtual 177, 3) := dk_182 0 177 (dk_at dksX0_passes_2 13 rfl rfl)
theorem dX0_passes_63 : decode cX0_passes 63 = .ok (.isub, 1) := dk_100 (dk_at dksX0_passes_2 16 rfl rfl)
theorem dX0_passes_64 : decode cX0_passes 64 = .ok (.invokestatic 181, 3) := dk_184 0 181 (dk_at dksX0_passes_2 17 rfl rfl)
theorem dX0_passes_67 : decode cX0_passes 67 = .ok (.iastore, 1) := dk_79 (dk_at dksX0_passes_2 20 rfl rfl)
theorem dX0_passes_68 : decode cX0_passes 68 = .ok (.goto 32, 3) := dk_167 0 32 (dk_at dksX0_passes_2 21 rfl rfl)
theorem dX0_passes_71 : decode cX0_passes 71 = .ok (.aload_n 2, 1) := dk_44 (dk_at dksX0_passes_3 0 rfl rfl)
theorem dX0_passes_72 : decode cX0_passes 72 = .ok (.bipush 10, 2) := dk_16 10 (dk_at dksX0_passes_3 1 rfl rfl)
theorem dX0_passes_74 : decode cX0_passes 74 = .ok (.iload_n 3, 1) := dk_29 (dk_at dksX0_passes_3 3 rfl rfl)
theorem dX0_passes_75 : decode cX0_passes 75 = .ok (.iadd, 1) := dk_96 (dk_at dksX0_passes_3 4 rfl rfl)
theorem dX0_passes_76 : decode cX0_passes 76 = .ok (.sipush 9999, 3) := dk_17 39 15 (dk_at dksX0_passes_3 5 rfl rfl)
theorem dX0_passes_79 : decode cX0_passes 79 = .ok (.aload_n 2, 1) := dk_44 (dk_at dksX0_passes_3 8 rfl rfl)
theorem dX0_passes_80 : decode cX0_passes 80 = .ok (.bipush 10, 2) := dk_16 10 (dk_at dksX0_passes_3 9 rfl rfl)
theorem dX0_passes_82 : decode cX0_passes 82 = .ok (.iload_n 3, 1) := dk_29 (dk_at dksX0_passes_3 11 rfl rfl)
theorem dX0_passes_83 : decode cX0_passes 83 = .ok (.iadd, 1) := dk_96 (dk_at dksX0_passes_3 12 rfl rfl)
theorem dX0_passes_84 : decode cX0_passes 84 = .ok (.iaload, 1) := dk_46 (dk_at dksX0_passes_3 13 rfl rfl)
theorem dX0_passes_85 : decode cX0_passes 85 = .ok (.aload_n 0, 1) := dk_42 (dk_at dksX0_passes_3 14 rfl rfl)
theorem dX0_passes_86 : decode cX0_passes 86 = .ok (.aload_n 1, 1) := dk_43 (dk_at dksX0_passes_3 15 rfl rfl)
theorem dX0_passes_87 : decode cX0_passes 87 = .ok (.aload_n 2, 1) := dk_44 (dk_at dksX0_passes_3 16 rfl rfl)
theorem dX0_passes_88 : decode cX0_passes 88 = .ok (.iload_n 3, 1) := dk_29 (dk_at dksX0_passes_3 17 rfl rfl)
theorem dX0_passes_89 : decode cX0_passes 89 = .ok (.aload_n 2, 1) := dk_44 (dk_at dksX0_passes_3 18 rfl rfl)
theorem dX0_passes_90 : decode cX0_passes 90 = .ok (.iconst 0, 1) := dk_3 (dk_at dksX0_passes_3 19 rfl rfl)
theorem dX0_passes_91 : decode cX0_passes 91 = .ok (.iaload, 1) := dk_46 (dk_at dksX0_passes_3 20 rfl rfl)
theorem dX0_passes_92 : decode cX0_passes 92 = .ok (.invokevirtual 184, 3) := dk_182 0 184 (dk_at dksX0_passes_3 21 rfl rfl)
theorem dX0_passes_95 : decode cX0_passes 95 = .ok (.iadd, 1) := dk_96 (dk_at dksX0_passes_4 0 rfl rfl)
theorem dX0_passes_96 : decode cX0_passes 96 = .ok (.invokestatic 187, 3) := dk_184 0 187 (dk_at dksX0_passes_4 1 rfl rfl)
theorem dX0_passes_99 : decode cX0_passes 99 = .ok (.iastore, 1) := dk_79 (dk_at dksX0_passes_4 4 rfl rfl)
theorem dX0_passes_100 : decode cX0_passes 100 = .ok (.iinc 3 1, 3) := dk_132 3 1 (dk_at dksX0_passes_4 5 rfl rfl)
theorem dX0_passes_103 : decode cX0_passes 103 = .ok (.goto (-101), 3) := dk_167 255 155 (dk_at dksX0_passes_4 8 rfl rfl)
theorem dX0_passes_106 : decode cX0_passes 106 = .ok (.aload_n 2, 1) := dk_44 (dk_at dksX0_passes_4 11 rfl rfl)
theorem dX0_passes_107 : decode cX0_passes 107 = .ok (.iconst 0, 1) := dk_3 (dk_at dksX0_passes_4 12 rfl rfl)
theorem dX0_passes_108 : decode cX0_passes 108 = .ok (.dup2, 1) := dk_92 (dk_at dksX0_passes_4 13 rfl rfl)
theorem dX0_passes_109 : decode cX0_passes 109 = .ok (.iaload, 1) := dk_46 (dk_at dksX0_passes_4 14 rfl rfl)
theorem dX0_passes_110 : decode cX0_passes 110 = .ok (.iconst 1, 1) := dk_4 (dk_at dksX0_passes_4 15 rfl rfl)
theorem dX0_passes_111 : decode cX0_passes 111 = .ok (.iadd, 1) := dk_96 (dk_at dksX0_passes_4 16 rfl rfl)
theorem dX0_passes_112 : decode cX0_passes 112 = .ok (.iastore, 1) := dk_79 (dk_at dksX0_passes_4 17 rfl rfl)
theorem dX0_passes_113 : decode cX0_passes 113 = .ok (.return_, 1) := dk_177 (dk_at dksX0_passes_4 18 rfl rfl)
abbrev cX0_isGone : ByteArray := prog_1_method_6_code
def yX0_isGone : MethodName := ⟨RX0, "isGone", "([II)Z"⟩
def dkwX0_isGone_0 : List UInt8 := [42, 5, 46, 27, 184, 0, 66, 172]
abbrev dktX0_isGone_0 : List UInt8 := dkwX0_isGone_0 ++ []
theorem dksX0_isGone_0 : cX0_isGone.data.toList.drop 0 = dktX0_isGone_0 := by decide +kernel
theorem dX0_isGone_0 : decode cX0_isGone 0 = .ok (.aload_n 0, 1) := dk_42 (dk_at dksX0_isGone_0 0 rfl rfl)
theorem dX0_isGone_1 : decode cX0_isGone 1 = .ok (.iconst 2, 1) := dk_5 (dk_at dksX0_isGone_0 1 rfl rfl)
theorem dX0_isGone_2 : decode cX0_isGone 2 = .ok (.iaload, 1) := dk_46 (dk_at dksX0_isGone_0 2 rfl rfl)
theorem dX0_isGone_3 : decode cX0_isGone 3 = .ok (.iload_n 1, 1) := dk_27 (dk_at dksX0_isGone_0 3 rfl rfl)
theorem dX0_isGone_4 : decode cX0_isGone 4 = .ok (.invokestatic 66, 3) := dk_184 0 66 (dk_at dksX0_isGone_0 4 rfl rfl)
theorem dX0_isGone_7 : decode cX0_isGone 7 = .ok (.ireturn, 1) := dk_172 (dk_at dksX0_isGone_0 7 rfl rfl)
abbrev cX0_has : ByteArray := prog_1_method_2_code
def yX0_has : MethodName := ⟨RX0, "has", "(II)Z"⟩
def dkwX0_has_0 : List UInt8 := [26, 27, 122, 4, 126, 4, 160, 0, 7, 4, 167, 0, 4, 3, 172]
abbrev dktX0_has_0 : List UInt8 := dkwX0_has_0 ++ []
theorem dksX0_has_0 : cX0_has.data.toList.drop 0 = dktX0_has_0 := by decide +kernel
theorem dX0_has_0 : decode cX0_has 0 = .ok (.iload_n 0, 1) := dk_26 (dk_at dksX0_has_0 0 rfl rfl)
theorem dX0_has_1 : decode cX0_has 1 = .ok (.iload_n 1, 1) := dk_27 (dk_at dksX0_has_0 1 rfl rfl)
theorem dX0_has_2 : decode cX0_has 2 = .ok (.ishr, 1) := dk_122 (dk_at dksX0_has_0 2 rfl rfl)
theorem dX0_has_3 : decode cX0_has 3 = .ok (.iconst 1, 1) := dk_4 (dk_at dksX0_has_0 3 rfl rfl)
theorem dX0_has_4 : decode cX0_has 4 = .ok (.iand, 1) := dk_126 (dk_at dksX0_has_0 4 rfl rfl)
theorem dX0_has_5 : decode cX0_has 5 = .ok (.iconst 1, 1) := dk_4 (dk_at dksX0_has_0 5 rfl rfl)
theorem dX0_has_6 : decode cX0_has 6 = .ok (.if_icmp .ne 7, 3) := dk_160 0 7 (dk_at dksX0_has_0 6 rfl rfl)
theorem dX0_has_9 : decode cX0_has 9 = .ok (.iconst 1, 1) := dk_4 (dk_at dksX0_has_0 9 rfl rfl)
theorem dX0_has_10 : decode cX0_has 10 = .ok (.goto 4, 3) := dk_167 0 4 (dk_at dksX0_has_0 10 rfl rfl)
theorem dX0_has_13 : decode cX0_has 13 = .ok (.iconst 0, 1) := dk_3 (dk_at dksX0_has_0 13 rfl rfl)
theorem dX0_has_14 : decode cX0_has 14 = .ok (.ireturn, 1) := dk_172 (dk_at dksX0_has_0 14 rfl rfl)
abbrev cX0_date : ByteArray := prog_1_method_27_code
def yX0_date : MethodName := ⟨RX0, "date", "([I)I"⟩
def dkwX0_date_0 : List UInt8 := [42, 3, 46, 16, 20, 112, 172]
abbrev dktX0_date_0 : List UInt8 := dkwX0_date_0 ++ []
theorem dksX0_date_0 : cX0_date.data.toList.drop 0 = dktX0_date_0 := by decide +kernel
theorem dX0_date_0 : decode cX0_date 0 = .ok (.aload_n 0, 1) := dk_42 (dk_at dksX0_date_0 0 rfl rfl)
theorem dX0_date_1 : decode cX0_date 1 = .ok (.iconst 0, 1) := dk_3 (dk_at dksX0_date_0 1 rfl rfl)
theorem dX0_date_2 : decode cX0_date 2 = .ok (.iaload, 1) := dk_46 (dk_at dksX0_date_0 2 rfl rfl)
theorem dX0_date_3 : decode cX0_date 3 = .ok (.bipush 20, 2) := dk_16 20 (dk_at dksX0_date_0 3 rfl rfl)
theorem dX0_date_5 : decode cX0_date 5 = .ok (.irem, 1) := dk_112 (dk_at dksX0_date_0 5 rfl rfl)
theorem dX0_date_6 : decode cX0_date 6 = .ok (.ireturn, 1) := dk_172 (dk_at dksX0_date_0 6 rfl rfl)
abbrev cX0_losesBy : ByteArray := prog_1_method_25_code
def yX0_losesBy : MethodName := ⟨RX0, "losesBy", "(LShutDays$Text;[III)I"⟩
def dkwX0_losesBy_1 : List UInt8 := [180, 0, 158, 42, 180, 0, 39, 185, 0, 148, 2, 0, 3, 16, 99, 184, 0, 154, 172]
abbrev dktX0_losesBy_1 : List UInt8 := dkwX0_losesBy_1 ++ []
def dkwX0_losesBy_0 : List UInt8 := [42, 44, 29, 21, 4, 182, 0, 139, 43, 180, 0, 158, 199, 0, 9, 20, 0, 161, 167, 0, 16, 43]
abbrev dktX0_losesBy_0 : List UInt8 := dkwX0_losesBy_0 ++ dktX0_losesBy_1
theorem dksX0_losesBy_0 : cX0_losesBy.data.toList.drop 0 = dktX0_losesBy_0 := by decide +kernel
theorem dksX0_losesBy_1 : cX0_losesBy.data.toList.drop 22 = dktX0_losesBy_1 := dk_seg dksX0_losesBy_0 22 rfl rfl
theorem dX0_losesBy_0 : decode cX0_losesBy 0 = .ok (.aload_n 0, 1) := dk_42 (dk_at dksX0_losesBy_0 0 rfl rfl)
theorem dX0_losesBy_1 : decode cX0_losesBy 1 = .ok (.aload_n 2, 1) := dk_44 (dk_at dksX0_losesBy_0 1 rfl rfl)
theorem dX0_losesBy_2 : decode cX0_losesBy 2 = .ok (.iload_n 3, 1) := dk_29 (dk_at dksX0_losesBy_0 2 rfl rfl)
theorem dX0_losesBy_3 : decode cX0_losesBy 3 = .ok (.iload 4, 2) := dk_21 4 (dk_at dksX0_losesBy_0 3 rfl rfl)
theorem dX0_losesBy_5 : decode cX0_losesBy 5 = .ok (.invokevirtual 139, 3) := dk_182 0 139 (dk_at dksX0_losesBy_0 5 rfl rfl)
theorem dX0_losesBy_8 : decode cX0_losesBy 8 = .ok (.aload_n 1, 1) := dk_43 (dk_at dksX0_losesBy_0 8 rfl rfl)
theorem dX0_losesBy_9 : decode cX0_losesBy 9 = .ok (.getfield 158, 3) := dk_180 0 158 (dk_at dksX0_losesBy_0 9 rfl rfl)
theorem dX0_losesBy_12 : decode cX0_losesBy 12 = .ok (.ifnonnull 9, 3) := dk_199 0 9 (dk_at dksX0_losesBy_0 12 rfl rfl)
theorem dX0_losesBy_15 : decode cX0_losesBy 15 = .ok (.ldc2_w 161, 3) := dk_20 0 161 (dk_at dksX0_losesBy_0 15 rfl rfl)
theorem dX0_losesBy_18 : decode cX0_losesBy 18 = .ok (.goto 16, 3) := dk_167 0 16 (dk_at dksX0_losesBy_0 18 rfl rfl)
theorem dX0_losesBy_21 : decode cX0_losesBy 21 = .ok (.aload_n 1, 1) := dk_43 (dk_at dksX0_losesBy_0 21 rfl rfl)
theorem dX0_losesBy_22 : decode cX0_losesBy 22 = .ok (.getfield 158, 3) := dk_180 0 158 (dk_at dksX0_losesBy_1 0 rfl rfl)
theorem dX0_losesBy_25 : decode cX0_losesBy 25 = .ok (.aload_n 0, 1) := dk_42 (dk_at dksX0_losesBy_1 3 rfl rfl)
theorem dX0_losesBy_26 : decode cX0_losesBy 26 = .ok (.getfield 39, 3) := dk_180 0 39 (dk_at dksX0_losesBy_1 4 rfl rfl)
theorem dX0_losesBy_29 : decode cX0_losesBy 29 = .ok (.invokeinterface 148 2, 5) := by decide +kernel
theorem dX0_losesBy_34 : decode cX0_losesBy 34 = .ok (.iconst 0, 1) := dk_3 (dk_at dksX0_losesBy_1 12 rfl rfl)
theorem dX0_losesBy_35 : decode cX0_losesBy 35 = .ok (.bipush 99, 2) := dk_16 99 (dk_at dksX0_losesBy_1 13 rfl rfl)
theorem dX0_losesBy_37 : decode cX0_losesBy 37 = .ok (.invokestatic 154, 3) := dk_184 0 154 (dk_at dksX0_losesBy_1 15 rfl rfl)
theorem dX0_losesBy_40 : decode cX0_losesBy 40 = .ok (.ireturn, 1) := dk_172 (dk_at dksX0_losesBy_1 18 rfl rfl)
abbrev cX0_names : ByteArray := prog_1_method_23_code
def yX0_names : MethodName := ⟨RX0, "names", "([III)V"⟩
def dkwX0_names_4 : List UInt8 := [79, 177]
abbrev dktX0_names_4 : List UInt8 := dkwX0_names_4 ++ []
def dkwX0_names_3 : List UInt8 := [16, 6, 42, 43, 21, 4, 182, 0, 131, 79, 42, 180, 0, 39, 16, 7, 42, 43, 28, 21, 4, 182, 0, 135]
abbrev dktX0_names_3 : List UInt8 := dkwX0_names_3 ++ dktX0_names_4
def dkwX0_names_2 : List UInt8 := [16, 17, 28, 96, 46, 79, 42, 180, 0, 39, 8, 43, 6, 28, 96, 46, 184, 0, 126, 79, 42, 180, 0, 39]
abbrev dktX0_names_2 : List UInt8 := dkwX0_names_2 ++ dktX0_names_3
def dkwX0_names_1 : List UInt8 := [180, 0, 39, 5, 28, 79, 42, 180, 0, 39, 6, 43, 16, 10, 28, 96, 46, 79, 42, 180, 0, 39, 7, 43]
abbrev dktX0_names_1 : List UInt8 := dkwX0_names_1 ++ dktX0_names_2
def dkwX0_names_0 : List UInt8 := [29, 16, 20, 112, 54, 4, 42, 180, 0, 39, 3, 29, 79, 42, 180, 0, 39, 4, 21, 4, 79, 42]
abbrev dktX0_names_0 : List UInt8 := dkwX0_names_0 ++ dktX0_names_1
theorem dksX0_names_0 : cX0_names.data.toList.drop 0 = dktX0_names_0 := by decide +kernel
theorem dksX0_names_1 : cX0_names.data.toList.drop 22 = dktX0_names_1 := dk_seg dksX0_names_0 22 rfl rfl
theorem dksX0_names_2 : cX0_names.data.toList.drop 46 = dktX0_names_2 := dk_seg dksX0_names_1 24 rfl rfl
theorem dksX0_names_3 : cX0_names.data.toList.drop 70 = dktX0_names_3 := dk_seg dksX0_names_2 24 rfl rfl
theorem dksX0_names_4 : cX0_names.data.toList.drop 94 = dktX0_names_4 := dk_seg dksX0_names_3 24 rfl rfl
theorem dX0_names_0 : decode cX0_names 0 = .ok (.iload_n 3, 1) := dk_29 (dk_at dksX0_names_0 0 rfl rfl)
theorem dX0_names_1 : decode cX0_names 1 = .ok (.bipush 20, 2) := dk_16 20 (dk_at dksX0_names_0 1 rfl rfl)
theorem dX0_names_3 : decode cX0_names 3 = .ok (.irem, 1) := dk_112 (dk_at dksX0_names_0 3 rfl rfl)
theorem dX0_names_4 : decode cX0_names 4 = .ok (.istore 4, 2) := dk_54 4 (dk_at dksX0_names_0 4 rfl rfl)
theorem dX0_names_6 : decode cX0_names 6 = .ok (.aload_n 0, 1) := dk_42 (dk_at dksX0_names_0 6 rfl rfl)
theorem dX0_names_7 : decode cX0_names 7 = .ok (.getfield 39, 3) := dk_180 0 39 (dk_at dksX0_names_0 7 rfl rfl)
theorem dX0_names_10 : decode cX0_names 10 = .ok (.iconst 0, 1) := dk_3 (dk_at dksX0_names_0 10 rfl rfl)
theorem dX0_names_11 : decode cX0_names 11 = .ok (.iload_n 3, 1) := dk_29 (dk_at dksX0_names_0 11 rfl rfl)
theorem dX0_names_12 : decode cX0_names 12 = .ok (.iastore, 1) := dk_79 (dk_at dksX0_names_0 12 rfl rfl)
theorem dX0_names_13 : decode cX0_names 13 = .ok (.aload_n 0, 1) := dk_42 (dk_at dksX0_names_0 13 rfl rfl)
theorem dX0_names_14 : decode cX0_names 14 = .ok (.getfield 39, 3) := dk_180 0 39 (dk_at dksX0_names_0 14 rfl rfl)
theorem dX0_names_17 : decode cX0_names 17 = .ok (.iconst 1, 1) := dk_4 (dk_at dksX0_names_0 17 rfl rfl)
theorem dX0_names_18 : decode cX0_names 18 = .ok (.iload 4, 2) := dk_21 4 (dk_at dksX0_names_0 18 rfl rfl)
theorem dX0_names_20 : decode cX0_names 20 = .ok (.iastore, 1) := dk_79 (dk_at dksX0_names_0 20 rfl rfl)
theorem dX0_names_21 : decode cX0_names 21 = .ok (.aload_n 0, 1) := dk_42 (dk_at dksX0_names_0 21 rfl rfl)
theorem dX0_names_22 : decode cX0_names 22 = .ok (.getfield 39, 3) := dk_180 0 39 (dk_at dksX0_names_1 0 rfl rfl)
theorem dX0_names_25 : decode cX0_names 25 = .ok (.iconst 2, 1) := dk_5 (dk_at dksX0_names_1 3 rfl rfl)
theorem dX0_names_26 : decode cX0_names 26 = .ok (.iload_n 2, 1) := dk_28 (dk_at dksX0_names_1 4 rfl rfl)
theorem dX0_names_27 : decode cX0_names 27 = .ok (.iastore, 1) := dk_79 (dk_at dksX0_names_1 5 rfl rfl)
theorem dX0_names_28 : decode cX0_names 28 = .ok (.aload_n 0, 1) := dk_42 (dk_at dksX0_names_1 6 rfl rfl)
theorem dX0_names_29 : decode cX0_names 29 = .ok (.getfield 39, 3) := dk_180 0 39 (dk_at dksX0_names_1 7 rfl rfl)
theorem dX0_names_32 : decode cX0_names 32 = .ok (.iconst 3, 1) := dk_6 (dk_at dksX0_names_1 10 rfl rfl)
theorem dX0_names_33 : decode cX0_names 33 = .ok (.aload_n 1, 1) := dk_43 (dk_at dksX0_names_1 11 rfl rfl)
theorem dX0_names_34 : decode cX0_names 34 = .ok (.bipush 10, 2) := dk_16 10 (dk_at dksX0_names_1 12 rfl rfl)
theorem dX0_names_36 : decode cX0_names 36 = .ok (.iload_n 2, 1) := dk_28 (dk_at dksX0_names_1 14 rfl rfl)
theorem dX0_names_37 : decode cX0_names 37 = .ok (.iadd, 1) := dk_96 (dk_at dksX0_names_1 15 rfl rfl)
theorem dX0_names_38 : decode cX0_names 38 = .ok (.iaload, 1) := dk_46 (dk_at dksX0_names_1 16 rfl rfl)
theorem dX0_names_39 : decode cX0_names 39 = .ok (.iastore, 1) := dk_79 (dk_at dksX0_names_1 17 rfl rfl)
theorem dX0_names_40 : decode cX0_names 40 = .ok (.aload_n 0, 1) := dk_42 (dk_at dksX0_names_1 18 rfl rfl)
theorem dX0_names_41 : decode cX0_names 41 = .ok (.getfield 39, 3) := dk_180 0 39 (dk_at dksX0_names_1 19 rfl rfl)
theorem dX0_names_44 : decode cX0_names 44 = .ok (.iconst 4, 1) := dk_7 (dk_at dksX0_names_1 22 rfl rfl)
theorem dX0_names_45 : decode cX0_names 45 = .ok (.aload_n 1, 1) := dk_43 (dk_at dksX0_names_1 23 rfl rfl)
theorem dX0_names_46 : decode cX0_names 46 = .ok (.bipush 17, 2) := dk_16 17 (dk_at dksX0_names_2 0 rfl rfl)
theorem dX0_names_48 : decode cX0_names 48 = .ok (.iload_n 2, 1) := dk_28 (dk_at dksX0_names_2 2 rfl rfl)
theorem dX0_names_49 : decode cX0_names 49 = .ok (.iadd, 1) := dk_96 (dk_at dksX0_names_2 3 rfl rfl)
theorem dX0_names_50 : decode cX0_names 50 = .ok (.iaload, 1) := dk_46 (dk_at dksX0_names_2 4 rfl rfl)
theorem dX0_names_51 : decode cX0_names 51 = .ok (.iastore, 1) := dk_79 (dk_at dksX0_names_2 5 rfl rfl)
theorem dX0_names_52 : decode cX0_names 52 = .ok (.aload_n 0, 1) := dk_42 (dk_at dksX0_names_2 6 rfl rfl)
theorem dX0_names_53 : decode cX0_names 53 = .ok (.getfield 39, 3) := dk_180 0 39 (dk_at dksX0_names_2 7 rfl rfl)
theorem dX0_names_56 : decode cX0_names 56 = .ok (.iconst 5, 1) := dk_8 (dk_at dksX0_names_2 10 rfl rfl)
theorem dX0_names_57 : decode cX0_names 57 = .ok (.aload_n 1, 1) := dk_43 (dk_at dksX0_names_2 11 rfl rfl)
theorem dX0_names_58 : decode cX0_names 58 = .ok (.iconst 3, 1) := dk_6 (dk_at dksX0_names_2 12 rfl rfl)
theorem dX0_names_59 : decode cX0_names 59 = .ok (.iload_n 2, 1) := dk_28 (dk_at dksX0_names_2 13 rfl rfl)
theorem dX0_names_60 : decode cX0_names 60 = .ok (.iadd, 1) := dk_96 (dk_at dksX0_names_2 14 rfl rfl)
theorem dX0_names_61 : decode cX0_names 61 = .ok (.iaload, 1) := dk_46 (dk_at dksX0_names_2 15 rfl rfl)
theorem dX0_names_62 : decode cX0_names 62 = .ok (.invokestatic 126, 3) := dk_184 0 126 (dk_at dksX0_names_2 16 rfl rfl)
theorem dX0_names_65 : decode cX0_names 65 = .ok (.iastore, 1) := dk_79 (dk_at dksX0_names_2 19 rfl rfl)
theorem dX0_names_66 : decode cX0_names 66 = .ok (.aload_n 0, 1) := dk_42 (dk_at dksX0_names_2 20 rfl rfl)
theorem dX0_names_67 : decode cX0_names 67 = .ok (.getfield 39, 3) := dk_180 0 39 (dk_at dksX0_names_2 21 rfl rfl)
theorem dX0_names_70 : decode cX0_names 70 = .ok (.bipush 6, 2) := dk_16 6 (dk_at dksX0_names_3 0 rfl rfl)
theorem dX0_names_72 : decode cX0_names 72 = .ok (.aload_n 0, 1) := dk_42 (dk_at dksX0_names_3 2 rfl rfl)
theorem dX0_names_73 : decode cX0_names 73 = .ok (.aload_n 1, 1) := dk_43 (dk_at dksX0_names_3 3 rfl rfl)
theorem dX0_names_74 : decode cX0_names 74 = .ok (.iload 4, 2) := dk_21 4 (dk_at dksX0_names_3 4 rfl rfl)
theorem dX0_names_76 : decode cX0_names 76 = .ok (.invokevirtual 131, 3) := dk_182 0 131 (dk_at dksX0_names_3 6 rfl rfl)
theorem dX0_names_79 : decode cX0_names 79 = .ok (.iastore, 1) := dk_79 (dk_at dksX0_names_3 9 rfl rfl)
theorem dX0_names_80 : decode cX0_names 80 = .ok (.aload_n 0, 1) := dk_42 (dk_at dksX0_names_3 10 rfl rfl)
theorem dX0_names_81 : decode cX0_names 81 = .ok (.getfield 39, 3) := dk_180 0 39 (dk_at dksX0_names_3 11 rfl rfl)
theorem dX0_names_84 : decode cX0_names 84 = .ok (.bipush 7, 2) := dk_16 7 (dk_at dksX0_names_3 14 rfl rfl)
theorem dX0_names_86 : decode cX0_names 86 = .ok (.aload_n 0, 1) := dk_42 (dk_at dksX0_names_3 16 rfl rfl)
theorem dX0_names_87 : decode cX0_names 87 = .ok (.aload_n 1, 1) := dk_43 (dk_at dksX0_names_3 17 rfl rfl)
theorem dX0_names_88 : decode cX0_names 88 = .ok (.iload_n 2, 1) := dk_28 (dk_at dksX0_names_3 18 rfl rfl)
theorem dX0_names_89 : decode cX0_names 89 = .ok (.iload 4, 2) := dk_21 4 (dk_at dksX0_names_3 19 rfl rfl)
theorem dX0_names_91 : decode cX0_names 91 = .ok (.invokevirtual 135, 3) := dk_182 0 135 (dk_at dksX0_names_3 21 rfl rfl)
theorem dX0_names_94 : decode cX0_names 94 = .ok (.iastore, 1) := dk_79 (dk_at dksX0_names_4 0 rfl rfl)
theorem dX0_names_95 : decode cX0_names 95 = .ok (.return_, 1) := dk_177 (dk_at dksX0_names_4 1 rfl rfl)
abbrev cX0_openOn : ByteArray := prog_1_method_21_code
def yX0_openOn : MethodName := ⟨RX0, "openOn", "([II)I"⟩
def dkwX0_openOn_1 : List UInt8 := [28, 182, 0, 122, 153, 0, 7, 4, 167, 0, 4, 3, 96, 62, 132, 4, 1, 167, 255, 220, 29, 172]
abbrev dktX0_openOn_1 : List UInt8 := dkwX0_openOn_1 ++ []
def dkwX0_openOn_0 : List UInt8 := [3, 62, 3, 54, 4, 21, 4, 42, 180, 0, 21, 180, 0, 59, 3, 46, 162, 0, 28, 29, 42, 43, 21, 4]
abbrev dktX0_openOn_0 : List UInt8 := dkwX0_openOn_0 ++ dktX0_openOn_1
theorem dksX0_openOn_0 : cX0_openOn.data.toList.drop 0 = dktX0_openOn_0 := by decide +kernel
theorem dksX0_openOn_1 : cX0_openOn.data.toList.drop 24 = dktX0_openOn_1 := dk_seg dksX0_openOn_0 24 rfl rfl
theorem dX0_openOn_0 : decode cX0_openOn 0 = .ok (.iconst 0, 1) := dk_3 (dk_at dksX0_openOn_0 0 rfl rfl)
theorem dX0_openOn_1 : decode cX0_openOn 1 = .ok (.istore_n 3, 1) := dk_62 (dk_at dksX0_openOn_0 1 rfl rfl)
theorem dX0_openOn_2 : decode cX0_openOn 2 = .ok (.iconst 0, 1) := dk_3 (dk_at dksX0_openOn_0 2 rfl rfl)
theorem dX0_openOn_3 : decode cX0_openOn 3 = .ok (.istore 4, 2) := dk_54 4 (dk_at dksX0_openOn_0 3 rfl rfl)
theorem dX0_openOn_5 : decode cX0_openOn 5 = .ok (.iload 4, 2) := dk_21 4 (dk_at dksX0_openOn_0 5 rfl rfl)
theorem dX0_openOn_7 : decode cX0_openOn 7 = .ok (.aload_n 0, 1) := dk_42 (dk_at dksX0_openOn_0 7 rfl rfl)
theorem dX0_openOn_8 : decode cX0_openOn 8 = .ok (.getfield 21, 3) := dk_180 0 21 (dk_at dksX0_openOn_0 8 rfl rfl)
theorem dX0_openOn_11 : decode cX0_openOn 11 = .ok (.getfield 59, 3) := dk_180 0 59 (dk_at dksX0_openOn_0 11 rfl rfl)
theorem dX0_openOn_14 : decode cX0_openOn 14 = .ok (.iconst 0, 1) := dk_3 (dk_at dksX0_openOn_0 14 rfl rfl)
theorem dX0_openOn_15 : decode cX0_openOn 15 = .ok (.iaload, 1) := dk_46 (dk_at dksX0_openOn_0 15 rfl rfl)
theorem dX0_openOn_16 : decode cX0_openOn 16 = .ok (.if_icmp .ge 28, 3) := dk_162 0 28 (dk_at dksX0_openOn_0 16 rfl rfl)
theorem dX0_openOn_19 : decode cX0_openOn 19 = .ok (.iload_n 3, 1) := dk_29 (dk_at dksX0_openOn_0 19 rfl rfl)
theorem dX0_openOn_20 : decode cX0_openOn 20 = .ok (.aload_n 0, 1) := dk_42 (dk_at dksX0_openOn_0 20 rfl rfl)
theorem dX0_openOn_21 : decode cX0_openOn 21 = .ok (.aload_n 1, 1) := dk_43 (dk_at dksX0_openOn_0 21 rfl rfl)
theorem dX0_openOn_22 : decode cX0_openOn 22 = .ok (.iload 4, 2) := dk_21 4 (dk_at dksX0_openOn_0 22 rfl rfl)
theorem dX0_openOn_24 : decode cX0_openOn 24 = .ok (.iload_n 2, 1) := dk_28 (dk_at dksX0_openOn_1 0 rfl rfl)
theorem dX0_openOn_25 : decode cX0_openOn 25 = .ok (.invokevirtual 122, 3) := dk_182 0 122 (dk_at dksX0_openOn_1 1 rfl rfl)
theorem dX0_openOn_28 : decode cX0_openOn 28 = .ok (.ifCond .eq 7, 3) := dk_153 0 7 (dk_at dksX0_openOn_1 4 rfl rfl)
theorem dX0_openOn_31 : decode cX0_openOn 31 = .ok (.iconst 1, 1) := dk_4 (dk_at dksX0_openOn_1 7 rfl rfl)
theorem dX0_openOn_32 : decode cX0_openOn 32 = .ok (.goto 4, 3) := dk_167 0 4 (dk_at dksX0_openOn_1 8 rfl rfl)
theorem dX0_openOn_35 : decode cX0_openOn 35 = .ok (.iconst 0, 1) := dk_3 (dk_at dksX0_openOn_1 11 rfl rfl)
theorem dX0_openOn_36 : decode cX0_openOn 36 = .ok (.iadd, 1) := dk_96 (dk_at dksX0_openOn_1 12 rfl rfl)
theorem dX0_openOn_37 : decode cX0_openOn 37 = .ok (.istore_n 3, 1) := dk_62 (dk_at dksX0_openOn_1 13 rfl rfl)
theorem dX0_openOn_38 : decode cX0_openOn 38 = .ok (.iinc 4 1, 3) := dk_132 4 1 (dk_at dksX0_openOn_1 14 rfl rfl)
theorem dX0_openOn_41 : decode cX0_openOn 41 = .ok (.goto (-36), 3) := dk_167 255 220 (dk_at dksX0_openOn_1 17 rfl rfl)
theorem dX0_openOn_44 : decode cX0_openOn 44 = .ok (.iload_n 3, 1) := dk_29 (dk_at dksX0_openOn_1 20 rfl rfl)
theorem dX0_openOn_45 : decode cX0_openOn 45 = .ok (.ireturn, 1) := dk_172 (dk_at dksX0_openOn_1 21 rfl rfl)
abbrev cX0_isOpen : ByteArray := prog_1_method_20_code
def yX0_isOpen : MethodName := ⟨RX0, "isOpen", "([III)Z"⟩
def dkwX0_isOpen_1 : List UInt8 := [184, 0, 66, 154, 0, 7, 4, 167, 0, 4, 3, 172]
abbrev dktX0_isOpen_1 : List UInt8 := dkwX0_isOpen_1 ++ []
def dkwX0_isOpen_0 : List UInt8 := [42, 28, 182, 0, 70, 153, 0, 27, 43, 28, 184, 0, 77, 154, 0, 19, 43, 6, 28, 96, 46, 29]
abbrev dktX0_isOpen_0 : List UInt8 := dkwX0_isOpen_0 ++ dktX0_isOpen_1
theorem dksX0_isOpen_0 : cX0_isOpen.data.toList.drop 0 = dktX0_isOpen_0 := by decide +kernel
theorem dksX0_isOpen_1 : cX0_isOpen.data.toList.drop 22 = dktX0_isOpen_1 := dk_seg dksX0_isOpen_0 22 rfl rfl
theorem dX0_isOpen_0 : decode cX0_isOpen 0 = .ok (.aload_n 0, 1) := dk_42 (dk_at dksX0_isOpen_0 0 rfl rfl)
theorem dX0_isOpen_1 : decode cX0_isOpen 1 = .ok (.iload_n 2, 1) := dk_28 (dk_at dksX0_isOpen_0 1 rfl rfl)
theorem dX0_isOpen_2 : decode cX0_isOpen 2 = .ok (.invokevirtual 70, 3) := dk_182 0 70 (dk_at dksX0_isOpen_0 2 rfl rfl)
theorem dX0_isOpen_5 : decode cX0_isOpen 5 = .ok (.ifCond .eq 27, 3) := dk_153 0 27 (dk_at dksX0_isOpen_0 5 rfl rfl)
theorem dX0_isOpen_8 : decode cX0_isOpen 8 = .ok (.aload_n 1, 1) := dk_43 (dk_at dksX0_isOpen_0 8 rfl rfl)
theorem dX0_isOpen_9 : decode cX0_isOpen 9 = .ok (.iload_n 2, 1) := dk_28 (dk_at dksX0_isOpen_0 9 rfl rfl)
theorem dX0_isOpen_10 : decode cX0_isOpen 10 = .ok (.invokestatic 77, 3) := dk_184 0 77 (dk_at dksX0_isOpen_0 10 rfl rfl)
theorem dX0_isOpen_13 : decode cX0_isOpen 13 = .ok (.ifCond .ne 19, 3) := dk_154 0 19 (dk_at dksX0_isOpen_0 13 rfl rfl)
theorem dX0_isOpen_16 : decode cX0_isOpen 16 = .ok (.aload_n 1, 1) := dk_43 (dk_at dksX0_isOpen_0 16 rfl rfl)
theorem dX0_isOpen_17 : decode cX0_isOpen 17 = .ok (.iconst 3, 1) := dk_6 (dk_at dksX0_isOpen_0 17 rfl rfl)
theorem dX0_isOpen_18 : decode cX0_isOpen 18 = .ok (.iload_n 2, 1) := dk_28 (dk_at dksX0_isOpen_0 18 rfl rfl)
theorem dX0_isOpen_19 : decode cX0_isOpen 19 = .ok (.iadd, 1) := dk_96 (dk_at dksX0_isOpen_0 19 rfl rfl)
theorem dX0_isOpen_20 : decode cX0_isOpen 20 = .ok (.iaload, 1) := dk_46 (dk_at dksX0_isOpen_0 20 rfl rfl)
theorem dX0_isOpen_21 : decode cX0_isOpen 21 = .ok (.iload_n 3, 1) := dk_29 (dk_at dksX0_isOpen_0 21 rfl rfl)
theorem dX0_isOpen_22 : decode cX0_isOpen 22 = .ok (.invokestatic 66, 3) := dk_184 0 66 (dk_at dksX0_isOpen_1 0 rfl rfl)
theorem dX0_isOpen_25 : decode cX0_isOpen 25 = .ok (.ifCond .ne 7, 3) := dk_154 0 7 (dk_at dksX0_isOpen_1 3 rfl rfl)
theorem dX0_isOpen_28 : decode cX0_isOpen 28 = .ok (.iconst 1, 1) := dk_4 (dk_at dksX0_isOpen_1 6 rfl rfl)
theorem dX0_isOpen_29 : decode cX0_isOpen 29 = .ok (.goto 4, 3) := dk_167 0 4 (dk_at dksX0_isOpen_1 7 rfl rfl)
theorem dX0_isOpen_32 : decode cX0_isOpen 32 = .ok (.iconst 0, 1) := dk_3 (dk_at dksX0_isOpen_1 10 rfl rfl)
theorem dX0_isOpen_33 : decode cX0_isOpen 33 = .ok (.ireturn, 1) := dk_172 (dk_at dksX0_isOpen_1 11 rfl rfl)
abbrev cX0_isHouse : ByteArray := prog_1_method_5_code
def yX0_isHouse : MethodName := ⟨RX0, "isHouse", "(I)Z"⟩
def dkwX0_isHouse_0 : List UInt8 := [27, 3, 42, 180, 0, 21, 180, 0, 59, 3, 46, 4, 100, 184, 0, 62, 172]
abbrev dktX0_isHouse_0 : List UInt8 := dkwX0_isHouse_0 ++ []
theorem dksX0_isHouse_0 : cX0_isHouse.data.toList.drop 0 = dktX0_isHouse_0 := by decide +kernel
theorem dX0_isHouse_0 : decode cX0_isHouse 0 = .ok (.iload_n 1, 1) := dk_27 (dk_at dksX0_isHouse_0 0 rfl rfl)
theorem dX0_isHouse_1 : decode cX0_isHouse 1 = .ok (.iconst 0, 1) := dk_3 (dk_at dksX0_isHouse_0 1 rfl rfl)
theorem dX0_isHouse_2 : decode cX0_isHouse 2 = .ok (.aload_n 0, 1) := dk_42 (dk_at dksX0_isHouse_0 2 rfl rfl)
theorem dX0_isHouse_3 : decode cX0_isHouse 3 = .ok (.getfield 21, 3) := dk_180 0 21 (dk_at dksX0_isHouse_0 3 rfl rfl)
theorem dX0_isHouse_6 : decode cX0_isHouse 6 = .ok (.getfield 59, 3) := dk_180 0 59 (dk_at dksX0_isHouse_0 6 rfl rfl)
theorem dX0_isHouse_9 : decode cX0_isHouse 9 = .ok (.iconst 0, 1) := dk_3 (dk_at dksX0_isHouse_0 9 rfl rfl)
theorem dX0_isHouse_10 : decode cX0_isHouse 10 = .ok (.iaload, 1) := dk_46 (dk_at dksX0_isHouse_0 10 rfl rfl)
theorem dX0_isHouse_11 : decode cX0_isHouse 11 = .ok (.iconst 1, 1) := dk_4 (dk_at dksX0_isHouse_0 11 rfl rfl)
theorem dX0_isHouse_12 : decode cX0_isHouse 12 = .ok (.isub, 1) := dk_100 (dk_at dksX0_isHouse_0 12 rfl rfl)
theorem dX0_isHouse_13 : decode cX0_isHouse 13 = .ok (.invokestatic 62, 3) := dk_184 0 62 (dk_at dksX0_isHouse_0 13 rfl rfl)
theorem dX0_isHouse_16 : decode cX0_isHouse 16 = .ok (.ireturn, 1) := dk_172 (dk_at dksX0_isHouse_0 16 rfl rfl)
abbrev cX0_besideOf : ByteArray := prog_1_method_22_code
def yX0_besideOf : MethodName := ⟨RX0, "besideOf", "([III)I"⟩
def dkwX0_besideOf_1 : List UInt8 := [182, 0, 122, 153, 0, 7, 4, 167, 0, 4, 3, 96, 172]
abbrev dktX0_besideOf_1 : List UInt8 := dkwX0_besideOf_1 ++ []
def dkwX0_besideOf_0 : List UInt8 := [42, 43, 28, 4, 100, 29, 182, 0, 122, 153, 0, 7, 4, 167, 0, 4, 3, 42, 43, 28, 4, 96, 29]
abbrev dktX0_besideOf_0 : List UInt8 := dkwX0_besideOf_0 ++ dktX0_besideOf_1
theorem dksX0_besideOf_0 : cX0_besideOf.data.toList.drop 0 = dktX0_besideOf_0 := by decide +kernel
theorem dksX0_besideOf_1 : cX0_besideOf.data.toList.drop 23 = dktX0_besideOf_1 := dk_seg dksX0_besideOf_0 23 rfl rfl
theorem dX0_besideOf_0 : decode cX0_besideOf 0 = .ok (.aload_n 0, 1) := dk_42 (dk_at dksX0_besideOf_0 0 rfl rfl)
theorem dX0_besideOf_1 : decode cX0_besideOf 1 = .ok (.aload_n 1, 1) := dk_43 (dk_at dksX0_besideOf_0 1 rfl rfl)
theorem dX0_besideOf_2 : decode cX0_besideOf 2 = .ok (.iload_n 2, 1) := dk_28 (dk_at dksX0_besideOf_0 2 rfl rfl)
theorem dX0_besideOf_3 : decode cX0_besideOf 3 = .ok (.iconst 1, 1) := dk_4 (dk_at dksX0_besideOf_0 3 rfl rfl)
theorem dX0_besideOf_4 : decode cX0_besideOf 4 = .ok (.isub, 1) := dk_100 (dk_at dksX0_besideOf_0 4 rfl rfl)
theorem dX0_besideOf_5 : decode cX0_besideOf 5 = .ok (.iload_n 3, 1) := dk_29 (dk_at dksX0_besideOf_0 5 rfl rfl)
theorem dX0_besideOf_6 : decode cX0_besideOf 6 = .ok (.invokevirtual 122, 3) := dk_182 0 122 (dk_at dksX0_besideOf_0 6 rfl rfl)
theorem dX0_besideOf_9 : decode cX0_besideOf 9 = .ok (.ifCond .eq 7, 3) := dk_153 0 7 (dk_at dksX0_besideOf_0 9 rfl rfl)
theorem dX0_besideOf_12 : decode cX0_besideOf 12 = .ok (.iconst 1, 1) := dk_4 (dk_at dksX0_besideOf_0 12 rfl rfl)
theorem dX0_besideOf_13 : decode cX0_besideOf 13 = .ok (.goto 4, 3) := dk_167 0 4 (dk_at dksX0_besideOf_0 13 rfl rfl)
theorem dX0_besideOf_16 : decode cX0_besideOf 16 = .ok (.iconst 0, 1) := dk_3 (dk_at dksX0_besideOf_0 16 rfl rfl)
theorem dX0_besideOf_17 : decode cX0_besideOf 17 = .ok (.aload_n 0, 1) := dk_42 (dk_at dksX0_besideOf_0 17 rfl rfl)
theorem dX0_besideOf_18 : decode cX0_besideOf 18 = .ok (.aload_n 1, 1) := dk_43 (dk_at dksX0_besideOf_0 18 rfl rfl)
theorem dX0_besideOf_19 : decode cX0_besideOf 19 = .ok (.iload_n 2, 1) := dk_28 (dk_at dksX0_besideOf_0 19 rfl rfl)
theorem dX0_besideOf_20 : decode cX0_besideOf 20 = .ok (.iconst 1, 1) := dk_4 (dk_at dksX0_besideOf_0 20 rfl rfl)
theorem dX0_besideOf_21 : decode cX0_besideOf 21 = .ok (.iadd, 1) := dk_96 (dk_at dksX0_besideOf_0 21 rfl rfl)
theorem dX0_besideOf_22 : decode cX0_besideOf 22 = .ok (.iload_n 3, 1) := dk_29 (dk_at dksX0_besideOf_0 22 rfl rfl)
theorem dX0_besideOf_23 : decode cX0_besideOf 23 = .ok (.invokevirtual 122, 3) := dk_182 0 122 (dk_at dksX0_besideOf_1 0 rfl rfl)
theorem dX0_besideOf_26 : decode cX0_besideOf 26 = .ok (.ifCond .eq 7, 3) := dk_153 0 7 (dk_at dksX0_besideOf_1 3 rfl rfl)
theorem dX0_besideOf_29 : decode cX0_besideOf 29 = .ok (.iconst 1, 1) := dk_4 (dk_at dksX0_besideOf_1 6 rfl rfl)
theorem dX0_besideOf_30 : decode cX0_besideOf 30 = .ok (.goto 4, 3) := dk_167 0 4 (dk_at dksX0_besideOf_1 7 rfl rfl)
theorem dX0_besideOf_33 : decode cX0_besideOf 33 = .ok (.iconst 0, 1) := dk_3 (dk_at dksX0_besideOf_1 10 rfl rfl)
theorem dX0_besideOf_34 : decode cX0_besideOf 34 = .ok (.iadd, 1) := dk_96 (dk_at dksX0_besideOf_1 11 rfl rfl)
theorem dX0_besideOf_35 : decode cX0_besideOf 35 = .ok (.ireturn, 1) := dk_172 (dk_at dksX0_besideOf_1 12 rfl rfl)
abbrev cX0_held : ByteArray := prog_1_method_3_code
def yX0_held : MethodName := ⟨RX0, "held", "(JII)I"⟩
def dkwX0_held_0 : List UInt8 := [28, 133, 29, 133, 30, 184, 0, 3, 184, 0, 9, 136, 172]
abbrev dktX0_held_0 : List UInt8 := dkwX0_held_0 ++ []
theorem dksX0_held_0 : cX0_held.data.toList.drop 0 = dktX0_held_0 := by decide +kernel
theorem dX0_held_0 : decode cX0_held 0 = .ok (.iload_n 2, 1) := dk_28 (dk_at dksX0_held_0 0 rfl rfl)
theorem dX0_held_1 : decode cX0_held 1 = .ok (.i2l, 1) := dk_133 (dk_at dksX0_held_0 1 rfl rfl)
theorem dX0_held_2 : decode cX0_held 2 = .ok (.iload_n 3, 1) := dk_29 (dk_at dksX0_held_0 2 rfl rfl)
theorem dX0_held_3 : decode cX0_held 3 = .ok (.i2l, 1) := dk_133 (dk_at dksX0_held_0 3 rfl rfl)
theorem dX0_held_4 : decode cX0_held 4 = .ok (.lload_n 0, 1) := dk_30 (dk_at dksX0_held_0 4 rfl rfl)
theorem dX0_held_5 : decode cX0_held 5 = .ok (.invokestatic 3, 3) := dk_184 0 3 (dk_at dksX0_held_0 5 rfl rfl)
theorem dX0_held_8 : decode cX0_held 8 = .ok (.invokestatic 9, 3) := dk_184 0 9 (dk_at dksX0_held_0 8 rfl rfl)
theorem dX0_held_11 : decode cX0_held 11 = .ok (.l2i, 1) := dk_136 (dk_at dksX0_held_0 11 rfl rfl)
theorem dX0_held_12 : decode cX0_held 12 = .ok (.ireturn, 1) := dk_172 (dk_at dksX0_held_0 12 rfl rfl)
abbrev cX0_earnsBy : ByteArray := prog_1_method_24_code
def yX0_earnsBy : MethodName := ⟨RX0, "earnsBy", "(LShutDays$Text;[III)I"⟩
def dkwX0_earnsBy_1 : List UInt8 := [133, 167, 0, 16, 43, 180, 0, 142, 42, 180, 0, 39, 185, 0, 148, 2, 0, 3, 16, 99, 184, 0, 154, 172]
abbrev dktX0_earnsBy_1 : List UInt8 := dkwX0_earnsBy_1 ++ []
def dkwX0_earnsBy_0 : List UInt8 := [42, 44, 29, 21, 4, 182, 0, 139, 43, 180, 0, 142, 199, 0, 16, 4, 42, 180, 0, 39, 16, 7, 46, 96]
abbrev dktX0_earnsBy_0 : List UInt8 := dkwX0_earnsBy_0 ++ dktX0_earnsBy_1
theorem dksX0_earnsBy_0 : cX0_earnsBy.data.toList.drop 0 = dktX0_earnsBy_0 := by decide +kernel
theorem dksX0_earnsBy_1 : cX0_earnsBy.data.toList.drop 24 = dktX0_earnsBy_1 := dk_seg dksX0_earnsBy_0 24 rfl rfl
theorem dX0_earnsBy_0 : decode cX0_earnsBy 0 = .ok (.aload_n 0, 1) := dk_42 (dk_at dksX0_earnsBy_0 0 rfl rfl)
theorem dX0_earnsBy_1 : decode cX0_earnsBy 1 = .ok (.aload_n 2, 1) := dk_44 (dk_at dksX0_earnsBy_0 1 rfl rfl)
theorem dX0_earnsBy_2 : decode cX0_earnsBy 2 = .ok (.iload_n 3, 1) := dk_29 (dk_at dksX0_earnsBy_0 2 rfl rfl)
theorem dX0_earnsBy_3 : decode cX0_earnsBy 3 = .ok (.iload 4, 2) := dk_21 4 (dk_at dksX0_earnsBy_0 3 rfl rfl)
theorem dX0_earnsBy_5 : decode cX0_earnsBy 5 = .ok (.invokevirtual 139, 3) := dk_182 0 139 (dk_at dksX0_earnsBy_0 5 rfl rfl)
theorem dX0_earnsBy_8 : decode cX0_earnsBy 8 = .ok (.aload_n 1, 1) := dk_43 (dk_at dksX0_earnsBy_0 8 rfl rfl)
theorem dX0_earnsBy_9 : decode cX0_earnsBy 9 = .ok (.getfield 142, 3) := dk_180 0 142 (dk_at dksX0_earnsBy_0 9 rfl rfl)
theorem dX0_earnsBy_12 : decode cX0_earnsBy 12 = .ok (.ifnonnull 16, 3) := dk_199 0 16 (dk_at dksX0_earnsBy_0 12 rfl rfl)
theorem dX0_earnsBy_15 : decode cX0_earnsBy 15 = .ok (.iconst 1, 1) := dk_4 (dk_at dksX0_earnsBy_0 15 rfl rfl)
theorem dX0_earnsBy_16 : decode cX0_earnsBy 16 = .ok (.aload_n 0, 1) := dk_42 (dk_at dksX0_earnsBy_0 16 rfl rfl)
theorem dX0_earnsBy_17 : decode cX0_earnsBy 17 = .ok (.getfield 39, 3) := dk_180 0 39 (dk_at dksX0_earnsBy_0 17 rfl rfl)
theorem dX0_earnsBy_20 : decode cX0_earnsBy 20 = .ok (.bipush 7, 2) := dk_16 7 (dk_at dksX0_earnsBy_0 20 rfl rfl)
theorem dX0_earnsBy_22 : decode cX0_earnsBy 22 = .ok (.iaload, 1) := dk_46 (dk_at dksX0_earnsBy_0 22 rfl rfl)
theorem dX0_earnsBy_23 : decode cX0_earnsBy 23 = .ok (.iadd, 1) := dk_96 (dk_at dksX0_earnsBy_0 23 rfl rfl)
theorem dX0_earnsBy_24 : decode cX0_earnsBy 24 = .ok (.i2l, 1) := dk_133 (dk_at dksX0_earnsBy_1 0 rfl rfl)
theorem dX0_earnsBy_25 : decode cX0_earnsBy 25 = .ok (.goto 16, 3) := dk_167 0 16 (dk_at dksX0_earnsBy_1 1 rfl rfl)
theorem dX0_earnsBy_28 : decode cX0_earnsBy 28 = .ok (.aload_n 1, 1) := dk_43 (dk_at dksX0_earnsBy_1 4 rfl rfl)
theorem dX0_earnsBy_29 : decode cX0_earnsBy 29 = .ok (.getfield 142, 3) := dk_180 0 142 (dk_at dksX0_earnsBy_1 5 rfl rfl)
theorem dX0_earnsBy_32 : decode cX0_earnsBy 32 = .ok (.aload_n 0, 1) := dk_42 (dk_at dksX0_earnsBy_1 8 rfl rfl)
theorem dX0_earnsBy_33 : decode cX0_earnsBy 33 = .ok (.getfield 39, 3) := dk_180 0 39 (dk_at dksX0_earnsBy_1 9 rfl rfl)
theorem dX0_earnsBy_36 : decode cX0_earnsBy 36 = .ok (.invokeinterface 148 2, 5) := by decide +kernel
theorem dX0_earnsBy_41 : decode cX0_earnsBy 41 = .ok (.iconst 0, 1) := dk_3 (dk_at dksX0_earnsBy_1 17 rfl rfl)
theorem dX0_earnsBy_42 : decode cX0_earnsBy 42 = .ok (.bipush 99, 2) := dk_16 99 (dk_at dksX0_earnsBy_1 18 rfl rfl)
theorem dX0_earnsBy_44 : decode cX0_earnsBy 44 = .ok (.invokestatic 154, 3) := dk_184 0 154 (dk_at dksX0_earnsBy_1 20 rfl rfl)
theorem dX0_earnsBy_47 : decode cX0_earnsBy 47 = .ok (.ireturn, 1) := dk_172 (dk_at dksX0_earnsBy_1 23 rfl rfl)
abbrev cX0_knock : ByteArray := prog_1_method_31_code
def yX0_knock : MethodName := ⟨RX0, "knock", "(I)I"⟩
def dkwX0_knock_0 : List UInt8 := [42, 27, 182, 0, 209, 154, 0, 5, 2, 172, 42, 180, 0, 21, 182, 0, 189, 42, 27, 182, 0, 212, 172]
abbrev dktX0_knock_0 : List UInt8 := dkwX0_knock_0 ++ []
theorem dksX0_knock_0 : cX0_knock.data.toList.drop 0 = dktX0_knock_0 := by decide +kernel
theorem dX0_knock_0 : decode cX0_knock 0 = .ok (.aload_n 0, 1) := dk_42 (dk_at dksX0_knock_0 0 rfl rfl)
theorem dX0_knock_1 : decode cX0_knock 1 = .ok (.iload_n 1, 1) := dk_27 (dk_at dksX0_knock_0 1 rfl rfl)
theorem dX0_knock_2 : decode cX0_knock 2 = .ok (.invokevirtual 209, 3) := dk_182 0 209 (dk_at dksX0_knock_0 2 rfl rfl)
theorem dX0_knock_5 : decode cX0_knock 5 = .ok (.ifCond .ne 5, 3) := dk_154 0 5 (dk_at dksX0_knock_0 5 rfl rfl)
theorem dX0_knock_8 : decode cX0_knock 8 = .ok (.iconst (-1), 1) := dk_2 (dk_at dksX0_knock_0 8 rfl rfl)
theorem dX0_knock_9 : decode cX0_knock 9 = .ok (.ireturn, 1) := dk_172 (dk_at dksX0_knock_0 9 rfl rfl)
theorem dX0_knock_10 : decode cX0_knock 10 = .ok (.aload_n 0, 1) := dk_42 (dk_at dksX0_knock_0 10 rfl rfl)
theorem dX0_knock_11 : decode cX0_knock 11 = .ok (.getfield 21, 3) := dk_180 0 21 (dk_at dksX0_knock_0 11 rfl rfl)
theorem dX0_knock_14 : decode cX0_knock 14 = .ok (.invokevirtual 189, 3) := dk_182 0 189 (dk_at dksX0_knock_0 14 rfl rfl)
theorem dX0_knock_17 : decode cX0_knock 17 = .ok (.aload_n 0, 1) := dk_42 (dk_at dksX0_knock_0 17 rfl rfl)
theorem dX0_knock_18 : decode cX0_knock 18 = .ok (.iload_n 1, 1) := dk_27 (dk_at dksX0_knock_0 18 rfl rfl)
theorem dX0_knock_19 : decode cX0_knock 19 = .ok (.invokevirtual 212, 3) := dk_182 0 212 (dk_at dksX0_knock_0 19 rfl rfl)
theorem dX0_knock_22 : decode cX0_knock 22 = .ok (.ireturn, 1) := dk_172 (dk_at dksX0_knock_0 22 rfl rfl)
abbrev cX0_isThere : ByteArray := prog_1_method_7_code
def yX0_isThere : MethodName := ⟨RX0, "isThere", "(I)Z"⟩
def dkwX0_isThere_1 : List UInt8 := [167, 0, 4, 3, 172]
abbrev dktX0_isThere_1 : List UInt8 := dkwX0_isThere_1 ++ []
def dkwX0_isThere_0 : List UInt8 := [42, 27, 182, 0, 70, 153, 0, 21, 42, 180, 0, 21, 180, 0, 74, 27, 184, 0, 77, 154, 0, 7, 4]
abbrev dktX0_isThere_0 : List UInt8 := dkwX0_isThere_0 ++ dktX0_isThere_1
theorem dksX0_isThere_0 : cX0_isThere.data.toList.drop 0 = dktX0_isThere_0 := by decide +kernel
theorem dksX0_isThere_1 : cX0_isThere.data.toList.drop 23 = dktX0_isThere_1 := dk_seg dksX0_isThere_0 23 rfl rfl
theorem dX0_isThere_0 : decode cX0_isThere 0 = .ok (.aload_n 0, 1) := dk_42 (dk_at dksX0_isThere_0 0 rfl rfl)
theorem dX0_isThere_1 : decode cX0_isThere 1 = .ok (.iload_n 1, 1) := dk_27 (dk_at dksX0_isThere_0 1 rfl rfl)
theorem dX0_isThere_2 : decode cX0_isThere 2 = .ok (.invokevirtual 70, 3) := dk_182 0 70 (dk_at dksX0_isThere_0 2 rfl rfl)
theorem dX0_isThere_5 : decode cX0_isThere 5 = .ok (.ifCond .eq 21, 3) := dk_153 0 21 (dk_at dksX0_isThere_0 5 rfl rfl)
theorem dX0_isThere_8 : decode cX0_isThere 8 = .ok (.aload_n 0, 1) := dk_42 (dk_at dksX0_isThere_0 8 rfl rfl)
theorem dX0_isThere_9 : decode cX0_isThere 9 = .ok (.getfield 21, 3) := dk_180 0 21 (dk_at dksX0_isThere_0 9 rfl rfl)
theorem dX0_isThere_12 : decode cX0_isThere 12 = .ok (.getfield 74, 3) := dk_180 0 74 (dk_at dksX0_isThere_0 12 rfl rfl)
theorem dX0_isThere_15 : decode cX0_isThere 15 = .ok (.iload_n 1, 1) := dk_27 (dk_at dksX0_isThere_0 15 rfl rfl)
theorem dX0_isThere_16 : decode cX0_isThere 16 = .ok (.invokestatic 77, 3) := dk_184 0 77 (dk_at dksX0_isThere_0 16 rfl rfl)
theorem dX0_isThere_19 : decode cX0_isThere 19 = .ok (.ifCond .ne 7, 3) := dk_154 0 7 (dk_at dksX0_isThere_0 19 rfl rfl)
theorem dX0_isThere_22 : decode cX0_isThere 22 = .ok (.iconst 1, 1) := dk_4 (dk_at dksX0_isThere_0 22 rfl rfl)
theorem dX0_isThere_23 : decode cX0_isThere 23 = .ok (.goto 4, 3) := dk_167 0 4 (dk_at dksX0_isThere_1 0 rfl rfl)
theorem dX0_isThere_26 : decode cX0_isThere 26 = .ok (.iconst 0, 1) := dk_3 (dk_at dksX0_isThere_1 3 rfl rfl)
theorem dX0_isThere_27 : decode cX0_isThere 27 = .ok (.ireturn, 1) := dk_172 (dk_at dksX0_isThere_1 4 rfl rfl)
abbrev cX0_knocking : ByteArray := prog_1_method_30_code
def yX0_knocking : MethodName := ⟨RX0, "knocking", "(I)I"⟩
def dkwX0_knocking_6 : List UInt8 := [96, 46, 4, 96, 184, 0, 187, 167, 0, 9, 44, 16, 17, 27, 96, 46, 79, 29, 172]
abbrev dktX0_knocking_6 : List UInt8 := dkwX0_knocking_6 ++ []
def dkwX0_knocking_5 : List UInt8 := [16, 17, 27, 96, 46, 4, 100, 184, 0, 181, 167, 0, 30, 21, 4, 153, 0, 19, 16, 99, 44, 16, 17, 27]
abbrev dktX0_knocking_5 : List UInt8 := dkwX0_knocking_5 ++ dktX0_knocking_6
def dkwX0_knocking_4 : List UInt8 := [184, 0, 203, 44, 16, 24, 92, 46, 4, 96, 79, 44, 16, 17, 27, 96, 29, 4, 160, 0, 18, 3, 44]
abbrev dktX0_knocking_4 : List UInt8 := dkwX0_knocking_4 ++ dktX0_knocking_5
def dkwX0_knocking_3 : List UInt8 := [89, 4, 27, 79, 89, 5, 29, 79, 58, 5, 25, 5, 3, 44, 16, 25, 6, 44, 16, 24, 46, 104, 96, 6]
abbrev dktX0_knocking_3 : List UInt8 := dkwX0_knocking_3 ++ dktX0_knocking_4
def dkwX0_knocking_2 : List UInt8 := [16, 25, 16, 117, 184, 0, 203, 44, 16, 24, 92, 46, 4, 100, 79, 6, 188, 10, 89, 3, 44, 3, 46, 79]
abbrev dktX0_knocking_2 : List UInt8 := dkwX0_knocking_2 ++ dktX0_knocking_3
def dkwX0_knocking_1 : List UInt8 := [182, 0, 192, 44, 27, 182, 0, 199, 54, 4, 44, 16, 24, 46, 16, 40, 160, 0, 22, 44, 16, 28, 44]
abbrev dktX0_knocking_1 : List UInt8 := dkwX0_knocking_1 ++ dktX0_knocking_2
def dkwX0_knocking_0 : List UInt8 := [42, 180, 0, 21, 180, 0, 74, 77, 44, 6, 27, 96, 46, 44, 184, 0, 173, 122, 4, 126, 62, 42, 42]
abbrev dktX0_knocking_0 : List UInt8 := dkwX0_knocking_0 ++ dktX0_knocking_1
theorem dksX0_knocking_0 : cX0_knocking.data.toList.drop 0 = dktX0_knocking_0 := by decide +kernel
theorem dksX0_knocking_1 : cX0_knocking.data.toList.drop 23 = dktX0_knocking_1 := dk_seg dksX0_knocking_0 23 rfl rfl
theorem dksX0_knocking_2 : cX0_knocking.data.toList.drop 46 = dktX0_knocking_2 := dk_seg dksX0_knocking_1 23 rfl rfl
theorem dksX0_knocking_3 : cX0_knocking.data.toList.drop 70 = dktX0_knocking_3 := dk_seg dksX0_knocking_2 24 rfl rfl
theorem dksX0_knocking_4 : cX0_knocking.data.toList.drop 94 = dktX0_knocking_4 := dk_seg dksX0_knocking_3 24 rfl rfl
theorem dksX0_knocking_5 : cX0_knocking.data.toList.drop 117 = dktX0_knocking_5 := dk_seg dksX0_knocking_4 23 rfl rfl
theorem dksX0_knocking_6 : cX0_knocking.data.toList.drop 141 = dktX0_knocking_6 := dk_seg dksX0_knocking_5 24 rfl rfl
theorem dX0_knocking_0 : decode cX0_knocking 0 = .ok (.aload_n 0, 1) := dk_42 (dk_at dksX0_knocking_0 0 rfl rfl)
theorem dX0_knocking_1 : decode cX0_knocking 1 = .ok (.getfield 21, 3) := dk_180 0 21 (dk_at dksX0_knocking_0 1 rfl rfl)
theorem dX0_knocking_4 : decode cX0_knocking 4 = .ok (.getfield 74, 3) := dk_180 0 74 (dk_at dksX0_knocking_0 4 rfl rfl)
theorem dX0_knocking_7 : decode cX0_knocking 7 = .ok (.astore_n 2, 1) := dk_77 (dk_at dksX0_knocking_0 7 rfl rfl)
theorem dX0_knocking_8 : decode cX0_knocking 8 = .ok (.aload_n 2, 1) := dk_44 (dk_at dksX0_knocking_0 8 rfl rfl)
theorem dX0_knocking_9 : decode cX0_knocking 9 = .ok (.iconst 3, 1) := dk_6 (dk_at dksX0_knocking_0 9 rfl rfl)
theorem dX0_knocking_10 : decode cX0_knocking 10 = .ok (.iload_n 1, 1) := dk_27 (dk_at dksX0_knocking_0 10 rfl rfl)
theorem dX0_knocking_11 : decode cX0_knocking 11 = .ok (.iadd, 1) := dk_96 (dk_at dksX0_knocking_0 11 rfl rfl)
theorem dX0_knocking_12 : decode cX0_knocking 12 = .ok (.iaload, 1) := dk_46 (dk_at dksX0_knocking_0 12 rfl rfl)
theorem dX0_knocking_13 : decode cX0_knocking 13 = .ok (.aload_n 2, 1) := dk_44 (dk_at dksX0_knocking_0 13 rfl rfl)
theorem dX0_knocking_14 : decode cX0_knocking 14 = .ok (.invokestatic 173, 3) := dk_184 0 173 (dk_at dksX0_knocking_0 14 rfl rfl)
theorem dX0_knocking_17 : decode cX0_knocking 17 = .ok (.ishr, 1) := dk_122 (dk_at dksX0_knocking_0 17 rfl rfl)
theorem dX0_knocking_18 : decode cX0_knocking 18 = .ok (.iconst 1, 1) := dk_4 (dk_at dksX0_knocking_0 18 rfl rfl)
theorem dX0_knocking_19 : decode cX0_knocking 19 = .ok (.iand, 1) := dk_126 (dk_at dksX0_knocking_0 19 rfl rfl)
theorem dX0_knocking_20 : decode cX0_knocking 20 = .ok (.istore_n 3, 1) := dk_62 (dk_at dksX0_knocking_0 20 rfl rfl)
theorem dX0_knocking_21 : decode cX0_knocking 21 = .ok (.aload_n 0, 1) := dk_42 (dk_at dksX0_knocking_0 21 rfl rfl)
theorem dX0_knocking_22 : decode cX0_knocking 22 = .ok (.aload_n 0, 1) := dk_42 (dk_at dksX0_knocking_0 22 rfl rfl)
theorem dX0_knocking_23 : decode cX0_knocking 23 = .ok (.invokevirtual 192, 3) := dk_182 0 192 (dk_at dksX0_knocking_1 0 rfl rfl)
theorem dX0_knocking_26 : decode cX0_knocking 26 = .ok (.aload_n 2, 1) := dk_44 (dk_at dksX0_knocking_1 3 rfl rfl)
theorem dX0_knocking_27 : decode cX0_knocking 27 = .ok (.iload_n 1, 1) := dk_27 (dk_at dksX0_knocking_1 4 rfl rfl)
theorem dX0_knocking_28 : decode cX0_knocking 28 = .ok (.invokevirtual 199, 3) := dk_182 0 199 (dk_at dksX0_knocking_1 5 rfl rfl)
theorem dX0_knocking_31 : decode cX0_knocking 31 = .ok (.istore 4, 2) := dk_54 4 (dk_at dksX0_knocking_1 8 rfl rfl)
theorem dX0_knocking_33 : decode cX0_knocking 33 = .ok (.aload_n 2, 1) := dk_44 (dk_at dksX0_knocking_1 10 rfl rfl)
theorem dX0_knocking_34 : decode cX0_knocking 34 = .ok (.bipush 24, 2) := dk_16 24 (dk_at dksX0_knocking_1 11 rfl rfl)
theorem dX0_knocking_36 : decode cX0_knocking 36 = .ok (.iaload, 1) := dk_46 (dk_at dksX0_knocking_1 13 rfl rfl)
theorem dX0_knocking_37 : decode cX0_knocking 37 = .ok (.bipush 40, 2) := dk_16 40 (dk_at dksX0_knocking_1 14 rfl rfl)
theorem dX0_knocking_39 : decode cX0_knocking 39 = .ok (.if_icmp .ne 22, 3) := dk_160 0 22 (dk_at dksX0_knocking_1 16 rfl rfl)
theorem dX0_knocking_42 : decode cX0_knocking 42 = .ok (.aload_n 2, 1) := dk_44 (dk_at dksX0_knocking_1 19 rfl rfl)
theorem dX0_knocking_43 : decode cX0_knocking 43 = .ok (.bipush 28, 2) := dk_16 28 (dk_at dksX0_knocking_1 20 rfl rfl)
theorem dX0_knocking_45 : decode cX0_knocking 45 = .ok (.aload_n 2, 1) := dk_44 (dk_at dksX0_knocking_1 22 rfl rfl)
theorem dX0_knocking_46 : decode cX0_knocking 46 = .ok (.bipush 25, 2) := dk_16 25 (dk_at dksX0_knocking_2 0 rfl rfl)
theorem dX0_knocking_48 : decode cX0_knocking 48 = .ok (.bipush 117, 2) := dk_16 117 (dk_at dksX0_knocking_2 2 rfl rfl)
theorem dX0_knocking_50 : decode cX0_knocking 50 = .ok (.invokestatic 203, 3) := dk_184 0 203 (dk_at dksX0_knocking_2 4 rfl rfl)
theorem dX0_knocking_53 : decode cX0_knocking 53 = .ok (.aload_n 2, 1) := dk_44 (dk_at dksX0_knocking_2 7 rfl rfl)
theorem dX0_knocking_54 : decode cX0_knocking 54 = .ok (.bipush 24, 2) := dk_16 24 (dk_at dksX0_knocking_2 8 rfl rfl)
theorem dX0_knocking_56 : decode cX0_knocking 56 = .ok (.dup2, 1) := dk_92 (dk_at dksX0_knocking_2 10 rfl rfl)
theorem dX0_knocking_57 : decode cX0_knocking 57 = .ok (.iaload, 1) := dk_46 (dk_at dksX0_knocking_2 11 rfl rfl)
theorem dX0_knocking_58 : decode cX0_knocking 58 = .ok (.iconst 1, 1) := dk_4 (dk_at dksX0_knocking_2 12 rfl rfl)
theorem dX0_knocking_59 : decode cX0_knocking 59 = .ok (.isub, 1) := dk_100 (dk_at dksX0_knocking_2 13 rfl rfl)
theorem dX0_knocking_60 : decode cX0_knocking 60 = .ok (.iastore, 1) := dk_79 (dk_at dksX0_knocking_2 14 rfl rfl)
theorem dX0_knocking_61 : decode cX0_knocking 61 = .ok (.iconst 3, 1) := dk_6 (dk_at dksX0_knocking_2 15 rfl rfl)
theorem dX0_knocking_62 : decode cX0_knocking 62 = .ok (.newarray .int, 2) := dk_188_10 (dk_at dksX0_knocking_2 16 rfl rfl)
theorem dX0_knocking_64 : decode cX0_knocking 64 = .ok (.dup, 1) := dk_89 (dk_at dksX0_knocking_2 18 rfl rfl)
theorem dX0_knocking_65 : decode cX0_knocking 65 = .ok (.iconst 0, 1) := dk_3 (dk_at dksX0_knocking_2 19 rfl rfl)
theorem dX0_knocking_66 : decode cX0_knocking 66 = .ok (.aload_n 2, 1) := dk_44 (dk_at dksX0_knocking_2 20 rfl rfl)
theorem dX0_knocking_67 : decode cX0_knocking 67 = .ok (.iconst 0, 1) := dk_3 (dk_at dksX0_knocking_2 21 rfl rfl)
theorem dX0_knocking_68 : decode cX0_knocking 68 = .ok (.iaload, 1) := dk_46 (dk_at dksX0_knocking_2 22 rfl rfl)
theorem dX0_knocking_69 : decode cX0_knocking 69 = .ok (.iastore, 1) := dk_79 (dk_at dksX0_knocking_2 23 rfl rfl)
theorem dX0_knocking_70 : decode cX0_knocking 70 = .ok (.dup, 1) := dk_89 (dk_at dksX0_knocking_3 0 rfl rfl)
theorem dX0_knocking_71 : decode cX0_knocking 71 = .ok (.iconst 1, 1) := dk_4 (dk_at dksX0_knocking_3 1 rfl rfl)
theorem dX0_knocking_72 : decode cX0_knocking 72 = .ok (.iload_n 1, 1) := dk_27 (dk_at dksX0_knocking_3 2 rfl rfl)
theorem dX0_knocking_73 : decode cX0_knocking 73 = .ok (.iastore, 1) := dk_79 (dk_at dksX0_knocking_3 3 rfl rfl)
theorem dX0_knocking_74 : decode cX0_knocking 74 = .ok (.dup, 1) := dk_89 (dk_at dksX0_knocking_3 4 rfl rfl)
theorem dX0_knocking_75 : decode cX0_knocking 75 = .ok (.iconst 2, 1) := dk_5 (dk_at dksX0_knocking_3 5 rfl rfl)
theorem dX0_knocking_76 : decode cX0_knocking 76 = .ok (.iload_n 3, 1) := dk_29 (dk_at dksX0_knocking_3 6 rfl rfl)
theorem dX0_knocking_77 : decode cX0_knocking 77 = .ok (.iastore, 1) := dk_79 (dk_at dksX0_knocking_3 7 rfl rfl)
theorem dX0_knocking_78 : decode cX0_knocking 78 = .ok (.astore 5, 2) := dk_58 5 (dk_at dksX0_knocking_3 8 rfl rfl)
theorem dX0_knocking_80 : decode cX0_knocking 80 = .ok (.aload 5, 2) := dk_25 5 (dk_at dksX0_knocking_3 10 rfl rfl)
theorem dX0_knocking_82 : decode cX0_knocking 82 = .ok (.iconst 0, 1) := dk_3 (dk_at dksX0_knocking_3 12 rfl rfl)
theorem dX0_knocking_83 : decode cX0_knocking 83 = .ok (.aload_n 2, 1) := dk_44 (dk_at dksX0_knocking_3 13 rfl rfl)
theorem dX0_knocking_84 : decode cX0_knocking 84 = .ok (.bipush 25, 2) := dk_16 25 (dk_at dksX0_knocking_3 14 rfl rfl)
theorem dX0_knocking_86 : decode cX0_knocking 86 = .ok (.iconst 3, 1) := dk_6 (dk_at dksX0_knocking_3 16 rfl rfl)
theorem dX0_knocking_87 : decode cX0_knocking 87 = .ok (.aload_n 2, 1) := dk_44 (dk_at dksX0_knocking_3 17 rfl rfl)
theorem dX0_knocking_88 : decode cX0_knocking 88 = .ok (.bipush 24, 2) := dk_16 24 (dk_at dksX0_knocking_3 18 rfl rfl)
theorem dX0_knocking_90 : decode cX0_knocking 90 = .ok (.iaload, 1) := dk_46 (dk_at dksX0_knocking_3 20 rfl rfl)
theorem dX0_knocking_91 : decode cX0_knocking 91 = .ok (.imul, 1) := dk_104 (dk_at dksX0_knocking_3 21 rfl rfl)
theorem dX0_knocking_92 : decode cX0_knocking 92 = .ok (.iadd, 1) := dk_96 (dk_at dksX0_knocking_3 22 rfl rfl)
theorem dX0_knocking_93 : decode cX0_knocking 93 = .ok (.iconst 3, 1) := dk_6 (dk_at dksX0_knocking_3 23 rfl rfl)
theorem dX0_knocking_94 : decode cX0_knocking 94 = .ok (.invokestatic 203, 3) := dk_184 0 203 (dk_at dksX0_knocking_4 0 rfl rfl)
theorem dX0_knocking_97 : decode cX0_knocking 97 = .ok (.aload_n 2, 1) := dk_44 (dk_at dksX0_knocking_4 3 rfl rfl)
theorem dX0_knocking_98 : decode cX0_knocking 98 = .ok (.bipush 24, 2) := dk_16 24 (dk_at dksX0_knocking_4 4 rfl rfl)
theorem dX0_knocking_100 : decode cX0_knocking 100 = .ok (.dup2, 1) := dk_92 (dk_at dksX0_knocking_4 6 rfl rfl)
theorem dX0_knocking_101 : decode cX0_knocking 101 = .ok (.iaload, 1) := dk_46 (dk_at dksX0_knocking_4 7 rfl rfl)
theorem dX0_knocking_102 : decode cX0_knocking 102 = .ok (.iconst 1, 1) := dk_4 (dk_at dksX0_knocking_4 8 rfl rfl)
theorem dX0_knocking_103 : decode cX0_knocking 103 = .ok (.iadd, 1) := dk_96 (dk_at dksX0_knocking_4 9 rfl rfl)
theorem dX0_knocking_104 : decode cX0_knocking 104 = .ok (.iastore, 1) := dk_79 (dk_at dksX0_knocking_4 10 rfl rfl)
theorem dX0_knocking_105 : decode cX0_knocking 105 = .ok (.aload_n 2, 1) := dk_44 (dk_at dksX0_knocking_4 11 rfl rfl)
theorem dX0_knocking_106 : decode cX0_knocking 106 = .ok (.bipush 17, 2) := dk_16 17 (dk_at dksX0_knocking_4 12 rfl rfl)
theorem dX0_knocking_108 : decode cX0_knocking 108 = .ok (.iload_n 1, 1) := dk_27 (dk_at dksX0_knocking_4 14 rfl rfl)
theorem dX0_knocking_109 : decode cX0_knocking 109 = .ok (.iadd, 1) := dk_96 (dk_at dksX0_knocking_4 15 rfl rfl)
theorem dX0_knocking_110 : decode cX0_knocking 110 = .ok (.iload_n 3, 1) := dk_29 (dk_at dksX0_knocking_4 16 rfl rfl)
theorem dX0_knocking_111 : decode cX0_knocking 111 = .ok (.iconst 1, 1) := dk_4 (dk_at dksX0_knocking_4 17 rfl rfl)
theorem dX0_knocking_112 : decode cX0_knocking 112 = .ok (.if_icmp .ne 18, 3) := dk_160 0 18 (dk_at dksX0_knocking_4 18 rfl rfl)
theorem dX0_knocking_115 : decode cX0_knocking 115 = .ok (.iconst 0, 1) := dk_3 (dk_at dksX0_knocking_4 21 rfl rfl)
theorem dX0_knocking_116 : decode cX0_knocking 116 = .ok (.aload_n 2, 1) := dk_44 (dk_at dksX0_knocking_4 22 rfl rfl)
theorem dX0_knocking_117 : decode cX0_knocking 117 = .ok (.bipush 17, 2) := dk_16 17 (dk_at dksX0_knocking_5 0 rfl rfl)
theorem dX0_knocking_119 : decode cX0_knocking 119 = .ok (.iload_n 1, 1) := dk_27 (dk_at dksX0_knocking_5 2 rfl rfl)
theorem dX0_knocking_120 : decode cX0_knocking 120 = .ok (.iadd, 1) := dk_96 (dk_at dksX0_knocking_5 3 rfl rfl)
theorem dX0_knocking_121 : decode cX0_knocking 121 = .ok (.iaload, 1) := dk_46 (dk_at dksX0_knocking_5 4 rfl rfl)
theorem dX0_knocking_122 : decode cX0_knocking 122 = .ok (.iconst 1, 1) := dk_4 (dk_at dksX0_knocking_5 5 rfl rfl)
theorem dX0_knocking_123 : decode cX0_knocking 123 = .ok (.isub, 1) := dk_100 (dk_at dksX0_knocking_5 6 rfl rfl)
theorem dX0_knocking_124 : decode cX0_knocking 124 = .ok (.invokestatic 181, 3) := dk_184 0 181 (dk_at dksX0_knocking_5 7 rfl rfl)
theorem dX0_knocking_127 : decode cX0_knocking 127 = .ok (.goto 30, 3) := dk_167 0 30 (dk_at dksX0_knocking_5 10 rfl rfl)
theorem dX0_knocking_130 : decode cX0_knocking 130 = .ok (.iload 4, 2) := dk_21 4 (dk_at dksX0_knocking_5 13 rfl rfl)
theorem dX0_knocking_132 : decode cX0_knocking 132 = .ok (.ifCond .eq 19, 3) := dk_153 0 19 (dk_at dksX0_knocking_5 15 rfl rfl)
theorem dX0_knocking_135 : decode cX0_knocking 135 = .ok (.bipush 99, 2) := dk_16 99 (dk_at dksX0_knocking_5 18 rfl rfl)
theorem dX0_knocking_137 : decode cX0_knocking 137 = .ok (.aload_n 2, 1) := dk_44 (dk_at dksX0_knocking_5 20 rfl rfl)
theorem dX0_knocking_138 : decode cX0_knocking 138 = .ok (.bipush 17, 2) := dk_16 17 (dk_at dksX0_knocking_5 21 rfl rfl)
theorem dX0_knocking_140 : decode cX0_knocking 140 = .ok (.iload_n 1, 1) := dk_27 (dk_at dksX0_knocking_5 23 rfl rfl)
theorem dX0_knocking_141 : decode cX0_knocking 141 = .ok (.iadd, 1) := dk_96 (dk_at dksX0_knocking_6 0 rfl rfl)
theorem dX0_knocking_142 : decode cX0_knocking 142 = .ok (.iaload, 1) := dk_46 (dk_at dksX0_knocking_6 1 rfl rfl)
theorem dX0_knocking_143 : decode cX0_knocking 143 = .ok (.iconst 1, 1) := dk_4 (dk_at dksX0_knocking_6 2 rfl rfl)
theorem dX0_knocking_144 : decode cX0_knocking 144 = .ok (.iadd, 1) := dk_96 (dk_at dksX0_knocking_6 3 rfl rfl)
theorem dX0_knocking_145 : decode cX0_knocking 145 = .ok (.invokestatic 187, 3) := dk_184 0 187 (dk_at dksX0_knocking_6 4 rfl rfl)
theorem dX0_knocking_148 : decode cX0_knocking 148 = .ok (.goto 9, 3) := dk_167 0 9 (dk_at dksX0_knocking_6 7 rfl rfl)
theorem dX0_knocking_151 : decode cX0_knocking 151 = .ok (.aload_n 2, 1) := dk_44 (dk_at dksX0_knocking_6 10 rfl rfl)
theorem dX0_knocking_152 : decode cX0_knocking 152 = .ok (.bipush 17, 2) := dk_16 17 (dk_at dksX0_knocking_6 11 rfl rfl)
theorem dX0_knocking_154 : decode cX0_knocking 154 = .ok (.iload_n 1, 1) := dk_27 (dk_at dksX0_knocking_6 13 rfl rfl)
theorem dX0_knocking_155 : decode cX0_knocking 155 = .ok (.iadd, 1) := dk_96 (dk_at dksX0_knocking_6 14 rfl rfl)
theorem dX0_knocking_156 : decode cX0_knocking 156 = .ok (.iaload, 1) := dk_46 (dk_at dksX0_knocking_6 15 rfl rfl)
theorem dX0_knocking_157 : decode cX0_knocking 157 = .ok (.iastore, 1) := dk_79 (dk_at dksX0_knocking_6 16 rfl rfl)
theorem dX0_knocking_158 : decode cX0_knocking 158 = .ok (.iload_n 3, 1) := dk_29 (dk_at dksX0_knocking_6 17 rfl rfl)
theorem dX0_knocking_159 : decode cX0_knocking 159 = .ok (.ireturn, 1) := dk_172 (dk_at dksX0_knocking_6 18 rfl rfl)
abbrev cX0_letsBy : ByteArray := prog_1_method_26_code
def yX0_letsBy : MethodName := ⟨RX0, "letsBy", "(LShutDays$Text;[II)Z"⟩
def dkwX0_letsBy_2 : List UInt8 := [172]
abbrev dktX0_letsBy_2 : List UInt8 := dkwX0_letsBy_2 ++ []
def dkwX0_letsBy_1 : List UInt8 := [162, 0, 7, 4, 167, 0, 20, 3, 167, 0, 16, 43, 180, 0, 163, 42, 180, 0, 39, 185, 0, 167, 2, 0]
abbrev dktX0_letsBy_1 : List UInt8 := dkwX0_letsBy_1 ++ dktX0_letsBy_2
def dkwX0_letsBy_0 : List UInt8 := [42, 44, 29, 44, 3, 46, 182, 0, 139, 43, 180, 0, 163, 199, 0, 22, 42, 180, 0, 39, 7, 46, 16, 50]
abbrev dktX0_letsBy_0 : List UInt8 := dkwX0_letsBy_0 ++ dktX0_letsBy_1
theorem dksX0_letsBy_0 : cX0_letsBy.data.toList.drop 0 = dktX0_letsBy_0 := by decide +kernel
theorem dksX0_letsBy_1 : cX0_letsBy.data.toList.drop 24 = dktX0_letsBy_1 := dk_seg dksX0_letsBy_0 24 rfl rfl
theorem dksX0_letsBy_2 : cX0_letsBy.data.toList.drop 48 = dktX0_letsBy_2 := dk_seg dksX0_letsBy_1 24 rfl rfl
theorem dX0_letsBy_0 : decode cX0_letsBy 0 = .ok (.aload_n 0, 1) := dk_42 (dk_at dksX0_letsBy_0 0 rfl rfl)
theorem dX0_letsBy_1 : decode cX0_letsBy 1 = .ok (.aload_n 2, 1) := dk_44 (dk_at dksX0_letsBy_0 1 rfl rfl)
theorem dX0_letsBy_2 : decode cX0_letsBy 2 = .ok (.iload_n 3, 1) := dk_29 (dk_at dksX0_letsBy_0 2 rfl rfl)
theorem dX0_letsBy_3 : decode cX0_letsBy 3 = .ok (.aload_n 2, 1) := dk_44 (dk_at dksX0_letsBy_0 3 rfl rfl)
theorem dX0_letsBy_4 : decode cX0_letsBy 4 = .ok (.iconst 0, 1) := dk_3 (dk_at dksX0_letsBy_0 4 rfl rfl)
theorem dX0_letsBy_5 : decode cX0_letsBy 5 = .ok (.iaload, 1) := dk_46 (dk_at dksX0_letsBy_0 5 rfl rfl)
theorem dX0_letsBy_6 : decode cX0_letsBy 6 = .ok (.invokevirtual 139, 3) := dk_182 0 139 (dk_at dksX0_letsBy_0 6 rfl rfl)
theorem dX0_letsBy_9 : decode cX0_letsBy 9 = .ok (.aload_n 1, 1) := dk_43 (dk_at dksX0_letsBy_0 9 rfl rfl)
theorem dX0_letsBy_10 : decode cX0_letsBy 10 = .ok (.getfield 163, 3) := dk_180 0 163 (dk_at dksX0_letsBy_0 10 rfl rfl)
theorem dX0_letsBy_13 : decode cX0_letsBy 13 = .ok (.ifnonnull 22, 3) := dk_199 0 22 (dk_at dksX0_letsBy_0 13 rfl rfl)
theorem dX0_letsBy_16 : decode cX0_letsBy 16 = .ok (.aload_n 0, 1) := dk_42 (dk_at dksX0_letsBy_0 16 rfl rfl)
theorem dX0_letsBy_17 : decode cX0_letsBy 17 = .ok (.getfield 39, 3) := dk_180 0 39 (dk_at dksX0_letsBy_0 17 rfl rfl)
theorem dX0_letsBy_20 : decode cX0_letsBy 20 = .ok (.iconst 4, 1) := dk_7 (dk_at dksX0_letsBy_0 20 rfl rfl)
theorem dX0_letsBy_21 : decode cX0_letsBy 21 = .ok (.iaload, 1) := dk_46 (dk_at dksX0_letsBy_0 21 rfl rfl)
theorem dX0_letsBy_22 : decode cX0_letsBy 22 = .ok (.bipush 50, 2) := dk_16 50 (dk_at dksX0_letsBy_0 22 rfl rfl)
theorem dX0_letsBy_24 : decode cX0_letsBy 24 = .ok (.if_icmp .ge 7, 3) := dk_162 0 7 (dk_at dksX0_letsBy_1 0 rfl rfl)
theorem dX0_letsBy_27 : decode cX0_letsBy 27 = .ok (.iconst 1, 1) := dk_4 (dk_at dksX0_letsBy_1 3 rfl rfl)
theorem dX0_letsBy_28 : decode cX0_letsBy 28 = .ok (.goto 20, 3) := dk_167 0 20 (dk_at dksX0_letsBy_1 4 rfl rfl)
theorem dX0_letsBy_31 : decode cX0_letsBy 31 = .ok (.iconst 0, 1) := dk_3 (dk_at dksX0_letsBy_1 7 rfl rfl)
theorem dX0_letsBy_32 : decode cX0_letsBy 32 = .ok (.goto 16, 3) := dk_167 0 16 (dk_at dksX0_letsBy_1 8 rfl rfl)
theorem dX0_letsBy_35 : decode cX0_letsBy 35 = .ok (.aload_n 1, 1) := dk_43 (dk_at dksX0_letsBy_1 11 rfl rfl)
theorem dX0_letsBy_36 : decode cX0_letsBy 36 = .ok (.getfield 163, 3) := dk_180 0 163 (dk_at dksX0_letsBy_1 12 rfl rfl)
theorem dX0_letsBy_39 : decode cX0_letsBy 39 = .ok (.aload_n 0, 1) := dk_42 (dk_at dksX0_letsBy_1 15 rfl rfl)
theorem dX0_letsBy_40 : decode cX0_letsBy 40 = .ok (.getfield 39, 3) := dk_180 0 39 (dk_at dksX0_letsBy_1 16 rfl rfl)
theorem dX0_letsBy_43 : decode cX0_letsBy 43 = .ok (.invokeinterface 167 2, 5) := by decide +kernel
theorem dX0_letsBy_48 : decode cX0_letsBy 48 = .ok (.ireturn, 1) := dk_172 (dk_at dksX0_letsBy_2 0 rfl rfl)
abbrev cX0_marry : ByteArray := prog_1_method_33_code
def yX0_marry : MethodName := ⟨RX0, "marry", "(II)I"⟩
def dkwX0_marry_5 : List UInt8 := [96, 46, 172]
abbrev dktX0_marry_5 : List UInt8 := dkwX0_marry_5 ++ []
def dkwX0_marry_4 : List UInt8 := [46, 45, 16, 17, 27, 96, 46, 96, 184, 0, 187, 79, 45, 5, 92, 46, 4, 27, 120, 128, 79, 45, 6, 28]
abbrev dktX0_marry_4 : List UInt8 := dkwX0_marry_4 ++ dktX0_marry_5
def dkwX0_marry_3 : List UInt8 := [46, 45, 16, 10, 27, 96, 46, 96, 184, 0, 187, 79, 45, 16, 17, 28, 96, 16, 99, 45, 16, 17, 28, 96]
abbrev dktX0_marry_3 : List UInt8 := dkwX0_marry_3 ++ dktX0_marry_4
def dkwX0_marry_2 : List UInt8 := [45, 6, 28, 96, 42, 27, 28, 182, 0, 215, 79, 45, 16, 10, 28, 96, 17, 39, 15, 45, 16, 10, 28, 96]
abbrev dktX0_marry_2 : List UInt8 := dkwX0_marry_2 ++ dktX0_marry_3
def dkwX0_marry_1 : List UInt8 := [182, 0, 215, 2, 160, 0, 5, 2, 172, 42, 180, 0, 21, 180, 0, 74, 78, 42, 180, 0, 21, 182, 0, 189]
abbrev dktX0_marry_1 : List UInt8 := dkwX0_marry_1 ++ dktX0_marry_2
def dkwX0_marry_0 : List UInt8 := [42, 27, 182, 0, 209, 153, 0, 26, 42, 28, 182, 0, 209, 153, 0, 18, 27, 28, 159, 0, 13, 42, 27, 28]
abbrev dktX0_marry_0 : List UInt8 := dkwX0_marry_0 ++ dktX0_marry_1
theorem dksX0_marry_0 : cX0_marry.data.toList.drop 0 = dktX0_marry_0 := by decide +kernel
theorem dksX0_marry_1 : cX0_marry.data.toList.drop 24 = dktX0_marry_1 := dk_seg dksX0_marry_0 24 rfl rfl
theorem dksX0_marry_2 : cX0_marry.data.toList.drop 48 = dktX0_marry_2 := dk_seg dksX0_marry_1 24 rfl rfl
theorem dksX0_marry_3 : cX0_marry.data.toList.drop 72 = dktX0_marry_3 := dk_seg dksX0_marry_2 24 rfl rfl
theorem dksX0_marry_4 : cX0_marry.data.toList.drop 96 = dktX0_marry_4 := dk_seg dksX0_marry_3 24 rfl rfl
theorem dksX0_marry_5 : cX0_marry.data.toList.drop 120 = dktX0_marry_5 := dk_seg dksX0_marry_4 24 rfl rfl
theorem dX0_marry_0 : decode cX0_marry 0 = .ok (.aload_n 0, 1) := dk_42 (dk_at dksX0_marry_0 0 rfl rfl)
theorem dX0_marry_1 : decode cX0_marry 1 = .ok (.iload_n 1, 1) := dk_27 (dk_at dksX0_marry_0 1 rfl rfl)
theorem dX0_marry_2 : decode cX0_marry 2 = .ok (.invokevirtual 209, 3) := dk_182 0 209 (dk_at dksX0_marry_0 2 rfl rfl)
theorem dX0_marry_5 : decode cX0_marry 5 = .ok (.ifCond .eq 26, 3) := dk_153 0 26 (dk_at dksX0_marry_0 5 rfl rfl)
theorem dX0_marry_8 : decode cX0_marry 8 = .ok (.aload_n 0, 1) := dk_42 (dk_at dksX0_marry_0 8 rfl rfl)
theorem dX0_marry_9 : decode cX0_marry 9 = .ok (.iload_n 2, 1) := dk_28 (dk_at dksX0_marry_0 9 rfl rfl)
theorem dX0_marry_10 : decode cX0_marry 10 = .ok (.invokevirtual 209, 3) := dk_182 0 209 (dk_at dksX0_marry_0 10 rfl rfl)
theorem dX0_marry_13 : decode cX0_marry 13 = .ok (.ifCond .eq 18, 3) := dk_153 0 18 (dk_at dksX0_marry_0 13 rfl rfl)
theorem dX0_marry_16 : decode cX0_marry 16 = .ok (.iload_n 1, 1) := dk_27 (dk_at dksX0_marry_0 16 rfl rfl)
theorem dX0_marry_17 : decode cX0_marry 17 = .ok (.iload_n 2, 1) := dk_28 (dk_at dksX0_marry_0 17 rfl rfl)
theorem dX0_marry_18 : decode cX0_marry 18 = .ok (.if_icmp .eq 13, 3) := dk_159 0 13 (dk_at dksX0_marry_0 18 rfl rfl)
theorem dX0_marry_21 : decode cX0_marry 21 = .ok (.aload_n 0, 1) := dk_42 (dk_at dksX0_marry_0 21 rfl rfl)
theorem dX0_marry_22 : decode cX0_marry 22 = .ok (.iload_n 1, 1) := dk_27 (dk_at dksX0_marry_0 22 rfl rfl)
theorem dX0_marry_23 : decode cX0_marry 23 = .ok (.iload_n 2, 1) := dk_28 (dk_at dksX0_marry_0 23 rfl rfl)
theorem dX0_marry_24 : decode cX0_marry 24 = .ok (.invokevirtual 215, 3) := dk_182 0 215 (dk_at dksX0_marry_1 0 rfl rfl)
theorem dX0_marry_27 : decode cX0_marry 27 = .ok (.iconst (-1), 1) := dk_2 (dk_at dksX0_marry_1 3 rfl rfl)
theorem dX0_marry_28 : decode cX0_marry 28 = .ok (.if_icmp .ne 5, 3) := dk_160 0 5 (dk_at dksX0_marry_1 4 rfl rfl)
theorem dX0_marry_31 : decode cX0_marry 31 = .ok (.iconst (-1), 1) := dk_2 (dk_at dksX0_marry_1 7 rfl rfl)
theorem dX0_marry_32 : decode cX0_marry 32 = .ok (.ireturn, 1) := dk_172 (dk_at dksX0_marry_1 8 rfl rfl)
theorem dX0_marry_33 : decode cX0_marry 33 = .ok (.aload_n 0, 1) := dk_42 (dk_at dksX0_marry_1 9 rfl rfl)
theorem dX0_marry_34 : decode cX0_marry 34 = .ok (.getfield 21, 3) := dk_180 0 21 (dk_at dksX0_marry_1 10 rfl rfl)
theorem dX0_marry_37 : decode cX0_marry 37 = .ok (.getfield 74, 3) := dk_180 0 74 (dk_at dksX0_marry_1 13 rfl rfl)
theorem dX0_marry_40 : decode cX0_marry 40 = .ok (.astore_n 3, 1) := dk_78 (dk_at dksX0_marry_1 16 rfl rfl)
theorem dX0_marry_41 : decode cX0_marry 41 = .ok (.aload_n 0, 1) := dk_42 (dk_at dksX0_marry_1 17 rfl rfl)
theorem dX0_marry_42 : decode cX0_marry 42 = .ok (.getfield 21, 3) := dk_180 0 21 (dk_at dksX0_marry_1 18 rfl rfl)
theorem dX0_marry_45 : decode cX0_marry 45 = .ok (.invokevirtual 189, 3) := dk_182 0 189 (dk_at dksX0_marry_1 21 rfl rfl)
theorem dX0_marry_48 : decode cX0_marry 48 = .ok (.aload_n 3, 1) := dk_45 (dk_at dksX0_marry_2 0 rfl rfl)
theorem dX0_marry_49 : decode cX0_marry 49 = .ok (.iconst 3, 1) := dk_6 (dk_at dksX0_marry_2 1 rfl rfl)
theorem dX0_marry_50 : decode cX0_marry 50 = .ok (.iload_n 2, 1) := dk_28 (dk_at dksX0_marry_2 2 rfl rfl)
theorem dX0_marry_51 : decode cX0_marry 51 = .ok (.iadd, 1) := dk_96 (dk_at dksX0_marry_2 3 rfl rfl)
theorem dX0_marry_52 : decode cX0_marry 52 = .ok (.aload_n 0, 1) := dk_42 (dk_at dksX0_marry_2 4 rfl rfl)
theorem dX0_marry_53 : decode cX0_marry 53 = .ok (.iload_n 1, 1) := dk_27 (dk_at dksX0_marry_2 5 rfl rfl)
theorem dX0_marry_54 : decode cX0_marry 54 = .ok (.iload_n 2, 1) := dk_28 (dk_at dksX0_marry_2 6 rfl rfl)
theorem dX0_marry_55 : decode cX0_marry 55 = .ok (.invokevirtual 215, 3) := dk_182 0 215 (dk_at dksX0_marry_2 7 rfl rfl)
theorem dX0_marry_58 : decode cX0_marry 58 = .ok (.iastore, 1) := dk_79 (dk_at dksX0_marry_2 10 rfl rfl)
theorem dX0_marry_59 : decode cX0_marry 59 = .ok (.aload_n 3, 1) := dk_45 (dk_at dksX0_marry_2 11 rfl rfl)
theorem dX0_marry_60 : decode cX0_marry 60 = .ok (.bipush 10, 2) := dk_16 10 (dk_at dksX0_marry_2 12 rfl rfl)
theorem dX0_marry_62 : decode cX0_marry 62 = .ok (.iload_n 2, 1) := dk_28 (dk_at dksX0_marry_2 14 rfl rfl)
theorem dX0_marry_63 : decode cX0_marry 63 = .ok (.iadd, 1) := dk_96 (dk_at dksX0_marry_2 15 rfl rfl)
theorem dX0_marry_64 : decode cX0_marry 64 = .ok (.sipush 9999, 3) := dk_17 39 15 (dk_at dksX0_marry_2 16 rfl rfl)
theorem dX0_marry_67 : decode cX0_marry 67 = .ok (.aload_n 3, 1) := dk_45 (dk_at dksX0_marry_2 19 rfl rfl)
theorem dX0_marry_68 : decode cX0_marry 68 = .ok (.bipush 10, 2) := dk_16 10 (dk_at dksX0_marry_2 20 rfl rfl)
theorem dX0_marry_70 : decode cX0_marry 70 = .ok (.iload_n 2, 1) := dk_28 (dk_at dksX0_marry_2 22 rfl rfl)
theorem dX0_marry_71 : decode cX0_marry 71 = .ok (.iadd, 1) := dk_96 (dk_at dksX0_marry_2 23 rfl rfl)
theorem dX0_marry_72 : decode cX0_marry 72 = .ok (.iaload, 1) := dk_46 (dk_at dksX0_marry_3 0 rfl rfl)
theorem dX0_marry_73 : decode cX0_marry 73 = .ok (.aload_n 3, 1) := dk_45 (dk_at dksX0_marry_3 1 rfl rfl)
theorem dX0_marry_74 : decode cX0_marry 74 = .ok (.bipush 10, 2) := dk_16 10 (dk_at dksX0_marry_3 2 rfl rfl)
theorem dX0_marry_76 : decode cX0_marry 76 = .ok (.iload_n 1, 1) := dk_27 (dk_at dksX0_marry_3 4 rfl rfl)
theorem dX0_marry_77 : decode cX0_marry 77 = .ok (.iadd, 1) := dk_96 (dk_at dksX0_marry_3 5 rfl rfl)
theorem dX0_marry_78 : decode cX0_marry 78 = .ok (.iaload, 1) := dk_46 (dk_at dksX0_marry_3 6 rfl rfl)
theorem dX0_marry_79 : decode cX0_marry 79 = .ok (.iadd, 1) := dk_96 (dk_at dksX0_marry_3 7 rfl rfl)
theorem dX0_marry_80 : decode cX0_marry 80 = .ok (.invokestatic 187, 3) := dk_184 0 187 (dk_at dksX0_marry_3 8 rfl rfl)
theorem dX0_marry_83 : decode cX0_marry 83 = .ok (.iastore, 1) := dk_79 (dk_at dksX0_marry_3 11 rfl rfl)
theorem dX0_marry_84 : decode cX0_marry 84 = .ok (.aload_n 3, 1) := dk_45 (dk_at dksX0_marry_3 12 rfl rfl)
theorem dX0_marry_85 : decode cX0_marry 85 = .ok (.bipush 17, 2) := dk_16 17 (dk_at dksX0_marry_3 13 rfl rfl)
theorem dX0_marry_87 : decode cX0_marry 87 = .ok (.iload_n 2, 1) := dk_28 (dk_at dksX0_marry_3 15 rfl rfl)
theorem dX0_marry_88 : decode cX0_marry 88 = .ok (.iadd, 1) := dk_96 (dk_at dksX0_marry_3 16 rfl rfl)
theorem dX0_marry_89 : decode cX0_marry 89 = .ok (.bipush 99, 2) := dk_16 99 (dk_at dksX0_marry_3 17 rfl rfl)
theorem dX0_marry_91 : decode cX0_marry 91 = .ok (.aload_n 3, 1) := dk_45 (dk_at dksX0_marry_3 19 rfl rfl)
theorem dX0_marry_92 : decode cX0_marry 92 = .ok (.bipush 17, 2) := dk_16 17 (dk_at dksX0_marry_3 20 rfl rfl)
theorem dX0_marry_94 : decode cX0_marry 94 = .ok (.iload_n 2, 1) := dk_28 (dk_at dksX0_marry_3 22 rfl rfl)
theorem dX0_marry_95 : decode cX0_marry 95 = .ok (.iadd, 1) := dk_96 (dk_at dksX0_marry_3 23 rfl rfl)
theorem dX0_marry_96 : decode cX0_marry 96 = .ok (.iaload, 1) := dk_46 (dk_at dksX0_marry_4 0 rfl rfl)
theorem dX0_marry_97 : decode cX0_marry 97 = .ok (.aload_n 3, 1) := dk_45 (dk_at dksX0_marry_4 1 rfl rfl)
theorem dX0_marry_98 : decode cX0_marry 98 = .ok (.bipush 17, 2) := dk_16 17 (dk_at dksX0_marry_4 2 rfl rfl)
theorem dX0_marry_100 : decode cX0_marry 100 = .ok (.iload_n 1, 1) := dk_27 (dk_at dksX0_marry_4 4 rfl rfl)
theorem dX0_marry_101 : decode cX0_marry 101 = .ok (.iadd, 1) := dk_96 (dk_at dksX0_marry_4 5 rfl rfl)
theorem dX0_marry_102 : decode cX0_marry 102 = .ok (.iaload, 1) := dk_46 (dk_at dksX0_marry_4 6 rfl rfl)
theorem dX0_marry_103 : decode cX0_marry 103 = .ok (.iadd, 1) := dk_96 (dk_at dksX0_marry_4 7 rfl rfl)
theorem dX0_marry_104 : decode cX0_marry 104 = .ok (.invokestatic 187, 3) := dk_184 0 187 (dk_at dksX0_marry_4 8 rfl rfl)
theorem dX0_marry_107 : decode cX0_marry 107 = .ok (.iastore, 1) := dk_79 (dk_at dksX0_marry_4 11 rfl rfl)
theorem dX0_marry_108 : decode cX0_marry 108 = .ok (.aload_n 3, 1) := dk_45 (dk_at dksX0_marry_4 12 rfl rfl)
theorem dX0_marry_109 : decode cX0_marry 109 = .ok (.iconst 2, 1) := dk_5 (dk_at dksX0_marry_4 13 rfl rfl)
theorem dX0_marry_110 : decode cX0_marry 110 = .ok (.dup2, 1) := dk_92 (dk_at dksX0_marry_4 14 rfl rfl)
theorem dX0_marry_111 : decode cX0_marry 111 = .ok (.iaload, 1) := dk_46 (dk_at dksX0_marry_4 15 rfl rfl)
theorem dX0_marry_112 : decode cX0_marry 112 = .ok (.iconst 1, 1) := dk_4 (dk_at dksX0_marry_4 16 rfl rfl)
theorem dX0_marry_113 : decode cX0_marry 113 = .ok (.iload_n 1, 1) := dk_27 (dk_at dksX0_marry_4 17 rfl rfl)
theorem dX0_marry_114 : decode cX0_marry 114 = .ok (.ishl, 1) := dk_120 (dk_at dksX0_marry_4 18 rfl rfl)
theorem dX0_marry_115 : decode cX0_marry 115 = .ok (.ior, 1) := dk_128 (dk_at dksX0_marry_4 19 rfl rfl)
theorem dX0_marry_116 : decode cX0_marry 116 = .ok (.iastore, 1) := dk_79 (dk_at dksX0_marry_4 20 rfl rfl)
theorem dX0_marry_117 : decode cX0_marry 117 = .ok (.aload_n 3, 1) := dk_45 (dk_at dksX0_marry_4 21 rfl rfl)
theorem dX0_marry_118 : decode cX0_marry 118 = .ok (.iconst 3, 1) := dk_6 (dk_at dksX0_marry_4 22 rfl rfl)
theorem dX0_marry_119 : decode cX0_marry 119 = .ok (.iload_n 2, 1) := dk_28 (dk_at dksX0_marry_4 23 rfl rfl)
theorem dX0_marry_120 : decode cX0_marry 120 = .ok (.iadd, 1) := dk_96 (dk_at dksX0_marry_5 0 rfl rfl)
theorem dX0_marry_121 : decode cX0_marry 121 = .ok (.iaload, 1) := dk_46 (dk_at dksX0_marry_5 1 rfl rfl)
theorem dX0_marry_122 : decode cX0_marry 122 = .ok (.ireturn, 1) := dk_172 (dk_at dksX0_marry_5 2 rfl rfl)
abbrev cX0_wedDates : ByteArray := prog_1_method_32_code
def yX0_wedDates : MethodName := ⟨RX0, "wedDates", "(II)I"⟩
def dkwX0_wedDates_3 : List UInt8 := [2, 172]
abbrev dktX0_wedDates_3 : List UInt8 := dkwX0_wedDates_3 ++ []
def dkwX0_wedDates_2 : List UInt8 := [54, 4, 29, 153, 0, 7, 29, 167, 0, 18, 21, 4, 184, 0, 126, 6, 163, 0, 8, 21, 4, 167, 0, 4]
abbrev dktX0_wedDates_2 : List UInt8 := dkwX0_wedDates_2 ++ dktX0_wedDates_3
def dkwX0_wedDates_1 : List UInt8 := [42, 180, 0, 21, 180, 0, 74, 6, 27, 96, 46, 42, 180, 0, 21, 180, 0, 74, 6, 28, 96, 46, 128]
abbrev dktX0_wedDates_1 : List UInt8 := dkwX0_wedDates_1 ++ dktX0_wedDates_2
def dkwX0_wedDates_0 : List UInt8 := [42, 180, 0, 21, 180, 0, 74, 6, 27, 96, 46, 42, 180, 0, 21, 180, 0, 74, 6, 28, 96, 46, 126, 62]
abbrev dktX0_wedDates_0 : List UInt8 := dkwX0_wedDates_0 ++ dktX0_wedDates_1
theorem dksX0_wedDates_0 : cX0_wedDates.data.toList.drop 0 = dktX0_wedDates_0 := by decide +kernel
theorem dksX0_wedDates_1 : cX0_wedDates.data.toList.drop 24 = dktX0_wedDates_1 := dk_seg dksX0_wedDates_0 24 rfl rfl
theorem dksX0_wedDates_2 : cX0_wedDates.data.toList.drop 47 = dktX0_wedDates_2 := dk_seg dksX0_wedDates_1 23 rfl rfl
theorem dksX0_wedDates_3 : cX0_wedDates.data.toList.drop 71 = dktX0_wedDates_3 := dk_seg dksX0_wedDates_2 24 rfl rfl
theorem dX0_wedDates_0 : decode cX0_wedDates 0 = .ok (.aload_n 0, 1) := dk_42 (dk_at dksX0_wedDates_0 0 rfl rfl)
theorem dX0_wedDates_1 : decode cX0_wedDates 1 = .ok (.getfield 21, 3) := dk_180 0 21 (dk_at dksX0_wedDates_0 1 rfl rfl)
theorem dX0_wedDates_4 : decode cX0_wedDates 4 = .ok (.getfield 74, 3) := dk_180 0 74 (dk_at dksX0_wedDates_0 4 rfl rfl)
theorem dX0_wedDates_7 : decode cX0_wedDates 7 = .ok (.iconst 3, 1) := dk_6 (dk_at dksX0_wedDates_0 7 rfl rfl)
theorem dX0_wedDates_8 : decode cX0_wedDates 8 = .ok (.iload_n 1, 1) := dk_27 (dk_at dksX0_wedDates_0 8 rfl rfl)
theorem dX0_wedDates_9 : decode cX0_wedDates 9 = .ok (.iadd, 1) := dk_96 (dk_at dksX0_wedDates_0 9 rfl rfl)
theorem dX0_wedDates_10 : decode cX0_wedDates 10 = .ok (.iaload, 1) := dk_46 (dk_at dksX0_wedDates_0 10 rfl rfl)
theorem dX0_wedDates_11 : decode cX0_wedDates 11 = .ok (.aload_n 0, 1) := dk_42 (dk_at dksX0_wedDates_0 11 rfl rfl)
theorem dX0_wedDates_12 : decode cX0_wedDates 12 = .ok (.getfield 21, 3) := dk_180 0 21 (dk_at dksX0_wedDates_0 12 rfl rfl)
theorem dX0_wedDates_15 : decode cX0_wedDates 15 = .ok (.getfield 74, 3) := dk_180 0 74 (dk_at dksX0_wedDates_0 15 rfl rfl)
theorem dX0_wedDates_18 : decode cX0_wedDates 18 = .ok (.iconst 3, 1) := dk_6 (dk_at dksX0_wedDates_0 18 rfl rfl)
theorem dX0_wedDates_19 : decode cX0_wedDates 19 = .ok (.iload_n 2, 1) := dk_28 (dk_at dksX0_wedDates_0 19 rfl rfl)
theorem dX0_wedDates_20 : decode cX0_wedDates 20 = .ok (.iadd, 1) := dk_96 (dk_at dksX0_wedDates_0 20 rfl rfl)
theorem dX0_wedDates_21 : decode cX0_wedDates 21 = .ok (.iaload, 1) := dk_46 (dk_at dksX0_wedDates_0 21 rfl rfl)
theorem dX0_wedDates_22 : decode cX0_wedDates 22 = .ok (.iand, 1) := dk_126 (dk_at dksX0_wedDates_0 22 rfl rfl)
theorem dX0_wedDates_23 : decode cX0_wedDates 23 = .ok (.istore_n 3, 1) := dk_62 (dk_at dksX0_wedDates_0 23 rfl rfl)
theorem dX0_wedDates_24 : decode cX0_wedDates 24 = .ok (.aload_n 0, 1) := dk_42 (dk_at dksX0_wedDates_1 0 rfl rfl)
theorem dX0_wedDates_25 : decode cX0_wedDates 25 = .ok (.getfield 21, 3) := dk_180 0 21 (dk_at dksX0_wedDates_1 1 rfl rfl)
theorem dX0_wedDates_28 : decode cX0_wedDates 28 = .ok (.getfield 74, 3) := dk_180 0 74 (dk_at dksX0_wedDates_1 4 rfl rfl)
theorem dX0_wedDates_31 : decode cX0_wedDates 31 = .ok (.iconst 3, 1) := dk_6 (dk_at dksX0_wedDates_1 7 rfl rfl)
theorem dX0_wedDates_32 : decode cX0_wedDates 32 = .ok (.iload_n 1, 1) := dk_27 (dk_at dksX0_wedDates_1 8 rfl rfl)
theorem dX0_wedDates_33 : decode cX0_wedDates 33 = .ok (.iadd, 1) := dk_96 (dk_at dksX0_wedDates_1 9 rfl rfl)
theorem dX0_wedDates_34 : decode cX0_wedDates 34 = .ok (.iaload, 1) := dk_46 (dk_at dksX0_wedDates_1 10 rfl rfl)
theorem dX0_wedDates_35 : decode cX0_wedDates 35 = .ok (.aload_n 0, 1) := dk_42 (dk_at dksX0_wedDates_1 11 rfl rfl)
theorem dX0_wedDates_36 : decode cX0_wedDates 36 = .ok (.getfield 21, 3) := dk_180 0 21 (dk_at dksX0_wedDates_1 12 rfl rfl)
theorem dX0_wedDates_39 : decode cX0_wedDates 39 = .ok (.getfield 74, 3) := dk_180 0 74 (dk_at dksX0_wedDates_1 15 rfl rfl)
theorem dX0_wedDates_42 : decode cX0_wedDates 42 = .ok (.iconst 3, 1) := dk_6 (dk_at dksX0_wedDates_1 18 rfl rfl)
theorem dX0_wedDates_43 : decode cX0_wedDates 43 = .ok (.iload_n 2, 1) := dk_28 (dk_at dksX0_wedDates_1 19 rfl rfl)
theorem dX0_wedDates_44 : decode cX0_wedDates 44 = .ok (.iadd, 1) := dk_96 (dk_at dksX0_wedDates_1 20 rfl rfl)
theorem dX0_wedDates_45 : decode cX0_wedDates 45 = .ok (.iaload, 1) := dk_46 (dk_at dksX0_wedDates_1 21 rfl rfl)
theorem dX0_wedDates_46 : decode cX0_wedDates 46 = .ok (.ior, 1) := dk_128 (dk_at dksX0_wedDates_1 22 rfl rfl)
theorem dX0_wedDates_47 : decode cX0_wedDates 47 = .ok (.istore 4, 2) := dk_54 4 (dk_at dksX0_wedDates_2 0 rfl rfl)
theorem dX0_wedDates_49 : decode cX0_wedDates 49 = .ok (.iload_n 3, 1) := dk_29 (dk_at dksX0_wedDates_2 2 rfl rfl)
theorem dX0_wedDates_50 : decode cX0_wedDates 50 = .ok (.ifCond .eq 7, 3) := dk_153 0 7 (dk_at dksX0_wedDates_2 3 rfl rfl)
theorem dX0_wedDates_53 : decode cX0_wedDates 53 = .ok (.iload_n 3, 1) := dk_29 (dk_at dksX0_wedDates_2 6 rfl rfl)
theorem dX0_wedDates_54 : decode cX0_wedDates 54 = .ok (.goto 18, 3) := dk_167 0 18 (dk_at dksX0_wedDates_2 7 rfl rfl)
theorem dX0_wedDates_57 : decode cX0_wedDates 57 = .ok (.iload 4, 2) := dk_21 4 (dk_at dksX0_wedDates_2 10 rfl rfl)
theorem dX0_wedDates_59 : decode cX0_wedDates 59 = .ok (.invokestatic 126, 3) := dk_184 0 126 (dk_at dksX0_wedDates_2 12 rfl rfl)
theorem dX0_wedDates_62 : decode cX0_wedDates 62 = .ok (.iconst 3, 1) := dk_6 (dk_at dksX0_wedDates_2 15 rfl rfl)
theorem dX0_wedDates_63 : decode cX0_wedDates 63 = .ok (.if_icmp .gt 8, 3) := dk_163 0 8 (dk_at dksX0_wedDates_2 16 rfl rfl)
theorem dX0_wedDates_66 : decode cX0_wedDates 66 = .ok (.iload 4, 2) := dk_21 4 (dk_at dksX0_wedDates_2 19 rfl rfl)
theorem dX0_wedDates_68 : decode cX0_wedDates 68 = .ok (.goto 4, 3) := dk_167 0 4 (dk_at dksX0_wedDates_2 21 rfl rfl)
theorem dX0_wedDates_71 : decode cX0_wedDates 71 = .ok (.iconst (-1), 1) := dk_2 (dk_at dksX0_wedDates_3 0 rfl rfl)
theorem dX0_wedDates_72 : decode cX0_wedDates 72 = .ok (.ireturn, 1) := dk_172 (dk_at dksX0_wedDates_3 1 rfl rfl)
abbrev cX0_hat : ByteArray := prog_1_method_37_code
def yX0_hat : MethodName := ⟨RX0, "hat", "(I)I"⟩
def dkwX0_hat_0 : List UInt8 := [42, 27, 182, 0, 221, 154, 0, 5, 2, 172, 42, 180, 0, 21, 182, 0, 189, 42, 27, 182, 0, 224, 172]
abbrev dktX0_hat_0 : List UInt8 := dkwX0_hat_0 ++ []
theorem dksX0_hat_0 : cX0_hat.data.toList.drop 0 = dktX0_hat_0 := by decide +kernel
theorem dX0_hat_0 : decode cX0_hat 0 = .ok (.aload_n 0, 1) := dk_42 (dk_at dksX0_hat_0 0 rfl rfl)
theorem dX0_hat_1 : decode cX0_hat 1 = .ok (.iload_n 1, 1) := dk_27 (dk_at dksX0_hat_0 1 rfl rfl)
theorem dX0_hat_2 : decode cX0_hat 2 = .ok (.invokevirtual 221, 3) := dk_182 0 221 (dk_at dksX0_hat_0 2 rfl rfl)
theorem dX0_hat_5 : decode cX0_hat 5 = .ok (.ifCond .ne 5, 3) := dk_154 0 5 (dk_at dksX0_hat_0 5 rfl rfl)
theorem dX0_hat_8 : decode cX0_hat 8 = .ok (.iconst (-1), 1) := dk_2 (dk_at dksX0_hat_0 8 rfl rfl)
theorem dX0_hat_9 : decode cX0_hat 9 = .ok (.ireturn, 1) := dk_172 (dk_at dksX0_hat_0 9 rfl rfl)
theorem dX0_hat_10 : decode cX0_hat 10 = .ok (.aload_n 0, 1) := dk_42 (dk_at dksX0_hat_0 10 rfl rfl)
theorem dX0_hat_11 : decode cX0_hat 11 = .ok (.getfield 21, 3) := dk_180 0 21 (dk_at dksX0_hat_0 11 rfl rfl)
theorem dX0_hat_14 : decode cX0_hat 14 = .ok (.invokevirtual 189, 3) := dk_182 0 189 (dk_at dksX0_hat_0 14 rfl rfl)
theorem dX0_hat_17 : decode cX0_hat 17 = .ok (.aload_n 0, 1) := dk_42 (dk_at dksX0_hat_0 17 rfl rfl)
theorem dX0_hat_18 : decode cX0_hat 18 = .ok (.iload_n 1, 1) := dk_27 (dk_at dksX0_hat_0 18 rfl rfl)
theorem dX0_hat_19 : decode cX0_hat 19 = .ok (.invokevirtual 224, 3) := dk_182 0 224 (dk_at dksX0_hat_0 19 rfl rfl)
theorem dX0_hat_22 : decode cX0_hat 22 = .ok (.ireturn, 1) := dk_172 (dk_at dksX0_hat_0 22 rfl rfl)
abbrev cX0_canHat : ByteArray := prog_1_method_35_code
def yX0_canHat : MethodName := ⟨RX0, "canHat", "(I)Z"⟩
def dkwX0_canHat_1 : List UInt8 := [162, 0, 7, 4, 167, 0, 4, 3, 172]
abbrev dktX0_canHat_1 : List UInt8 := dkwX0_canHat_1 ++ []
def dkwX0_canHat_0 : List UInt8 := [42, 27, 182, 0, 209, 153, 0, 25, 42, 180, 0, 21, 180, 0, 74, 6, 27, 96, 46, 184, 0, 126, 6]
abbrev dktX0_canHat_0 : List UInt8 := dkwX0_canHat_0 ++ dktX0_canHat_1
theorem dksX0_canHat_0 : cX0_canHat.data.toList.drop 0 = dktX0_canHat_0 := by decide +kernel
theorem dksX0_canHat_1 : cX0_canHat.data.toList.drop 23 = dktX0_canHat_1 := dk_seg dksX0_canHat_0 23 rfl rfl
theorem dX0_canHat_0 : decode cX0_canHat 0 = .ok (.aload_n 0, 1) := dk_42 (dk_at dksX0_canHat_0 0 rfl rfl)
theorem dX0_canHat_1 : decode cX0_canHat 1 = .ok (.iload_n 1, 1) := dk_27 (dk_at dksX0_canHat_0 1 rfl rfl)
theorem dX0_canHat_2 : decode cX0_canHat 2 = .ok (.invokevirtual 209, 3) := dk_182 0 209 (dk_at dksX0_canHat_0 2 rfl rfl)
theorem dX0_canHat_5 : decode cX0_canHat 5 = .ok (.ifCond .eq 25, 3) := dk_153 0 25 (dk_at dksX0_canHat_0 5 rfl rfl)
theorem dX0_canHat_8 : decode cX0_canHat 8 = .ok (.aload_n 0, 1) := dk_42 (dk_at dksX0_canHat_0 8 rfl rfl)
theorem dX0_canHat_9 : decode cX0_canHat 9 = .ok (.getfield 21, 3) := dk_180 0 21 (dk_at dksX0_canHat_0 9 rfl rfl)
theorem dX0_canHat_12 : decode cX0_canHat 12 = .ok (.getfield 74, 3) := dk_180 0 74 (dk_at dksX0_canHat_0 12 rfl rfl)
theorem dX0_canHat_15 : decode cX0_canHat 15 = .ok (.iconst 3, 1) := dk_6 (dk_at dksX0_canHat_0 15 rfl rfl)
theorem dX0_canHat_16 : decode cX0_canHat 16 = .ok (.iload_n 1, 1) := dk_27 (dk_at dksX0_canHat_0 16 rfl rfl)
theorem dX0_canHat_17 : decode cX0_canHat 17 = .ok (.iadd, 1) := dk_96 (dk_at dksX0_canHat_0 17 rfl rfl)
theorem dX0_canHat_18 : decode cX0_canHat 18 = .ok (.iaload, 1) := dk_46 (dk_at dksX0_canHat_0 18 rfl rfl)
theorem dX0_canHat_19 : decode cX0_canHat 19 = .ok (.invokestatic 126, 3) := dk_184 0 126 (dk_at dksX0_canHat_0 19 rfl rfl)
theorem dX0_canHat_22 : decode cX0_canHat 22 = .ok (.iconst 3, 1) := dk_6 (dk_at dksX0_canHat_0 22 rfl rfl)
theorem dX0_canHat_23 : decode cX0_canHat 23 = .ok (.if_icmp .ge 7, 3) := dk_162 0 7 (dk_at dksX0_canHat_1 0 rfl rfl)
theorem dX0_canHat_26 : decode cX0_canHat 26 = .ok (.iconst 1, 1) := dk_4 (dk_at dksX0_canHat_1 3 rfl rfl)
theorem dX0_canHat_27 : decode cX0_canHat 27 = .ok (.goto 4, 3) := dk_167 0 4 (dk_at dksX0_canHat_1 4 rfl rfl)
theorem dX0_canHat_30 : decode cX0_canHat 30 = .ok (.iconst 0, 1) := dk_3 (dk_at dksX0_canHat_1 7 rfl rfl)
theorem dX0_canHat_31 : decode cX0_canHat 31 = .ok (.ireturn, 1) := dk_172 (dk_at dksX0_canHat_1 8 rfl rfl)
abbrev cX0_hats : ByteArray := prog_1_method_36_code
def yX0_hats : MethodName := ⟨RX0, "hats", "(I)I"⟩
def dkwX0_hats_3 : List UInt8 := [167, 255, 190, 2, 172]
abbrev dktX0_hats_3 : List UInt8 := dkwX0_hats_3 ++ []
def dkwX0_hats_2 : List UInt8 := [42, 180, 0, 21, 180, 0, 74, 6, 27, 96, 92, 46, 4, 29, 120, 128, 79, 29, 172, 132, 2, 1]
abbrev dktX0_hats_2 : List UInt8 := dkwX0_hats_2 ++ dktX0_hats_3
def dkwX0_hats_1 : List UInt8 := [182, 0, 218, 42, 180, 0, 21, 180, 0, 74, 6, 27, 96, 46, 29, 184, 0, 66, 153, 0, 6, 167, 0, 22]
abbrev dktX0_hats_1 : List UInt8 := dkwX0_hats_1 ++ dktX0_hats_2
def dkwX0_hats_0 : List UInt8 := [3, 61, 28, 16, 20, 162, 0, 66, 42, 180, 0, 21, 180, 0, 74, 4, 46, 16, 20, 112, 62, 42]
abbrev dktX0_hats_0 : List UInt8 := dkwX0_hats_0 ++ dktX0_hats_1
theorem dksX0_hats_0 : cX0_hats.data.toList.drop 0 = dktX0_hats_0 := by decide +kernel
theorem dksX0_hats_1 : cX0_hats.data.toList.drop 22 = dktX0_hats_1 := dk_seg dksX0_hats_0 22 rfl rfl
theorem dksX0_hats_2 : cX0_hats.data.toList.drop 46 = dktX0_hats_2 := dk_seg dksX0_hats_1 24 rfl rfl
theorem dksX0_hats_3 : cX0_hats.data.toList.drop 68 = dktX0_hats_3 := dk_seg dksX0_hats_2 22 rfl rfl
theorem dX0_hats_0 : decode cX0_hats 0 = .ok (.iconst 0, 1) := dk_3 (dk_at dksX0_hats_0 0 rfl rfl)
theorem dX0_hats_1 : decode cX0_hats 1 = .ok (.istore_n 2, 1) := dk_61 (dk_at dksX0_hats_0 1 rfl rfl)
theorem dX0_hats_2 : decode cX0_hats 2 = .ok (.iload_n 2, 1) := dk_28 (dk_at dksX0_hats_0 2 rfl rfl)
theorem dX0_hats_3 : decode cX0_hats 3 = .ok (.bipush 20, 2) := dk_16 20 (dk_at dksX0_hats_0 3 rfl rfl)
theorem dX0_hats_5 : decode cX0_hats 5 = .ok (.if_icmp .ge 66, 3) := dk_162 0 66 (dk_at dksX0_hats_0 5 rfl rfl)
theorem dX0_hats_8 : decode cX0_hats 8 = .ok (.aload_n 0, 1) := dk_42 (dk_at dksX0_hats_0 8 rfl rfl)
theorem dX0_hats_9 : decode cX0_hats 9 = .ok (.getfield 21, 3) := dk_180 0 21 (dk_at dksX0_hats_0 9 rfl rfl)
theorem dX0_hats_12 : decode cX0_hats 12 = .ok (.getfield 74, 3) := dk_180 0 74 (dk_at dksX0_hats_0 12 rfl rfl)
theorem dX0_hats_15 : decode cX0_hats 15 = .ok (.iconst 1, 1) := dk_4 (dk_at dksX0_hats_0 15 rfl rfl)
theorem dX0_hats_16 : decode cX0_hats 16 = .ok (.iaload, 1) := dk_46 (dk_at dksX0_hats_0 16 rfl rfl)
theorem dX0_hats_17 : decode cX0_hats 17 = .ok (.bipush 20, 2) := dk_16 20 (dk_at dksX0_hats_0 17 rfl rfl)
theorem dX0_hats_19 : decode cX0_hats 19 = .ok (.irem, 1) := dk_112 (dk_at dksX0_hats_0 19 rfl rfl)
theorem dX0_hats_20 : decode cX0_hats 20 = .ok (.istore_n 3, 1) := dk_62 (dk_at dksX0_hats_0 20 rfl rfl)
theorem dX0_hats_21 : decode cX0_hats 21 = .ok (.aload_n 0, 1) := dk_42 (dk_at dksX0_hats_0 21 rfl rfl)
theorem dX0_hats_22 : decode cX0_hats 22 = .ok (.invokevirtual 218, 3) := dk_182 0 218 (dk_at dksX0_hats_1 0 rfl rfl)
theorem dX0_hats_25 : decode cX0_hats 25 = .ok (.aload_n 0, 1) := dk_42 (dk_at dksX0_hats_1 3 rfl rfl)
theorem dX0_hats_26 : decode cX0_hats 26 = .ok (.getfield 21, 3) := dk_180 0 21 (dk_at dksX0_hats_1 4 rfl rfl)
theorem dX0_hats_29 : decode cX0_hats 29 = .ok (.getfield 74, 3) := dk_180 0 74 (dk_at dksX0_hats_1 7 rfl rfl)
theorem dX0_hats_32 : decode cX0_hats 32 = .ok (.iconst 3, 1) := dk_6 (dk_at dksX0_hats_1 10 rfl rfl)
theorem dX0_hats_33 : decode cX0_hats 33 = .ok (.iload_n 1, 1) := dk_27 (dk_at dksX0_hats_1 11 rfl rfl)
theorem dX0_hats_34 : decode cX0_hats 34 = .ok (.iadd, 1) := dk_96 (dk_at dksX0_hats_1 12 rfl rfl)
theorem dX0_hats_35 : decode cX0_hats 35 = .ok (.iaload, 1) := dk_46 (dk_at dksX0_hats_1 13 rfl rfl)
theorem dX0_hats_36 : decode cX0_hats 36 = .ok (.iload_n 3, 1) := dk_29 (dk_at dksX0_hats_1 14 rfl rfl)
theorem dX0_hats_37 : decode cX0_hats 37 = .ok (.invokestatic 66, 3) := dk_184 0 66 (dk_at dksX0_hats_1 15 rfl rfl)
theorem dX0_hats_40 : decode cX0_hats 40 = .ok (.ifCond .eq 6, 3) := dk_153 0 6 (dk_at dksX0_hats_1 18 rfl rfl)
theorem dX0_hats_43 : decode cX0_hats 43 = .ok (.goto 22, 3) := dk_167 0 22 (dk_at dksX0_hats_1 21 rfl rfl)
theorem dX0_hats_46 : decode cX0_hats 46 = .ok (.aload_n 0, 1) := dk_42 (dk_at dksX0_hats_2 0 rfl rfl)
theorem dX0_hats_47 : decode cX0_hats 47 = .ok (.getfield 21, 3) := dk_180 0 21 (dk_at dksX0_hats_2 1 rfl rfl)
theorem dX0_hats_50 : decode cX0_hats 50 = .ok (.getfield 74, 3) := dk_180 0 74 (dk_at dksX0_hats_2 4 rfl rfl)
theorem dX0_hats_53 : decode cX0_hats 53 = .ok (.iconst 3, 1) := dk_6 (dk_at dksX0_hats_2 7 rfl rfl)
theorem dX0_hats_54 : decode cX0_hats 54 = .ok (.iload_n 1, 1) := dk_27 (dk_at dksX0_hats_2 8 rfl rfl)
theorem dX0_hats_55 : decode cX0_hats 55 = .ok (.iadd, 1) := dk_96 (dk_at dksX0_hats_2 9 rfl rfl)
theorem dX0_hats_56 : decode cX0_hats 56 = .ok (.dup2, 1) := dk_92 (dk_at dksX0_hats_2 10 rfl rfl)
theorem dX0_hats_57 : decode cX0_hats 57 = .ok (.iaload, 1) := dk_46 (dk_at dksX0_hats_2 11 rfl rfl)
theorem dX0_hats_58 : decode cX0_hats 58 = .ok (.iconst 1, 1) := dk_4 (dk_at dksX0_hats_2 12 rfl rfl)
theorem dX0_hats_59 : decode cX0_hats 59 = .ok (.iload_n 3, 1) := dk_29 (dk_at dksX0_hats_2 13 rfl rfl)
theorem dX0_hats_60 : decode cX0_hats 60 = .ok (.ishl, 1) := dk_120 (dk_at dksX0_hats_2 14 rfl rfl)
theorem dX0_hats_61 : decode cX0_hats 61 = .ok (.ior, 1) := dk_128 (dk_at dksX0_hats_2 15 rfl rfl)
theorem dX0_hats_62 : decode cX0_hats 62 = .ok (.iastore, 1) := dk_79 (dk_at dksX0_hats_2 16 rfl rfl)
theorem dX0_hats_63 : decode cX0_hats 63 = .ok (.iload_n 3, 1) := dk_29 (dk_at dksX0_hats_2 17 rfl rfl)
theorem dX0_hats_64 : decode cX0_hats 64 = .ok (.ireturn, 1) := dk_172 (dk_at dksX0_hats_2 18 rfl rfl)
theorem dX0_hats_65 : decode cX0_hats 65 = .ok (.iinc 2 1, 3) := dk_132 2 1 (dk_at dksX0_hats_2 19 rfl rfl)
theorem dX0_hats_68 : decode cX0_hats 68 = .ok (.goto (-66), 3) := dk_167 255 190 (dk_at dksX0_hats_3 0 rfl rfl)
theorem dX0_hats_71 : decode cX0_hats 71 = .ok (.iconst (-1), 1) := dk_2 (dk_at dksX0_hats_3 3 rfl rfl)
theorem dX0_hats_72 : decode cX0_hats 72 = .ok (.ireturn, 1) := dk_172 (dk_at dksX0_hats_3 4 rfl rfl)
abbrev cX0_draws : ByteArray := prog_1_method_34_code
def yX0_draws : MethodName := ⟨RX0, "draws", "()V"⟩
def dkwX0_draws_1 : List UInt8 := [96, 17, 118, 223, 112, 79, 177]
abbrev dktX0_draws_1 : List UInt8 := dkwX0_draws_1 ++ []
def dkwX0_draws_0 : List UInt8 := [42, 180, 0, 21, 180, 0, 74, 4, 42, 180, 0, 21, 180, 0, 74, 4, 46, 17, 1, 103, 104, 17, 0, 239]
abbrev dktX0_draws_0 : List UInt8 := dkwX0_draws_0 ++ dktX0_draws_1
theorem dksX0_draws_0 : cX0_draws.data.toList.drop 0 = dktX0_draws_0 := by decide +kernel
theorem dksX0_draws_1 : cX0_draws.data.toList.drop 24 = dktX0_draws_1 := dk_seg dksX0_draws_0 24 rfl rfl
theorem dX0_draws_0 : decode cX0_draws 0 = .ok (.aload_n 0, 1) := dk_42 (dk_at dksX0_draws_0 0 rfl rfl)
theorem dX0_draws_1 : decode cX0_draws 1 = .ok (.getfield 21, 3) := dk_180 0 21 (dk_at dksX0_draws_0 1 rfl rfl)
theorem dX0_draws_4 : decode cX0_draws 4 = .ok (.getfield 74, 3) := dk_180 0 74 (dk_at dksX0_draws_0 4 rfl rfl)
theorem dX0_draws_7 : decode cX0_draws 7 = .ok (.iconst 1, 1) := dk_4 (dk_at dksX0_draws_0 7 rfl rfl)
theorem dX0_draws_8 : decode cX0_draws 8 = .ok (.aload_n 0, 1) := dk_42 (dk_at dksX0_draws_0 8 rfl rfl)
theorem dX0_draws_9 : decode cX0_draws 9 = .ok (.getfield 21, 3) := dk_180 0 21 (dk_at dksX0_draws_0 9 rfl rfl)
theorem dX0_draws_12 : decode cX0_draws 12 = .ok (.getfield 74, 3) := dk_180 0 74 (dk_at dksX0_draws_0 12 rfl rfl)
theorem dX0_draws_15 : decode cX0_draws 15 = .ok (.iconst 1, 1) := dk_4 (dk_at dksX0_draws_0 15 rfl rfl)
theorem dX0_draws_16 : decode cX0_draws 16 = .ok (.iaload, 1) := dk_46 (dk_at dksX0_draws_0 16 rfl rfl)
theorem dX0_draws_17 : decode cX0_draws 17 = .ok (.sipush 359, 3) := dk_17 1 103 (dk_at dksX0_draws_0 17 rfl rfl)
theorem dX0_draws_20 : decode cX0_draws 20 = .ok (.imul, 1) := dk_104 (dk_at dksX0_draws_0 20 rfl rfl)
theorem dX0_draws_21 : decode cX0_draws 21 = .ok (.sipush 239, 3) := dk_17 0 239 (dk_at dksX0_draws_0 21 rfl rfl)
theorem dX0_draws_24 : decode cX0_draws 24 = .ok (.iadd, 1) := dk_96 (dk_at dksX0_draws_1 0 rfl rfl)
theorem dX0_draws_25 : decode cX0_draws 25 = .ok (.sipush 30431, 3) := dk_17 118 223 (dk_at dksX0_draws_1 1 rfl rfl)
theorem dX0_draws_28 : decode cX0_draws 28 = .ok (.irem, 1) := dk_112 (dk_at dksX0_draws_1 4 rfl rfl)
theorem dX0_draws_29 : decode cX0_draws 29 = .ok (.iastore, 1) := dk_79 (dk_at dksX0_draws_1 5 rfl rfl)
theorem dX0_draws_30 : decode cX0_draws 30 = .ok (.return_, 1) := dk_177 (dk_at dksX0_draws_1 6 rfl rfl)
abbrev cX0_forget : ByteArray := prog_1_method_39_code
def yX0_forget : MethodName := ⟨RX0, "forget", "(II)Z"⟩
def dkwX0_forget_1 : List UInt8 := [180, 0, 74, 6, 28, 96, 92, 46, 4, 27, 120, 130, 79, 4, 172]
abbrev dktX0_forget_1 : List UInt8 := dkwX0_forget_1 ++ []
def dkwX0_forget_0 : List UInt8 := [42, 27, 28, 182, 0, 230, 154, 0, 5, 3, 172, 42, 180, 0, 21, 182, 0, 189, 42, 180, 0, 21]
abbrev dktX0_forget_0 : List UInt8 := dkwX0_forget_0 ++ dktX0_forget_1
theorem dksX0_forget_0 : cX0_forget.data.toList.drop 0 = dktX0_forget_0 := by decide +kernel
theorem dksX0_forget_1 : cX0_forget.data.toList.drop 22 = dktX0_forget_1 := dk_seg dksX0_forget_0 22 rfl rfl
theorem dX0_forget_0 : decode cX0_forget 0 = .ok (.aload_n 0, 1) := dk_42 (dk_at dksX0_forget_0 0 rfl rfl)
theorem dX0_forget_1 : decode cX0_forget 1 = .ok (.iload_n 1, 1) := dk_27 (dk_at dksX0_forget_0 1 rfl rfl)
theorem dX0_forget_2 : decode cX0_forget 2 = .ok (.iload_n 2, 1) := dk_28 (dk_at dksX0_forget_0 2 rfl rfl)
theorem dX0_forget_3 : decode cX0_forget 3 = .ok (.invokevirtual 230, 3) := dk_182 0 230 (dk_at dksX0_forget_0 3 rfl rfl)
theorem dX0_forget_6 : decode cX0_forget 6 = .ok (.ifCond .ne 5, 3) := dk_154 0 5 (dk_at dksX0_forget_0 6 rfl rfl)
theorem dX0_forget_9 : decode cX0_forget 9 = .ok (.iconst 0, 1) := dk_3 (dk_at dksX0_forget_0 9 rfl rfl)
theorem dX0_forget_10 : decode cX0_forget 10 = .ok (.ireturn, 1) := dk_172 (dk_at dksX0_forget_0 10 rfl rfl)
theorem dX0_forget_11 : decode cX0_forget 11 = .ok (.aload_n 0, 1) := dk_42 (dk_at dksX0_forget_0 11 rfl rfl)
theorem dX0_forget_12 : decode cX0_forget 12 = .ok (.getfield 21, 3) := dk_180 0 21 (dk_at dksX0_forget_0 12 rfl rfl)
theorem dX0_forget_15 : decode cX0_forget 15 = .ok (.invokevirtual 189, 3) := dk_182 0 189 (dk_at dksX0_forget_0 15 rfl rfl)
theorem dX0_forget_18 : decode cX0_forget 18 = .ok (.aload_n 0, 1) := dk_42 (dk_at dksX0_forget_0 18 rfl rfl)
theorem dX0_forget_19 : decode cX0_forget 19 = .ok (.getfield 21, 3) := dk_180 0 21 (dk_at dksX0_forget_0 19 rfl rfl)
theorem dX0_forget_22 : decode cX0_forget 22 = .ok (.getfield 74, 3) := dk_180 0 74 (dk_at dksX0_forget_1 0 rfl rfl)
theorem dX0_forget_25 : decode cX0_forget 25 = .ok (.iconst 3, 1) := dk_6 (dk_at dksX0_forget_1 3 rfl rfl)
theorem dX0_forget_26 : decode cX0_forget 26 = .ok (.iload_n 2, 1) := dk_28 (dk_at dksX0_forget_1 4 rfl rfl)
theorem dX0_forget_27 : decode cX0_forget 27 = .ok (.iadd, 1) := dk_96 (dk_at dksX0_forget_1 5 rfl rfl)
theorem dX0_forget_28 : decode cX0_forget 28 = .ok (.dup2, 1) := dk_92 (dk_at dksX0_forget_1 6 rfl rfl)
theorem dX0_forget_29 : decode cX0_forget 29 = .ok (.iaload, 1) := dk_46 (dk_at dksX0_forget_1 7 rfl rfl)
theorem dX0_forget_30 : decode cX0_forget 30 = .ok (.iconst 1, 1) := dk_4 (dk_at dksX0_forget_1 8 rfl rfl)
theorem dX0_forget_31 : decode cX0_forget 31 = .ok (.iload_n 1, 1) := dk_27 (dk_at dksX0_forget_1 9 rfl rfl)
theorem dX0_forget_32 : decode cX0_forget 32 = .ok (.ishl, 1) := dk_120 (dk_at dksX0_forget_1 10 rfl rfl)
theorem dX0_forget_33 : decode cX0_forget 33 = .ok (.ixor, 1) := dk_130 (dk_at dksX0_forget_1 11 rfl rfl)
theorem dX0_forget_34 : decode cX0_forget 34 = .ok (.iastore, 1) := dk_79 (dk_at dksX0_forget_1 12 rfl rfl)
theorem dX0_forget_35 : decode cX0_forget 35 = .ok (.iconst 1, 1) := dk_4 (dk_at dksX0_forget_1 13 rfl rfl)
theorem dX0_forget_36 : decode cX0_forget 36 = .ok (.ireturn, 1) := dk_172 (dk_at dksX0_forget_1 14 rfl rfl)
abbrev cX0_canForget : ByteArray := prog_1_method_38_code
def yX0_canForget : MethodName := ⟨RX0, "canForget", "(II)Z"⟩
def dkwX0_canForget_1 : List UInt8 := [96, 46, 27, 184, 0, 66, 153, 0, 7, 4, 167, 0, 4, 3, 172]
abbrev dktX0_canForget_1 : List UInt8 := dkwX0_canForget_1 ++ []
def dkwX0_canForget_0 : List UInt8 := [27, 184, 0, 227, 153, 0, 33, 42, 28, 182, 0, 209, 153, 0, 25, 42, 180, 0, 21, 180, 0, 74, 6, 28]
abbrev dktX0_canForget_0 : List UInt8 := dkwX0_canForget_0 ++ dktX0_canForget_1
theorem dksX0_canForget_0 : cX0_canForget.data.toList.drop 0 = dktX0_canForget_0 := by decide +kernel
theorem dksX0_canForget_1 : cX0_canForget.data.toList.drop 24 = dktX0_canForget_1 := dk_seg dksX0_canForget_0 24 rfl rfl
theorem dX0_canForget_0 : decode cX0_canForget 0 = .ok (.iload_n 1, 1) := dk_27 (dk_at dksX0_canForget_0 0 rfl rfl)
theorem dX0_canForget_1 : decode cX0_canForget 1 = .ok (.invokestatic 227, 3) := dk_184 0 227 (dk_at dksX0_canForget_0 1 rfl rfl)
theorem dX0_canForget_4 : decode cX0_canForget 4 = .ok (.ifCond .eq 33, 3) := dk_153 0 33 (dk_at dksX0_canForget_0 4 rfl rfl)
theorem dX0_canForget_7 : decode cX0_canForget 7 = .ok (.aload_n 0, 1) := dk_42 (dk_at dksX0_canForget_0 7 rfl rfl)
theorem dX0_canForget_8 : decode cX0_canForget 8 = .ok (.iload_n 2, 1) := dk_28 (dk_at dksX0_canForget_0 8 rfl rfl)
theorem dX0_canForget_9 : decode cX0_canForget 9 = .ok (.invokevirtual 209, 3) := dk_182 0 209 (dk_at dksX0_canForget_0 9 rfl rfl)
theorem dX0_canForget_12 : decode cX0_canForget 12 = .ok (.ifCond .eq 25, 3) := dk_153 0 25 (dk_at dksX0_canForget_0 12 rfl rfl)
theorem dX0_canForget_15 : decode cX0_canForget 15 = .ok (.aload_n 0, 1) := dk_42 (dk_at dksX0_canForget_0 15 rfl rfl)
theorem dX0_canForget_16 : decode cX0_canForget 16 = .ok (.getfield 21, 3) := dk_180 0 21 (dk_at dksX0_canForget_0 16 rfl rfl)
theorem dX0_canForget_19 : decode cX0_canForget 19 = .ok (.getfield 74, 3) := dk_180 0 74 (dk_at dksX0_canForget_0 19 rfl rfl)
theorem dX0_canForget_22 : decode cX0_canForget 22 = .ok (.iconst 3, 1) := dk_6 (dk_at dksX0_canForget_0 22 rfl rfl)
theorem dX0_canForget_23 : decode cX0_canForget 23 = .ok (.iload_n 2, 1) := dk_28 (dk_at dksX0_canForget_0 23 rfl rfl)
theorem dX0_canForget_24 : decode cX0_canForget 24 = .ok (.iadd, 1) := dk_96 (dk_at dksX0_canForget_1 0 rfl rfl)
theorem dX0_canForget_25 : decode cX0_canForget 25 = .ok (.iaload, 1) := dk_46 (dk_at dksX0_canForget_1 1 rfl rfl)
theorem dX0_canForget_26 : decode cX0_canForget 26 = .ok (.iload_n 1, 1) := dk_27 (dk_at dksX0_canForget_1 2 rfl rfl)
theorem dX0_canForget_27 : decode cX0_canForget 27 = .ok (.invokestatic 66, 3) := dk_184 0 66 (dk_at dksX0_canForget_1 3 rfl rfl)
theorem dX0_canForget_30 : decode cX0_canForget 30 = .ok (.ifCond .eq 7, 3) := dk_153 0 7 (dk_at dksX0_canForget_1 6 rfl rfl)
theorem dX0_canForget_33 : decode cX0_canForget 33 = .ok (.iconst 1, 1) := dk_4 (dk_at dksX0_canForget_1 9 rfl rfl)
theorem dX0_canForget_34 : decode cX0_canForget 34 = .ok (.goto 4, 3) := dk_167 0 4 (dk_at dksX0_canForget_1 10 rfl rfl)
theorem dX0_canForget_37 : decode cX0_canForget 37 = .ok (.iconst 0, 1) := dk_3 (dk_at dksX0_canForget_1 13 rfl rfl)
theorem dX0_canForget_38 : decode cX0_canForget 38 = .ok (.ireturn, 1) := dk_172 (dk_at dksX0_canForget_1 14 rfl rfl)
abbrev cX0_isDate : ByteArray := prog_1_method_8_code
def yX0_isDate : MethodName := ⟨RX0, "isDate", "(I)Z"⟩
def dkwX0_isDate_0 : List UInt8 := [26, 3, 16, 19, 184, 0, 62, 172]
abbrev dktX0_isDate_0 : List UInt8 := dkwX0_isDate_0 ++ []
theorem dksX0_isDate_0 : cX0_isDate.data.toList.drop 0 = dktX0_isDate_0 := by decide +kernel
theorem dX0_isDate_0 : decode cX0_isDate 0 = .ok (.iload_n 0, 1) := dk_26 (dk_at dksX0_isDate_0 0 rfl rfl)
theorem dX0_isDate_1 : decode cX0_isDate 1 = .ok (.iconst 0, 1) := dk_3 (dk_at dksX0_isDate_0 1 rfl rfl)
theorem dX0_isDate_2 : decode cX0_isDate 2 = .ok (.bipush 19, 2) := dk_16 19 (dk_at dksX0_isDate_0 2 rfl rfl)
theorem dX0_isDate_4 : decode cX0_isDate 4 = .ok (.invokestatic 62, 3) := dk_184 0 62 (dk_at dksX0_isDate_0 4 rfl rfl)
theorem dX0_isDate_7 : decode cX0_isDate 7 = .ok (.ireturn, 1) := dk_172 (dk_at dksX0_isDate_0 7 rfl rfl)
abbrev cX0_played : ByteArray := prog_1_method_43_code
def yX0_played : MethodName := ⟨RX0, "played", "(I)I"⟩
def dkwX0_played_2 : List UInt8 := [154, 0, 15, 44, 29, 182, 1, 26, 192, 0, 240, 182, 1, 34, 172, 132, 3, 1, 167, 255, 218, 2, 172]
abbrev dktX0_played_2 : List UInt8 := dkwX0_played_2 ++ []
def dkwX0_played_1 : List UInt8 := [3, 62, 29, 44, 182, 1, 21, 162, 0, 36, 42, 44, 29, 182, 1, 26, 192, 0, 240, 182, 1, 30]
abbrev dktX0_played_1 : List UInt8 := dkwX0_played_1 ++ dktX0_played_2
def dkwX0_played_0 : List UInt8 := [42, 27, 182, 0, 115, 154, 0, 6, 16, 254, 172, 42, 180, 0, 21, 180, 0, 96, 27, 50, 180, 1, 17, 77]
abbrev dktX0_played_0 : List UInt8 := dkwX0_played_0 ++ dktX0_played_1
theorem dksX0_played_0 : cX0_played.data.toList.drop 0 = dktX0_played_0 := by decide +kernel
theorem dksX0_played_1 : cX0_played.data.toList.drop 24 = dktX0_played_1 := dk_seg dksX0_played_0 24 rfl rfl
theorem dksX0_played_2 : cX0_played.data.toList.drop 46 = dktX0_played_2 := dk_seg dksX0_played_1 22 rfl rfl
theorem dX0_played_0 : decode cX0_played 0 = .ok (.aload_n 0, 1) := dk_42 (dk_at dksX0_played_0 0 rfl rfl)
theorem dX0_played_1 : decode cX0_played 1 = .ok (.iload_n 1, 1) := dk_27 (dk_at dksX0_played_0 1 rfl rfl)
theorem dX0_played_2 : decode cX0_played 2 = .ok (.invokevirtual 115, 3) := dk_182 0 115 (dk_at dksX0_played_0 2 rfl rfl)
theorem dX0_played_5 : decode cX0_played 5 = .ok (.ifCond .ne 6, 3) := dk_154 0 6 (dk_at dksX0_played_0 5 rfl rfl)
theorem dX0_played_8 : decode cX0_played 8 = .ok (.bipush (-2), 2) := dk_16 254 (dk_at dksX0_played_0 8 rfl rfl)
theorem dX0_played_10 : decode cX0_played 10 = .ok (.ireturn, 1) := dk_172 (dk_at dksX0_played_0 10 rfl rfl)
theorem dX0_played_11 : decode cX0_played 11 = .ok (.aload_n 0, 1) := dk_42 (dk_at dksX0_played_0 11 rfl rfl)
theorem dX0_played_12 : decode cX0_played 12 = .ok (.getfield 21, 3) := dk_180 0 21 (dk_at dksX0_played_0 12 rfl rfl)
theorem dX0_played_15 : decode cX0_played 15 = .ok (.getfield 96, 3) := dk_180 0 96 (dk_at dksX0_played_0 15 rfl rfl)
theorem dX0_played_18 : decode cX0_played 18 = .ok (.iload_n 1, 1) := dk_27 (dk_at dksX0_played_0 18 rfl rfl)
theorem dX0_played_19 : decode cX0_played 19 = .ok (.aaload, 1) := dk_50 (dk_at dksX0_played_0 19 rfl rfl)
theorem dX0_played_20 : decode cX0_played 20 = .ok (.getfield 273, 3) := dk_180 1 17 (dk_at dksX0_played_0 20 rfl rfl)
theorem dX0_played_23 : decode cX0_played 23 = .ok (.astore_n 2, 1) := dk_77 (dk_at dksX0_played_0 23 rfl rfl)
theorem dX0_played_24 : decode cX0_played 24 = .ok (.iconst 0, 1) := dk_3 (dk_at dksX0_played_1 0 rfl rfl)
theorem dX0_played_25 : decode cX0_played 25 = .ok (.istore_n 3, 1) := dk_62 (dk_at dksX0_played_1 1 rfl rfl)
theorem dX0_played_26 : decode cX0_played 26 = .ok (.iload_n 3, 1) := dk_29 (dk_at dksX0_played_1 2 rfl rfl)
theorem dX0_played_27 : decode cX0_played 27 = .ok (.aload_n 2, 1) := dk_44 (dk_at dksX0_played_1 3 rfl rfl)
theorem dX0_played_28 : decode cX0_played 28 = .ok (.invokevirtual 277, 3) := dk_182 1 21 (dk_at dksX0_played_1 4 rfl rfl)
theorem dX0_played_31 : decode cX0_played 31 = .ok (.if_icmp .ge 36, 3) := dk_162 0 36 (dk_at dksX0_played_1 7 rfl rfl)
theorem dX0_played_34 : decode cX0_played 34 = .ok (.aload_n 0, 1) := dk_42 (dk_at dksX0_played_1 10 rfl rfl)
theorem dX0_played_35 : decode cX0_played 35 = .ok (.aload_n 2, 1) := dk_44 (dk_at dksX0_played_1 11 rfl rfl)
theorem dX0_played_36 : decode cX0_played 36 = .ok (.iload_n 3, 1) := dk_29 (dk_at dksX0_played_1 12 rfl rfl)
theorem dX0_played_37 : decode cX0_played 37 = .ok (.invokevirtual 282, 3) := dk_182 1 26 (dk_at dksX0_played_1 13 rfl rfl)
theorem dX0_played_40 : decode cX0_played 40 = .ok (.checkcast 240, 3) := dk_192 0 240 (dk_at dksX0_played_1 16 rfl rfl)
theorem dX0_played_43 : decode cX0_played 43 = .ok (.invokevirtual 286, 3) := dk_182 1 30 (dk_at dksX0_played_1 19 rfl rfl)
theorem dX0_played_46 : decode cX0_played 46 = .ok (.ifCond .ne 15, 3) := dk_154 0 15 (dk_at dksX0_played_2 0 rfl rfl)
theorem dX0_played_49 : decode cX0_played 49 = .ok (.aload_n 2, 1) := dk_44 (dk_at dksX0_played_2 3 rfl rfl)
theorem dX0_played_50 : decode cX0_played 50 = .ok (.iload_n 3, 1) := dk_29 (dk_at dksX0_played_2 4 rfl rfl)
theorem dX0_played_51 : decode cX0_played 51 = .ok (.invokevirtual 282, 3) := dk_182 1 26 (dk_at dksX0_played_2 5 rfl rfl)
theorem dX0_played_54 : decode cX0_played 54 = .ok (.checkcast 240, 3) := dk_192 0 240 (dk_at dksX0_played_2 8 rfl rfl)
theorem dX0_played_57 : decode cX0_played 57 = .ok (.invokevirtual 290, 3) := dk_182 1 34 (dk_at dksX0_played_2 11 rfl rfl)
theorem dX0_played_60 : decode cX0_played 60 = .ok (.ireturn, 1) := dk_172 (dk_at dksX0_played_2 14 rfl rfl)
theorem dX0_played_61 : decode cX0_played 61 = .ok (.iinc 3 1, 3) := dk_132 3 1 (dk_at dksX0_played_2 15 rfl rfl)
theorem dX0_played_64 : decode cX0_played 64 = .ok (.goto (-38), 3) := dk_167 255 218 (dk_at dksX0_played_2 18 rfl rfl)
theorem dX0_played_67 : decode cX0_played 67 = .ok (.iconst (-1), 1) := dk_2 (dk_at dksX0_played_2 21 rfl rfl)
theorem dX0_played_68 : decode cX0_played 68 = .ok (.ireturn, 1) := dk_172 (dk_at dksX0_played_2 22 rfl rfl)
abbrev cX0_does : ByteArray := prog_1_method_42_code
def yX0_does : MethodName := ⟨RX0, "does", "(LShutDays$Doing;)Z"⟩
def dkwX0_does_6 : List UInt8 := [182, 0, 245, 182, 1, 14, 172]
abbrev dktX0_does_6 : List UInt8 := dkwX0_does_6 ++ []
def dkwX0_does_5 : List UInt8 := [182, 0, 245, 182, 1, 8, 172, 42, 43, 182, 0, 245, 43, 182, 0, 248, 182, 1, 11, 172, 42, 43]
abbrev dktX0_does_5 : List UInt8 := dkwX0_does_5 ++ dktX0_does_6
def dkwX0_does_4 : List UInt8 := [43, 182, 0, 245, 43, 182, 0, 248, 182, 1, 5, 2, 159, 0, 7, 4, 167, 0, 4, 3, 172, 42, 43]
abbrev dktX0_does_4 : List UInt8 := dkwX0_does_4 ++ dktX0_does_5
def dkwX0_does_3 : List UInt8 := [167, 0, 4, 3, 172, 42, 43, 182, 0, 245, 182, 1, 2, 2, 159, 0, 7, 4, 167, 0, 4, 3, 172, 42]
abbrev dktX0_does_3 : List UInt8 := dkwX0_does_3 ++ dktX0_does_4
def dkwX0_does_2 : List UInt8 := [42, 43, 182, 0, 245, 2, 2, 43, 182, 0, 248, 43, 182, 0, 251, 182, 0, 254, 2, 159, 0, 7, 4]
abbrev dktX0_does_2 : List UInt8 := dkwX0_does_2 ++ dktX0_does_3
def dkwX0_does_1 : List UInt8 := [170, 0, 0, 0, 0, 0, 0, 126, 0, 0, 0, 203, 0, 0, 0, 207, 0, 0, 0, 36, 0, 0, 0, 64, 0, 0, 0, 82, 0, 0, 0, 104, 0, 0, 0, 113]
abbrev dktX0_does_1 : List UInt8 := dkwX0_does_1 ++ dktX0_does_2
def dkwX0_does_0 : List UInt8 := [43, 182, 0, 239]
abbrev dktX0_does_0 : List UInt8 := dkwX0_does_0 ++ dktX0_does_1
theorem dksX0_does_0 : cX0_does.data.toList.drop 0 = dktX0_does_0 := by decide +kernel
theorem dksX0_does_1 : cX0_does.data.toList.drop 4 = dktX0_does_1 := dk_seg dksX0_does_0 4 rfl rfl
theorem dksX0_does_2 : cX0_does.data.toList.drop 40 = dktX0_does_2 := dk_seg dksX0_does_1 36 rfl rfl
theorem dksX0_does_3 : cX0_does.data.toList.drop 63 = dktX0_does_3 := dk_seg dksX0_does_2 23 rfl rfl
theorem dksX0_does_4 : cX0_does.data.toList.drop 87 = dktX0_does_4 := dk_seg dksX0_does_3 24 rfl rfl
theorem dksX0_does_5 : cX0_does.data.toList.drop 110 = dktX0_does_5 := dk_seg dksX0_does_4 23 rfl rfl
theorem dksX0_does_6 : cX0_does.data.toList.drop 132 = dktX0_does_6 := dk_seg dksX0_does_5 22 rfl rfl
theorem dX0_does_0 : decode cX0_does 0 = .ok (.aload_n 1, 1) := dk_43 (dk_at dksX0_does_0 0 rfl rfl)
theorem dX0_does_1 : decode cX0_does 1 = .ok (.invokevirtual 239, 3) := dk_182 0 239 (dk_at dksX0_does_0 1 rfl rfl)
theorem dX0_does_4 : decode cX0_does 4 = .ok (.tableswitch 126 203 207 #[36, 64, 82, 104, 113], 36) := by decide +kernel
theorem dX0_does_40 : decode cX0_does 40 = .ok (.aload_n 0, 1) := dk_42 (dk_at dksX0_does_2 0 rfl rfl)
theorem dX0_does_41 : decode cX0_does 41 = .ok (.aload_n 1, 1) := dk_43 (dk_at dksX0_does_2 1 rfl rfl)
theorem dX0_does_42 : decode cX0_does 42 = .ok (.invokevirtual 245, 3) := dk_182 0 245 (dk_at dksX0_does_2 2 rfl rfl)
theorem dX0_does_45 : decode cX0_does 45 = .ok (.iconst (-1), 1) := dk_2 (dk_at dksX0_does_2 5 rfl rfl)
theorem dX0_does_46 : decode cX0_does 46 = .ok (.iconst (-1), 1) := dk_2 (dk_at dksX0_does_2 6 rfl rfl)
theorem dX0_does_47 : decode cX0_does 47 = .ok (.aload_n 1, 1) := dk_43 (dk_at dksX0_does_2 7 rfl rfl)
theorem dX0_does_48 : decode cX0_does 48 = .ok (.invokevirtual 248, 3) := dk_182 0 248 (dk_at dksX0_does_2 8 rfl rfl)
theorem dX0_does_51 : decode cX0_does 51 = .ok (.aload_n 1, 1) := dk_43 (dk_at dksX0_does_2 11 rfl rfl)
theorem dX0_does_52 : decode cX0_does 52 = .ok (.invokevirtual 251, 3) := dk_182 0 251 (dk_at dksX0_does_2 12 rfl rfl)
theorem dX0_does_55 : decode cX0_does 55 = .ok (.invokevirtual 254, 3) := dk_182 0 254 (dk_at dksX0_does_2 15 rfl rfl)
theorem dX0_does_58 : decode cX0_does 58 = .ok (.iconst (-1), 1) := dk_2 (dk_at dksX0_does_2 18 rfl rfl)
theorem dX0_does_59 : decode cX0_does 59 = .ok (.if_icmp .eq 7, 3) := dk_159 0 7 (dk_at dksX0_does_2 19 rfl rfl)
theorem dX0_does_62 : decode cX0_does 62 = .ok (.iconst 1, 1) := dk_4 (dk_at dksX0_does_2 22 rfl rfl)
theorem dX0_does_63 : decode cX0_does 63 = .ok (.goto 4, 3) := dk_167 0 4 (dk_at dksX0_does_3 0 rfl rfl)
theorem dX0_does_66 : decode cX0_does 66 = .ok (.iconst 0, 1) := dk_3 (dk_at dksX0_does_3 3 rfl rfl)
theorem dX0_does_67 : decode cX0_does 67 = .ok (.ireturn, 1) := dk_172 (dk_at dksX0_does_3 4 rfl rfl)
theorem dX0_does_68 : decode cX0_does 68 = .ok (.aload_n 0, 1) := dk_42 (dk_at dksX0_does_3 5 rfl rfl)
theorem dX0_does_69 : decode cX0_does 69 = .ok (.aload_n 1, 1) := dk_43 (dk_at dksX0_does_3 6 rfl rfl)
theorem dX0_does_70 : decode cX0_does 70 = .ok (.invokevirtual 245, 3) := dk_182 0 245 (dk_at dksX0_does_3 7 rfl rfl)
theorem dX0_does_73 : decode cX0_does 73 = .ok (.invokevirtual 258, 3) := dk_182 1 2 (dk_at dksX0_does_3 10 rfl rfl)
theorem dX0_does_76 : decode cX0_does 76 = .ok (.iconst (-1), 1) := dk_2 (dk_at dksX0_does_3 13 rfl rfl)
theorem dX0_does_77 : decode cX0_does 77 = .ok (.if_icmp .eq 7, 3) := dk_159 0 7 (dk_at dksX0_does_3 14 rfl rfl)
theorem dX0_does_80 : decode cX0_does 80 = .ok (.iconst 1, 1) := dk_4 (dk_at dksX0_does_3 17 rfl rfl)
theorem dX0_does_81 : decode cX0_does 81 = .ok (.goto 4, 3) := dk_167 0 4 (dk_at dksX0_does_3 18 rfl rfl)
theorem dX0_does_84 : decode cX0_does 84 = .ok (.iconst 0, 1) := dk_3 (dk_at dksX0_does_3 21 rfl rfl)
theorem dX0_does_85 : decode cX0_does 85 = .ok (.ireturn, 1) := dk_172 (dk_at dksX0_does_3 22 rfl rfl)
theorem dX0_does_86 : decode cX0_does 86 = .ok (.aload_n 0, 1) := dk_42 (dk_at dksX0_does_3 23 rfl rfl)
theorem dX0_does_87 : decode cX0_does 87 = .ok (.aload_n 1, 1) := dk_43 (dk_at dksX0_does_4 0 rfl rfl)
theorem dX0_does_88 : decode cX0_does 88 = .ok (.invokevirtual 245, 3) := dk_182 0 245 (dk_at dksX0_does_4 1 rfl rfl)
theorem dX0_does_91 : decode cX0_does 91 = .ok (.aload_n 1, 1) := dk_43 (dk_at dksX0_does_4 4 rfl rfl)
theorem dX0_does_92 : decode cX0_does 92 = .ok (.invokevirtual 248, 3) := dk_182 0 248 (dk_at dksX0_does_4 5 rfl rfl)
theorem dX0_does_95 : decode cX0_does 95 = .ok (.invokevirtual 261, 3) := dk_182 1 5 (dk_at dksX0_does_4 8 rfl rfl)
theorem dX0_does_98 : decode cX0_does 98 = .ok (.iconst (-1), 1) := dk_2 (dk_at dksX0_does_4 11 rfl rfl)
theorem dX0_does_99 : decode cX0_does 99 = .ok (.if_icmp .eq 7, 3) := dk_159 0 7 (dk_at dksX0_does_4 12 rfl rfl)
theorem dX0_does_102 : decode cX0_does 102 = .ok (.iconst 1, 1) := dk_4 (dk_at dksX0_does_4 15 rfl rfl)
theorem dX0_does_103 : decode cX0_does 103 = .ok (.goto 4, 3) := dk_167 0 4 (dk_at dksX0_does_4 16 rfl rfl)
theorem dX0_does_106 : decode cX0_does 106 = .ok (.iconst 0, 1) := dk_3 (dk_at dksX0_does_4 19 rfl rfl)
theorem dX0_does_107 : decode cX0_does 107 = .ok (.ireturn, 1) := dk_172 (dk_at dksX0_does_4 20 rfl rfl)
theorem dX0_does_108 : decode cX0_does 108 = .ok (.aload_n 0, 1) := dk_42 (dk_at dksX0_does_4 21 rfl rfl)
theorem dX0_does_109 : decode cX0_does 109 = .ok (.aload_n 1, 1) := dk_43 (dk_at dksX0_does_4 22 rfl rfl)
theorem dX0_does_110 : decode cX0_does 110 = .ok (.invokevirtual 245, 3) := dk_182 0 245 (dk_at dksX0_does_5 0 rfl rfl)
theorem dX0_does_113 : decode cX0_does 113 = .ok (.invokevirtual 264, 3) := dk_182 1 8 (dk_at dksX0_does_5 3 rfl rfl)
theorem dX0_does_116 : decode cX0_does 116 = .ok (.ireturn, 1) := dk_172 (dk_at dksX0_does_5 6 rfl rfl)
theorem dX0_does_117 : decode cX0_does 117 = .ok (.aload_n 0, 1) := dk_42 (dk_at dksX0_does_5 7 rfl rfl)
theorem dX0_does_118 : decode cX0_does 118 = .ok (.aload_n 1, 1) := dk_43 (dk_at dksX0_does_5 8 rfl rfl)
theorem dX0_does_119 : decode cX0_does 119 = .ok (.invokevirtual 245, 3) := dk_182 0 245 (dk_at dksX0_does_5 9 rfl rfl)
theorem dX0_does_122 : decode cX0_does 122 = .ok (.aload_n 1, 1) := dk_43 (dk_at dksX0_does_5 12 rfl rfl)
theorem dX0_does_123 : decode cX0_does 123 = .ok (.invokevirtual 248, 3) := dk_182 0 248 (dk_at dksX0_does_5 13 rfl rfl)
theorem dX0_does_126 : decode cX0_does 126 = .ok (.invokevirtual 267, 3) := dk_182 1 11 (dk_at dksX0_does_5 16 rfl rfl)
theorem dX0_does_129 : decode cX0_does 129 = .ok (.ireturn, 1) := dk_172 (dk_at dksX0_does_5 19 rfl rfl)
theorem dX0_does_130 : decode cX0_does 130 = .ok (.aload_n 0, 1) := dk_42 (dk_at dksX0_does_5 20 rfl rfl)
theorem dX0_does_131 : decode cX0_does 131 = .ok (.aload_n 1, 1) := dk_43 (dk_at dksX0_does_5 21 rfl rfl)
theorem dX0_does_132 : decode cX0_does 132 = .ok (.invokevirtual 245, 3) := dk_182 0 245 (dk_at dksX0_does_6 0 rfl rfl)
theorem dX0_does_135 : decode cX0_does 135 = .ok (.invokevirtual 270, 3) := dk_182 1 14 (dk_at dksX0_does_6 3 rfl rfl)
theorem dX0_does_138 : decode cX0_does 138 = .ok (.ireturn, 1) := dk_172 (dk_at dksX0_does_6 6 rfl rfl)
abbrev cX0_hatted : ByteArray := prog_1_method_41_code
def yX0_hatted : MethodName := ⟨RX0, "hatted", "(I)Z"⟩
def dkwX0_hatted_0 : List UInt8 := [42, 27, 182, 0, 221, 154, 0, 5, 3, 172, 42, 27, 182, 0, 236, 61, 4, 172]
abbrev dktX0_hatted_0 : List UInt8 := dkwX0_hatted_0 ++ []
theorem dksX0_hatted_0 : cX0_hatted.data.toList.drop 0 = dktX0_hatted_0 := by decide +kernel
theorem dX0_hatted_0 : decode cX0_hatted 0 = .ok (.aload_n 0, 1) := dk_42 (dk_at dksX0_hatted_0 0 rfl rfl)
theorem dX0_hatted_1 : decode cX0_hatted 1 = .ok (.iload_n 1, 1) := dk_27 (dk_at dksX0_hatted_0 1 rfl rfl)
theorem dX0_hatted_2 : decode cX0_hatted 2 = .ok (.invokevirtual 221, 3) := dk_182 0 221 (dk_at dksX0_hatted_0 2 rfl rfl)
theorem dX0_hatted_5 : decode cX0_hatted 5 = .ok (.ifCond .ne 5, 3) := dk_154 0 5 (dk_at dksX0_hatted_0 5 rfl rfl)
theorem dX0_hatted_8 : decode cX0_hatted 8 = .ok (.iconst 0, 1) := dk_3 (dk_at dksX0_hatted_0 8 rfl rfl)
theorem dX0_hatted_9 : decode cX0_hatted 9 = .ok (.ireturn, 1) := dk_172 (dk_at dksX0_hatted_0 9 rfl rfl)
theorem dX0_hatted_10 : decode cX0_hatted 10 = .ok (.aload_n 0, 1) := dk_42 (dk_at dksX0_hatted_0 10 rfl rfl)
theorem dX0_hatted_11 : decode cX0_hatted 11 = .ok (.iload_n 1, 1) := dk_27 (dk_at dksX0_hatted_0 11 rfl rfl)
theorem dX0_hatted_12 : decode cX0_hatted 12 = .ok (.invokevirtual 236, 3) := dk_182 0 236 (dk_at dksX0_hatted_0 12 rfl rfl)
theorem dX0_hatted_15 : decode cX0_hatted 15 = .ok (.istore_n 2, 1) := dk_61 (dk_at dksX0_hatted_0 15 rfl rfl)
theorem dX0_hatted_16 : decode cX0_hatted 16 = .ok (.iconst 1, 1) := dk_4 (dk_at dksX0_hatted_0 16 rfl rfl)
theorem dX0_hatted_17 : decode cX0_hatted 17 = .ok (.ireturn, 1) := dk_172 (dk_at dksX0_hatted_0 17 rfl rfl)
abbrev cX0_passesAll : ByteArray := prog_1_method_40_code
def yX0_passesAll : MethodName := ⟨RX0, "passesAll", "(I)Z"⟩
def dkwX0_passesAll_1 : List UInt8 := [4, 172]
abbrev dktX0_passesAll_1 : List UInt8 := dkwX0_passesAll_1 ++ []
def dkwX0_passesAll_0 : List UInt8 := [3, 61, 28, 27, 162, 0, 20, 42, 4, 182, 0, 233, 2, 160, 0, 5, 3, 172, 132, 2, 1, 167, 255, 237]
abbrev dktX0_passesAll_0 : List UInt8 := dkwX0_passesAll_0 ++ dktX0_passesAll_1
theorem dksX0_passesAll_0 : cX0_passesAll.data.toList.drop 0 = dktX0_passesAll_0 := by decide +kernel
theorem dksX0_passesAll_1 : cX0_passesAll.data.toList.drop 24 = dktX0_passesAll_1 := dk_seg dksX0_passesAll_0 24 rfl rfl
theorem dX0_passesAll_0 : decode cX0_passesAll 0 = .ok (.iconst 0, 1) := dk_3 (dk_at dksX0_passesAll_0 0 rfl rfl)
theorem dX0_passesAll_1 : decode cX0_passesAll 1 = .ok (.istore_n 2, 1) := dk_61 (dk_at dksX0_passesAll_0 1 rfl rfl)
theorem dX0_passesAll_2 : decode cX0_passesAll 2 = .ok (.iload_n 2, 1) := dk_28 (dk_at dksX0_passesAll_0 2 rfl rfl)
theorem dX0_passesAll_3 : decode cX0_passesAll 3 = .ok (.iload_n 1, 1) := dk_27 (dk_at dksX0_passesAll_0 3 rfl rfl)
theorem dX0_passesAll_4 : decode cX0_passesAll 4 = .ok (.if_icmp .ge 20, 3) := dk_162 0 20 (dk_at dksX0_passesAll_0 4 rfl rfl)
theorem dX0_passesAll_7 : decode cX0_passesAll 7 = .ok (.aload_n 0, 1) := dk_42 (dk_at dksX0_passesAll_0 7 rfl rfl)
theorem dX0_passesAll_8 : decode cX0_passesAll 8 = .ok (.iconst 1, 1) := dk_4 (dk_at dksX0_passesAll_0 8 rfl rfl)
theorem dX0_passesAll_9 : decode cX0_passesAll 9 = .ok (.invokevirtual 233, 3) := dk_182 0 233 (dk_at dksX0_passesAll_0 9 rfl rfl)
theorem dX0_passesAll_12 : decode cX0_passesAll 12 = .ok (.iconst (-1), 1) := dk_2 (dk_at dksX0_passesAll_0 12 rfl rfl)
theorem dX0_passesAll_13 : decode cX0_passesAll 13 = .ok (.if_icmp .ne 5, 3) := dk_160 0 5 (dk_at dksX0_passesAll_0 13 rfl rfl)
theorem dX0_passesAll_16 : decode cX0_passesAll 16 = .ok (.iconst 0, 1) := dk_3 (dk_at dksX0_passesAll_0 16 rfl rfl)
theorem dX0_passesAll_17 : decode cX0_passesAll 17 = .ok (.ireturn, 1) := dk_172 (dk_at dksX0_passesAll_0 17 rfl rfl)
theorem dX0_passesAll_18 : decode cX0_passesAll 18 = .ok (.iinc 2 1, 3) := dk_132 2 1 (dk_at dksX0_passesAll_0 18 rfl rfl)
theorem dX0_passesAll_21 : decode cX0_passesAll 21 = .ok (.goto (-19), 3) := dk_167 255 237 (dk_at dksX0_passesAll_0 21 rfl rfl)
theorem dX0_passesAll_24 : decode cX0_passesAll 24 = .ok (.iconst 1, 1) := dk_4 (dk_at dksX0_passesAll_1 0 rfl rfl)
theorem dX0_passesAll_25 : decode cX0_passesAll 25 = .ok (.ireturn, 1) := dk_172 (dk_at dksX0_passesAll_1 1 rfl rfl)
abbrev cX0_years : ByteArray := prog_1_method_45_code
def yX0_years : MethodName := ⟨RX0, "years", "(II)I"⟩
def dkwX0_years_4 : List UInt8 := [180, 0, 21, 180, 0, 74, 3, 46, 172]
abbrev dktX0_years_4 : List UInt8 := dkwX0_years_4 ++ []
def dkwX0_years_3 : List UInt8 := [180, 0, 74, 4, 46, 54, 4, 42, 182, 0, 218, 42, 21, 4, 182, 1, 37, 132, 3, 1, 167, 255, 227, 42]
abbrev dktX0_years_3 : List UInt8 := dkwX0_years_3 ++ dktX0_years_4
def dkwX0_years_2 : List UInt8 := [180, 0, 74, 4, 27, 5, 104, 17, 0, 131, 96, 79, 3, 62, 29, 28, 162, 0, 30, 42, 180, 0, 21]
abbrev dktX0_years_2 : List UInt8 := dkwX0_years_2 ++ dktX0_years_3
def dkwX0_years_1 : List UInt8 := [180, 0, 21, 180, 0, 59, 3, 46, 154, 0, 5, 2, 172, 42, 180, 0, 21, 182, 0, 189, 42, 180, 0, 21]
abbrev dktX0_years_1 : List UInt8 := dkwX0_years_1 ++ dktX0_years_2
def dkwX0_years_0 : List UInt8 := [27, 3, 17, 39, 15, 184, 0, 62, 153, 0, 25, 28, 4, 16, 40, 184, 0, 62, 153, 0, 15, 42]
abbrev dktX0_years_0 : List UInt8 := dkwX0_years_0 ++ dktX0_years_1
theorem dksX0_years_0 : cX0_years.data.toList.drop 0 = dktX0_years_0 := by decide +kernel
theorem dksX0_years_1 : cX0_years.data.toList.drop 22 = dktX0_years_1 := dk_seg dksX0_years_0 22 rfl rfl
theorem dksX0_years_2 : cX0_years.data.toList.drop 46 = dktX0_years_2 := dk_seg dksX0_years_1 24 rfl rfl
theorem dksX0_years_3 : cX0_years.data.toList.drop 69 = dktX0_years_3 := dk_seg dksX0_years_2 23 rfl rfl
theorem dksX0_years_4 : cX0_years.data.toList.drop 93 = dktX0_years_4 := dk_seg dksX0_years_3 24 rfl rfl
theorem dX0_years_0 : decode cX0_years 0 = .ok (.iload_n 1, 1) := dk_27 (dk_at dksX0_years_0 0 rfl rfl)
theorem dX0_years_1 : decode cX0_years 1 = .ok (.iconst 0, 1) := dk_3 (dk_at dksX0_years_0 1 rfl rfl)
theorem dX0_years_2 : decode cX0_years 2 = .ok (.sipush 9999, 3) := dk_17 39 15 (dk_at dksX0_years_0 2 rfl rfl)
theorem dX0_years_5 : decode cX0_years 5 = .ok (.invokestatic 62, 3) := dk_184 0 62 (dk_at dksX0_years_0 5 rfl rfl)
theorem dX0_years_8 : decode cX0_years 8 = .ok (.ifCond .eq 25, 3) := dk_153 0 25 (dk_at dksX0_years_0 8 rfl rfl)
theorem dX0_years_11 : decode cX0_years 11 = .ok (.iload_n 2, 1) := dk_28 (dk_at dksX0_years_0 11 rfl rfl)
theorem dX0_years_12 : decode cX0_years 12 = .ok (.iconst 1, 1) := dk_4 (dk_at dksX0_years_0 12 rfl rfl)
theorem dX0_years_13 : decode cX0_years 13 = .ok (.bipush 40, 2) := dk_16 40 (dk_at dksX0_years_0 13 rfl rfl)
theorem dX0_years_15 : decode cX0_years 15 = .ok (.invokestatic 62, 3) := dk_184 0 62 (dk_at dksX0_years_0 15 rfl rfl)
theorem dX0_years_18 : decode cX0_years 18 = .ok (.ifCond .eq 15, 3) := dk_153 0 15 (dk_at dksX0_years_0 18 rfl rfl)
theorem dX0_years_21 : decode cX0_years 21 = .ok (.aload_n 0, 1) := dk_42 (dk_at dksX0_years_0 21 rfl rfl)
theorem dX0_years_22 : decode cX0_years 22 = .ok (.getfield 21, 3) := dk_180 0 21 (dk_at dksX0_years_1 0 rfl rfl)
theorem dX0_years_25 : decode cX0_years 25 = .ok (.getfield 59, 3) := dk_180 0 59 (dk_at dksX0_years_1 3 rfl rfl)
theorem dX0_years_28 : decode cX0_years 28 = .ok (.iconst 0, 1) := dk_3 (dk_at dksX0_years_1 6 rfl rfl)
theorem dX0_years_29 : decode cX0_years 29 = .ok (.iaload, 1) := dk_46 (dk_at dksX0_years_1 7 rfl rfl)
theorem dX0_years_30 : decode cX0_years 30 = .ok (.ifCond .ne 5, 3) := dk_154 0 5 (dk_at dksX0_years_1 8 rfl rfl)
theorem dX0_years_33 : decode cX0_years 33 = .ok (.iconst (-1), 1) := dk_2 (dk_at dksX0_years_1 11 rfl rfl)
theorem dX0_years_34 : decode cX0_years 34 = .ok (.ireturn, 1) := dk_172 (dk_at dksX0_years_1 12 rfl rfl)
theorem dX0_years_35 : decode cX0_years 35 = .ok (.aload_n 0, 1) := dk_42 (dk_at dksX0_years_1 13 rfl rfl)
theorem dX0_years_36 : decode cX0_years 36 = .ok (.getfield 21, 3) := dk_180 0 21 (dk_at dksX0_years_1 14 rfl rfl)
theorem dX0_years_39 : decode cX0_years 39 = .ok (.invokevirtual 189, 3) := dk_182 0 189 (dk_at dksX0_years_1 17 rfl rfl)
theorem dX0_years_42 : decode cX0_years 42 = .ok (.aload_n 0, 1) := dk_42 (dk_at dksX0_years_1 20 rfl rfl)
theorem dX0_years_43 : decode cX0_years 43 = .ok (.getfield 21, 3) := dk_180 0 21 (dk_at dksX0_years_1 21 rfl rfl)
theorem dX0_years_46 : decode cX0_years 46 = .ok (.getfield 74, 3) := dk_180 0 74 (dk_at dksX0_years_2 0 rfl rfl)
theorem dX0_years_49 : decode cX0_years 49 = .ok (.iconst 1, 1) := dk_4 (dk_at dksX0_years_2 3 rfl rfl)
theorem dX0_years_50 : decode cX0_years 50 = .ok (.iload_n 1, 1) := dk_27 (dk_at dksX0_years_2 4 rfl rfl)
theorem dX0_years_51 : decode cX0_years 51 = .ok (.iconst 2, 1) := dk_5 (dk_at dksX0_years_2 5 rfl rfl)
theorem dX0_years_52 : decode cX0_years 52 = .ok (.imul, 1) := dk_104 (dk_at dksX0_years_2 6 rfl rfl)
theorem dX0_years_53 : decode cX0_years 53 = .ok (.sipush 131, 3) := dk_17 0 131 (dk_at dksX0_years_2 7 rfl rfl)
theorem dX0_years_56 : decode cX0_years 56 = .ok (.iadd, 1) := dk_96 (dk_at dksX0_years_2 10 rfl rfl)
theorem dX0_years_57 : decode cX0_years 57 = .ok (.iastore, 1) := dk_79 (dk_at dksX0_years_2 11 rfl rfl)
theorem dX0_years_58 : decode cX0_years 58 = .ok (.iconst 0, 1) := dk_3 (dk_at dksX0_years_2 12 rfl rfl)
theorem dX0_years_59 : decode cX0_years 59 = .ok (.istore_n 3, 1) := dk_62 (dk_at dksX0_years_2 13 rfl rfl)
theorem dX0_years_60 : decode cX0_years 60 = .ok (.iload_n 3, 1) := dk_29 (dk_at dksX0_years_2 14 rfl rfl)
theorem dX0_years_61 : decode cX0_years 61 = .ok (.iload_n 2, 1) := dk_28 (dk_at dksX0_years_2 15 rfl rfl)
theorem dX0_years_62 : decode cX0_years 62 = .ok (.if_icmp .ge 30, 3) := dk_162 0 30 (dk_at dksX0_years_2 16 rfl rfl)
theorem dX0_years_65 : decode cX0_years 65 = .ok (.aload_n 0, 1) := dk_42 (dk_at dksX0_years_2 19 rfl rfl)
theorem dX0_years_66 : decode cX0_years 66 = .ok (.getfield 21, 3) := dk_180 0 21 (dk_at dksX0_years_2 20 rfl rfl)
theorem dX0_years_69 : decode cX0_years 69 = .ok (.getfield 74, 3) := dk_180 0 74 (dk_at dksX0_years_3 0 rfl rfl)
theorem dX0_years_72 : decode cX0_years 72 = .ok (.iconst 1, 1) := dk_4 (dk_at dksX0_years_3 3 rfl rfl)
theorem dX0_years_73 : decode cX0_years 73 = .ok (.iaload, 1) := dk_46 (dk_at dksX0_years_3 4 rfl rfl)
theorem dX0_years_74 : decode cX0_years 74 = .ok (.istore 4, 2) := dk_54 4 (dk_at dksX0_years_3 5 rfl rfl)
theorem dX0_years_76 : decode cX0_years 76 = .ok (.aload_n 0, 1) := dk_42 (dk_at dksX0_years_3 7 rfl rfl)
theorem dX0_years_77 : decode cX0_years 77 = .ok (.invokevirtual 218, 3) := dk_182 0 218 (dk_at dksX0_years_3 8 rfl rfl)
theorem dX0_years_80 : decode cX0_years 80 = .ok (.aload_n 0, 1) := dk_42 (dk_at dksX0_years_3 11 rfl rfl)
theorem dX0_years_81 : decode cX0_years 81 = .ok (.iload 4, 2) := dk_21 4 (dk_at dksX0_years_3 12 rfl rfl)
theorem dX0_years_83 : decode cX0_years 83 = .ok (.invokevirtual 293, 3) := dk_182 1 37 (dk_at dksX0_years_3 14 rfl rfl)
theorem dX0_years_86 : decode cX0_years 86 = .ok (.iinc 3 1, 3) := dk_132 3 1 (dk_at dksX0_years_3 17 rfl rfl)
theorem dX0_years_89 : decode cX0_years 89 = .ok (.goto (-29), 3) := dk_167 255 227 (dk_at dksX0_years_3 20 rfl rfl)
theorem dX0_years_92 : decode cX0_years 92 = .ok (.aload_n 0, 1) := dk_42 (dk_at dksX0_years_3 23 rfl rfl)
theorem dX0_years_93 : decode cX0_years 93 = .ok (.getfield 21, 3) := dk_180 0 21 (dk_at dksX0_years_4 0 rfl rfl)
theorem dX0_years_96 : decode cX0_years 96 = .ok (.getfield 74, 3) := dk_180 0 74 (dk_at dksX0_years_4 3 rfl rfl)
theorem dX0_years_99 : decode cX0_years 99 = .ok (.iconst 0, 1) := dk_3 (dk_at dksX0_years_4 6 rfl rfl)
theorem dX0_years_100 : decode cX0_years 100 = .ok (.iaload, 1) := dk_46 (dk_at dksX0_years_4 7 rfl rfl)
theorem dX0_years_101 : decode cX0_years 101 = .ok (.ireturn, 1) := dk_172 (dk_at dksX0_years_4 8 rfl rfl)
abbrev cX0_happens : ByteArray := prog_1_method_44_code
def yX0_happens : MethodName := ⟨RX0, "happens", "(I)V"⟩
def dkwX0_happens_7 : List UInt8 := [182, 0, 195, 177]
abbrev dktX0_happens_7 : List UInt8 := dkwX0_happens_7 ++ []
def dkwX0_happens_6 : List UInt8 := [180, 0, 74, 3, 46, 17, 39, 15, 162, 0, 18, 42, 42, 182, 0, 192, 42, 180, 0, 21, 180, 0, 74]
abbrev dktX0_happens_6 : List UInt8 := dkwX0_happens_6 ++ dktX0_happens_7
def dkwX0_happens_5 : List UInt8 := [180, 0, 74, 6, 28, 96, 92, 46, 4, 27, 16, 20, 112, 120, 130, 79, 167, 0, 33, 42, 180, 0, 21]
abbrev dktX0_happens_5 : List UInt8 := dkwX0_happens_5 ++ dktX0_happens_6
def dkwX0_happens_4 : List UInt8 := [27, 6, 112, 154, 0, 68, 42, 27, 16, 20, 112, 28, 182, 0, 230, 153, 0, 56, 42, 180, 0, 21]
abbrev dktX0_happens_4 : List UInt8 := dkwX0_happens_4 ++ dktX0_happens_5
def dkwX0_happens_3 : List UInt8 := [154, 0, 19, 42, 28, 182, 0, 221, 153, 0, 11, 42, 28, 182, 0, 224, 167, 0, 4, 2, 62, 167, 0, 74]
abbrev dktX0_happens_3 : List UInt8 := dkwX0_happens_3 ++ dktX0_happens_4
def dkwX0_happens_2 : List UInt8 := [42, 28, 182, 0, 209, 153, 0, 11, 42, 28, 182, 0, 212, 167, 0, 4, 3, 62, 167, 0, 101, 27, 7, 112]
abbrev dktX0_happens_2 : List UInt8 := dkwX0_happens_2 ++ dktX0_happens_3
def dkwX0_happens_1 : List UInt8 := [170, 0, 0, 0, 0, 0, 0, 121, 0, 0, 0, 0, 0, 0, 0, 3, 0, 0, 0, 32, 0, 0, 0, 32, 0, 0, 0, 53, 0, 0, 0, 80]
abbrev dktX0_happens_1 : List UInt8 := dkwX0_happens_1 ++ dktX0_happens_2
def dkwX0_happens_0 : List UInt8 := [27, 42, 180, 0, 21, 180, 0, 59, 3, 46, 112, 61, 27, 16, 6, 112]
abbrev dktX0_happens_0 : List UInt8 := dkwX0_happens_0 ++ dktX0_happens_1
theorem dksX0_happens_0 : cX0_happens.data.toList.drop 0 = dktX0_happens_0 := by decide +kernel
theorem dksX0_happens_1 : cX0_happens.data.toList.drop 16 = dktX0_happens_1 := dk_seg dksX0_happens_0 16 rfl rfl
theorem dksX0_happens_2 : cX0_happens.data.toList.drop 48 = dktX0_happens_2 := dk_seg dksX0_happens_1 32 rfl rfl
theorem dksX0_happens_3 : cX0_happens.data.toList.drop 72 = dktX0_happens_3 := dk_seg dksX0_happens_2 24 rfl rfl
theorem dksX0_happens_4 : cX0_happens.data.toList.drop 96 = dktX0_happens_4 := dk_seg dksX0_happens_3 24 rfl rfl
theorem dksX0_happens_5 : cX0_happens.data.toList.drop 118 = dktX0_happens_5 := dk_seg dksX0_happens_4 22 rfl rfl
theorem dksX0_happens_6 : cX0_happens.data.toList.drop 141 = dktX0_happens_6 := dk_seg dksX0_happens_5 23 rfl rfl
theorem dksX0_happens_7 : cX0_happens.data.toList.drop 164 = dktX0_happens_7 := dk_seg dksX0_happens_6 23 rfl rfl
theorem dX0_happens_0 : decode cX0_happens 0 = .ok (.iload_n 1, 1) := dk_27 (dk_at dksX0_happens_0 0 rfl rfl)
theorem dX0_happens_1 : decode cX0_happens 1 = .ok (.aload_n 0, 1) := dk_42 (dk_at dksX0_happens_0 1 rfl rfl)
theorem dX0_happens_2 : decode cX0_happens 2 = .ok (.getfield 21, 3) := dk_180 0 21 (dk_at dksX0_happens_0 2 rfl rfl)
theorem dX0_happens_5 : decode cX0_happens 5 = .ok (.getfield 59, 3) := dk_180 0 59 (dk_at dksX0_happens_0 5 rfl rfl)
theorem dX0_happens_8 : decode cX0_happens 8 = .ok (.iconst 0, 1) := dk_3 (dk_at dksX0_happens_0 8 rfl rfl)
theorem dX0_happens_9 : decode cX0_happens 9 = .ok (.iaload, 1) := dk_46 (dk_at dksX0_happens_0 9 rfl rfl)
theorem dX0_happens_10 : decode cX0_happens 10 = .ok (.irem, 1) := dk_112 (dk_at dksX0_happens_0 10 rfl rfl)
theorem dX0_happens_11 : decode cX0_happens 11 = .ok (.istore_n 2, 1) := dk_61 (dk_at dksX0_happens_0 11 rfl rfl)
theorem dX0_happens_12 : decode cX0_happens 12 = .ok (.iload_n 1, 1) := dk_27 (dk_at dksX0_happens_0 12 rfl rfl)
theorem dX0_happens_13 : decode cX0_happens 13 = .ok (.bipush 6, 2) := dk_16 6 (dk_at dksX0_happens_0 13 rfl rfl)
theorem dX0_happens_15 : decode cX0_happens 15 = .ok (.irem, 1) := dk_112 (dk_at dksX0_happens_0 15 rfl rfl)
theorem dX0_happens_16 : decode cX0_happens 16 = .ok (.tableswitch 121 0 3 #[32, 32, 53, 80], 32) := by decide +kernel
theorem dX0_happens_48 : decode cX0_happens 48 = .ok (.aload_n 0, 1) := dk_42 (dk_at dksX0_happens_2 0 rfl rfl)
theorem dX0_happens_49 : decode cX0_happens 49 = .ok (.iload_n 2, 1) := dk_28 (dk_at dksX0_happens_2 1 rfl rfl)
theorem dX0_happens_50 : decode cX0_happens 50 = .ok (.invokevirtual 209, 3) := dk_182 0 209 (dk_at dksX0_happens_2 2 rfl rfl)
theorem dX0_happens_53 : decode cX0_happens 53 = .ok (.ifCond .eq 11, 3) := dk_153 0 11 (dk_at dksX0_happens_2 5 rfl rfl)
theorem dX0_happens_56 : decode cX0_happens 56 = .ok (.aload_n 0, 1) := dk_42 (dk_at dksX0_happens_2 8 rfl rfl)
theorem dX0_happens_57 : decode cX0_happens 57 = .ok (.iload_n 2, 1) := dk_28 (dk_at dksX0_happens_2 9 rfl rfl)
theorem dX0_happens_58 : decode cX0_happens 58 = .ok (.invokevirtual 212, 3) := dk_182 0 212 (dk_at dksX0_happens_2 10 rfl rfl)
theorem dX0_happens_61 : decode cX0_happens 61 = .ok (.goto 4, 3) := dk_167 0 4 (dk_at dksX0_happens_2 13 rfl rfl)
theorem dX0_happens_64 : decode cX0_happens 64 = .ok (.iconst 0, 1) := dk_3 (dk_at dksX0_happens_2 16 rfl rfl)
theorem dX0_happens_65 : decode cX0_happens 65 = .ok (.istore_n 3, 1) := dk_62 (dk_at dksX0_happens_2 17 rfl rfl)
theorem dX0_happens_66 : decode cX0_happens 66 = .ok (.goto 101, 3) := dk_167 0 101 (dk_at dksX0_happens_2 18 rfl rfl)
theorem dX0_happens_69 : decode cX0_happens 69 = .ok (.iload_n 1, 1) := dk_27 (dk_at dksX0_happens_2 21 rfl rfl)
theorem dX0_happens_70 : decode cX0_happens 70 = .ok (.iconst 4, 1) := dk_7 (dk_at dksX0_happens_2 22 rfl rfl)
theorem dX0_happens_71 : decode cX0_happens 71 = .ok (.irem, 1) := dk_112 (dk_at dksX0_happens_2 23 rfl rfl)
theorem dX0_happens_72 : decode cX0_happens 72 = .ok (.ifCond .ne 19, 3) := dk_154 0 19 (dk_at dksX0_happens_3 0 rfl rfl)
theorem dX0_happens_75 : decode cX0_happens 75 = .ok (.aload_n 0, 1) := dk_42 (dk_at dksX0_happens_3 3 rfl rfl)
theorem dX0_happens_76 : decode cX0_happens 76 = .ok (.iload_n 2, 1) := dk_28 (dk_at dksX0_happens_3 4 rfl rfl)
theorem dX0_happens_77 : decode cX0_happens 77 = .ok (.invokevirtual 221, 3) := dk_182 0 221 (dk_at dksX0_happens_3 5 rfl rfl)
theorem dX0_happens_80 : decode cX0_happens 80 = .ok (.ifCond .eq 11, 3) := dk_153 0 11 (dk_at dksX0_happens_3 8 rfl rfl)
theorem dX0_happens_83 : decode cX0_happens 83 = .ok (.aload_n 0, 1) := dk_42 (dk_at dksX0_happens_3 11 rfl rfl)
theorem dX0_happens_84 : decode cX0_happens 84 = .ok (.iload_n 2, 1) := dk_28 (dk_at dksX0_happens_3 12 rfl rfl)
theorem dX0_happens_85 : decode cX0_happens 85 = .ok (.invokevirtual 224, 3) := dk_182 0 224 (dk_at dksX0_happens_3 13 rfl rfl)
theorem dX0_happens_88 : decode cX0_happens 88 = .ok (.goto 4, 3) := dk_167 0 4 (dk_at dksX0_happens_3 16 rfl rfl)
theorem dX0_happens_91 : decode cX0_happens 91 = .ok (.iconst (-1), 1) := dk_2 (dk_at dksX0_happens_3 19 rfl rfl)
theorem dX0_happens_92 : decode cX0_happens 92 = .ok (.istore_n 3, 1) := dk_62 (dk_at dksX0_happens_3 20 rfl rfl)
theorem dX0_happens_93 : decode cX0_happens 93 = .ok (.goto 74, 3) := dk_167 0 74 (dk_at dksX0_happens_3 21 rfl rfl)
theorem dX0_happens_96 : decode cX0_happens 96 = .ok (.iload_n 1, 1) := dk_27 (dk_at dksX0_happens_4 0 rfl rfl)
theorem dX0_happens_97 : decode cX0_happens 97 = .ok (.iconst 3, 1) := dk_6 (dk_at dksX0_happens_4 1 rfl rfl)
theorem dX0_happens_98 : decode cX0_happens 98 = .ok (.irem, 1) := dk_112 (dk_at dksX0_happens_4 2 rfl rfl)
theorem dX0_happens_99 : decode cX0_happens 99 = .ok (.ifCond .ne 68, 3) := dk_154 0 68 (dk_at dksX0_happens_4 3 rfl rfl)
theorem dX0_happens_102 : decode cX0_happens 102 = .ok (.aload_n 0, 1) := dk_42 (dk_at dksX0_happens_4 6 rfl rfl)
theorem dX0_happens_103 : decode cX0_happens 103 = .ok (.iload_n 1, 1) := dk_27 (dk_at dksX0_happens_4 7 rfl rfl)
theorem dX0_happens_104 : decode cX0_happens 104 = .ok (.bipush 20, 2) := dk_16 20 (dk_at dksX0_happens_4 8 rfl rfl)
theorem dX0_happens_106 : decode cX0_happens 106 = .ok (.irem, 1) := dk_112 (dk_at dksX0_happens_4 10 rfl rfl)
theorem dX0_happens_107 : decode cX0_happens 107 = .ok (.iload_n 2, 1) := dk_28 (dk_at dksX0_happens_4 11 rfl rfl)
theorem dX0_happens_108 : decode cX0_happens 108 = .ok (.invokevirtual 230, 3) := dk_182 0 230 (dk_at dksX0_happens_4 12 rfl rfl)
theorem dX0_happens_111 : decode cX0_happens 111 = .ok (.ifCond .eq 56, 3) := dk_153 0 56 (dk_at dksX0_happens_4 15 rfl rfl)
theorem dX0_happens_114 : decode cX0_happens 114 = .ok (.aload_n 0, 1) := dk_42 (dk_at dksX0_happens_4 18 rfl rfl)
theorem dX0_happens_115 : decode cX0_happens 115 = .ok (.getfield 21, 3) := dk_180 0 21 (dk_at dksX0_happens_4 19 rfl rfl)
theorem dX0_happens_118 : decode cX0_happens 118 = .ok (.getfield 74, 3) := dk_180 0 74 (dk_at dksX0_happens_5 0 rfl rfl)
theorem dX0_happens_121 : decode cX0_happens 121 = .ok (.iconst 3, 1) := dk_6 (dk_at dksX0_happens_5 3 rfl rfl)
theorem dX0_happens_122 : decode cX0_happens 122 = .ok (.iload_n 2, 1) := dk_28 (dk_at dksX0_happens_5 4 rfl rfl)
theorem dX0_happens_123 : decode cX0_happens 123 = .ok (.iadd, 1) := dk_96 (dk_at dksX0_happens_5 5 rfl rfl)
theorem dX0_happens_124 : decode cX0_happens 124 = .ok (.dup2, 1) := dk_92 (dk_at dksX0_happens_5 6 rfl rfl)
theorem dX0_happens_125 : decode cX0_happens 125 = .ok (.iaload, 1) := dk_46 (dk_at dksX0_happens_5 7 rfl rfl)
theorem dX0_happens_126 : decode cX0_happens 126 = .ok (.iconst 1, 1) := dk_4 (dk_at dksX0_happens_5 8 rfl rfl)
theorem dX0_happens_127 : decode cX0_happens 127 = .ok (.iload_n 1, 1) := dk_27 (dk_at dksX0_happens_5 9 rfl rfl)
theorem dX0_happens_128 : decode cX0_happens 128 = .ok (.bipush 20, 2) := dk_16 20 (dk_at dksX0_happens_5 10 rfl rfl)
theorem dX0_happens_130 : decode cX0_happens 130 = .ok (.irem, 1) := dk_112 (dk_at dksX0_happens_5 12 rfl rfl)
theorem dX0_happens_131 : decode cX0_happens 131 = .ok (.ishl, 1) := dk_120 (dk_at dksX0_happens_5 13 rfl rfl)
theorem dX0_happens_132 : decode cX0_happens 132 = .ok (.ixor, 1) := dk_130 (dk_at dksX0_happens_5 14 rfl rfl)
theorem dX0_happens_133 : decode cX0_happens 133 = .ok (.iastore, 1) := dk_79 (dk_at dksX0_happens_5 15 rfl rfl)
theorem dX0_happens_134 : decode cX0_happens 134 = .ok (.goto 33, 3) := dk_167 0 33 (dk_at dksX0_happens_5 16 rfl rfl)
theorem dX0_happens_137 : decode cX0_happens 137 = .ok (.aload_n 0, 1) := dk_42 (dk_at dksX0_happens_5 19 rfl rfl)
theorem dX0_happens_138 : decode cX0_happens 138 = .ok (.getfield 21, 3) := dk_180 0 21 (dk_at dksX0_happens_5 20 rfl rfl)
theorem dX0_happens_141 : decode cX0_happens 141 = .ok (.getfield 74, 3) := dk_180 0 74 (dk_at dksX0_happens_6 0 rfl rfl)
theorem dX0_happens_144 : decode cX0_happens 144 = .ok (.iconst 0, 1) := dk_3 (dk_at dksX0_happens_6 3 rfl rfl)
theorem dX0_happens_145 : decode cX0_happens 145 = .ok (.iaload, 1) := dk_46 (dk_at dksX0_happens_6 4 rfl rfl)
theorem dX0_happens_146 : decode cX0_happens 146 = .ok (.sipush 9999, 3) := dk_17 39 15 (dk_at dksX0_happens_6 5 rfl rfl)
theorem dX0_happens_149 : decode cX0_happens 149 = .ok (.if_icmp .ge 18, 3) := dk_162 0 18 (dk_at dksX0_happens_6 8 rfl rfl)
theorem dX0_happens_152 : decode cX0_happens 152 = .ok (.aload_n 0, 1) := dk_42 (dk_at dksX0_happens_6 11 rfl rfl)
theorem dX0_happens_153 : decode cX0_happens 153 = .ok (.aload_n 0, 1) := dk_42 (dk_at dksX0_happens_6 12 rfl rfl)
theorem dX0_happens_154 : decode cX0_happens 154 = .ok (.invokevirtual 192, 3) := dk_182 0 192 (dk_at dksX0_happens_6 13 rfl rfl)
theorem dX0_happens_157 : decode cX0_happens 157 = .ok (.aload_n 0, 1) := dk_42 (dk_at dksX0_happens_6 16 rfl rfl)
theorem dX0_happens_158 : decode cX0_happens 158 = .ok (.getfield 21, 3) := dk_180 0 21 (dk_at dksX0_happens_6 17 rfl rfl)
theorem dX0_happens_161 : decode cX0_happens 161 = .ok (.getfield 74, 3) := dk_180 0 74 (dk_at dksX0_happens_6 20 rfl rfl)
theorem dX0_happens_164 : decode cX0_happens 164 = .ok (.invokevirtual 195, 3) := dk_182 0 195 (dk_at dksX0_happens_7 0 rfl rfl)
theorem dX0_happens_167 : decode cX0_happens 167 = .ok (.return_, 1) := dk_177 (dk_at dksX0_happens_7 3 rfl rfl)
abbrev cX0_undo : ByteArray := prog_1_method_46_code
def yX0_undo : MethodName := ⟨RX0, "undo", "()I"⟩
def dkwX0_undo_2 : List UInt8 := [180, 0, 74, 184, 1, 44, 42, 180, 0, 21, 180, 0, 59, 6, 46, 172]
abbrev dktX0_undo_2 : List UInt8 := dkwX0_undo_2 ++ []
def dkwX0_undo_1 : List UInt8 := [4, 100, 79, 42, 180, 0, 21, 180, 1, 40, 42, 180, 0, 21, 180, 0, 59, 6, 46, 50, 42, 180, 0, 21]
abbrev dktX0_undo_1 : List UInt8 := dkwX0_undo_1 ++ dktX0_undo_2
def dkwX0_undo_0 : List UInt8 := [42, 180, 0, 21, 180, 0, 59, 6, 46, 154, 0, 5, 2, 172, 42, 180, 0, 21, 180, 0, 59, 6, 92, 46]
abbrev dktX0_undo_0 : List UInt8 := dkwX0_undo_0 ++ dktX0_undo_1
theorem dksX0_undo_0 : cX0_undo.data.toList.drop 0 = dktX0_undo_0 := by decide +kernel
theorem dksX0_undo_1 : cX0_undo.data.toList.drop 24 = dktX0_undo_1 := dk_seg dksX0_undo_0 24 rfl rfl
theorem dksX0_undo_2 : cX0_undo.data.toList.drop 48 = dktX0_undo_2 := dk_seg dksX0_undo_1 24 rfl rfl
theorem dX0_undo_0 : decode cX0_undo 0 = .ok (.aload_n 0, 1) := dk_42 (dk_at dksX0_undo_0 0 rfl rfl)
theorem dX0_undo_1 : decode cX0_undo 1 = .ok (.getfield 21, 3) := dk_180 0 21 (dk_at dksX0_undo_0 1 rfl rfl)
theorem dX0_undo_4 : decode cX0_undo 4 = .ok (.getfield 59, 3) := dk_180 0 59 (dk_at dksX0_undo_0 4 rfl rfl)
theorem dX0_undo_7 : decode cX0_undo 7 = .ok (.iconst 3, 1) := dk_6 (dk_at dksX0_undo_0 7 rfl rfl)
theorem dX0_undo_8 : decode cX0_undo 8 = .ok (.iaload, 1) := dk_46 (dk_at dksX0_undo_0 8 rfl rfl)
theorem dX0_undo_9 : decode cX0_undo 9 = .ok (.ifCond .ne 5, 3) := dk_154 0 5 (dk_at dksX0_undo_0 9 rfl rfl)
theorem dX0_undo_12 : decode cX0_undo 12 = .ok (.iconst (-1), 1) := dk_2 (dk_at dksX0_undo_0 12 rfl rfl)
theorem dX0_undo_13 : decode cX0_undo 13 = .ok (.ireturn, 1) := dk_172 (dk_at dksX0_undo_0 13 rfl rfl)
theorem dX0_undo_14 : decode cX0_undo 14 = .ok (.aload_n 0, 1) := dk_42 (dk_at dksX0_undo_0 14 rfl rfl)
theorem dX0_undo_15 : decode cX0_undo 15 = .ok (.getfield 21, 3) := dk_180 0 21 (dk_at dksX0_undo_0 15 rfl rfl)
theorem dX0_undo_18 : decode cX0_undo 18 = .ok (.getfield 59, 3) := dk_180 0 59 (dk_at dksX0_undo_0 18 rfl rfl)
theorem dX0_undo_21 : decode cX0_undo 21 = .ok (.iconst 3, 1) := dk_6 (dk_at dksX0_undo_0 21 rfl rfl)
theorem dX0_undo_22 : decode cX0_undo 22 = .ok (.dup2, 1) := dk_92 (dk_at dksX0_undo_0 22 rfl rfl)
theorem dX0_undo_23 : decode cX0_undo 23 = .ok (.iaload, 1) := dk_46 (dk_at dksX0_undo_0 23 rfl rfl)
theorem dX0_undo_24 : decode cX0_undo 24 = .ok (.iconst 1, 1) := dk_4 (dk_at dksX0_undo_1 0 rfl rfl)
theorem dX0_undo_25 : decode cX0_undo 25 = .ok (.isub, 1) := dk_100 (dk_at dksX0_undo_1 1 rfl rfl)
theorem dX0_undo_26 : decode cX0_undo 26 = .ok (.iastore, 1) := dk_79 (dk_at dksX0_undo_1 2 rfl rfl)
theorem dX0_undo_27 : decode cX0_undo 27 = .ok (.aload_n 0, 1) := dk_42 (dk_at dksX0_undo_1 3 rfl rfl)
theorem dX0_undo_28 : decode cX0_undo 28 = .ok (.getfield 21, 3) := dk_180 0 21 (dk_at dksX0_undo_1 4 rfl rfl)
theorem dX0_undo_31 : decode cX0_undo 31 = .ok (.getfield 296, 3) := dk_180 1 40 (dk_at dksX0_undo_1 7 rfl rfl)
theorem dX0_undo_34 : decode cX0_undo 34 = .ok (.aload_n 0, 1) := dk_42 (dk_at dksX0_undo_1 10 rfl rfl)
theorem dX0_undo_35 : decode cX0_undo 35 = .ok (.getfield 21, 3) := dk_180 0 21 (dk_at dksX0_undo_1 11 rfl rfl)
theorem dX0_undo_38 : decode cX0_undo 38 = .ok (.getfield 59, 3) := dk_180 0 59 (dk_at dksX0_undo_1 14 rfl rfl)
theorem dX0_undo_41 : decode cX0_undo 41 = .ok (.iconst 3, 1) := dk_6 (dk_at dksX0_undo_1 17 rfl rfl)
theorem dX0_undo_42 : decode cX0_undo 42 = .ok (.iaload, 1) := dk_46 (dk_at dksX0_undo_1 18 rfl rfl)
theorem dX0_undo_43 : decode cX0_undo 43 = .ok (.aaload, 1) := dk_50 (dk_at dksX0_undo_1 19 rfl rfl)
theorem dX0_undo_44 : decode cX0_undo 44 = .ok (.aload_n 0, 1) := dk_42 (dk_at dksX0_undo_1 20 rfl rfl)
theorem dX0_undo_45 : decode cX0_undo 45 = .ok (.getfield 21, 3) := dk_180 0 21 (dk_at dksX0_undo_1 21 rfl rfl)
theorem dX0_undo_48 : decode cX0_undo 48 = .ok (.getfield 74, 3) := dk_180 0 74 (dk_at dksX0_undo_2 0 rfl rfl)
theorem dX0_undo_51 : decode cX0_undo 51 = .ok (.invokestatic 300, 3) := dk_184 1 44 (dk_at dksX0_undo_2 3 rfl rfl)
theorem dX0_undo_54 : decode cX0_undo 54 = .ok (.aload_n 0, 1) := dk_42 (dk_at dksX0_undo_2 6 rfl rfl)
theorem dX0_undo_55 : decode cX0_undo 55 = .ok (.getfield 21, 3) := dk_180 0 21 (dk_at dksX0_undo_2 7 rfl rfl)
theorem dX0_undo_58 : decode cX0_undo 58 = .ok (.getfield 59, 3) := dk_180 0 59 (dk_at dksX0_undo_2 10 rfl rfl)
theorem dX0_undo_61 : decode cX0_undo 61 = .ok (.iconst 3, 1) := dk_6 (dk_at dksX0_undo_2 13 rfl rfl)
theorem dX0_undo_62 : decode cX0_undo 62 = .ok (.iaload, 1) := dk_46 (dk_at dksX0_undo_2 14 rfl rfl)
theorem dX0_undo_63 : decode cX0_undo 63 = .ok (.ireturn, 1) := dk_172 (dk_at dksX0_undo_2 15 rfl rfl)
abbrev cX0_of : ByteArray := prog_1_method_47_code
def yX0_of : MethodName := ⟨RX0, "of", "(II)I"⟩
def dkwX0_of_6 : List UInt8 := [42, 45, 27, 45, 184, 0, 173, 182, 0, 135, 172, 2, 172]
abbrev dktX0_of_6 : List UInt8 := dkwX0_of_6 ++ []
def dkwX0_of_5 : List UInt8 := [46, 182, 0, 177, 172, 42, 42, 182, 0, 192, 45, 27, 182, 0, 199, 153, 0, 7, 4, 167, 0, 4, 3, 172]
abbrev dktX0_of_5 : List UInt8 := dkwX0_of_5 ++ dktX0_of_6
def dkwX0_of_4 : List UInt8 := [172, 42, 42, 182, 0, 192, 45, 27, 45, 3, 46, 182, 0, 184, 172, 42, 42, 182, 0, 192, 45, 27, 45, 3]
abbrev dktX0_of_4 : List UInt8 := dkwX0_of_4 ++ dktX0_of_5
def dkwX0_of_3 : List UInt8 := [184, 0, 77, 153, 0, 7, 4, 167, 0, 4, 3, 172, 45, 6, 27, 96, 46, 45, 184, 0, 173, 122, 4, 126]
abbrev dktX0_of_3 : List UInt8 := dkwX0_of_3 ++ dktX0_of_4
def dkwX0_of_2 : List UInt8 := [45, 6, 27, 96, 46, 172, 45, 16, 10, 27, 96, 46, 172, 45, 16, 17, 27, 96, 46, 172, 45, 27]
abbrev dktX0_of_2 : List UInt8 := dkwX0_of_2 ++ dktX0_of_3
def dkwX0_of_1 : List UInt8 := [170, 0, 0, 0, 154, 0, 0, 0, 0, 0, 0, 0, 8, 0, 0, 0, 49, 0, 0, 0, 55, 0, 0, 0, 62, 0, 0, 0, 69, 0, 0, 0, 83, 0, 0, 0, 96, 0, 0, 0, 110, 0, 0, 0, 124, 0, 0, 0, 143]
abbrev dktX0_of_1 : List UInt8 := dkwX0_of_1 ++ dktX0_of_2
def dkwX0_of_0 : List UInt8 := [42, 27, 182, 0, 70, 154, 0, 5, 2, 172, 42, 180, 0, 21, 180, 0, 74, 78, 28]
abbrev dktX0_of_0 : List UInt8 := dkwX0_of_0 ++ dktX0_of_1
theorem dksX0_of_0 : cX0_of.data.toList.drop 0 = dktX0_of_0 := by decide +kernel
theorem dksX0_of_1 : cX0_of.data.toList.drop 19 = dktX0_of_1 := dk_seg dksX0_of_0 19 rfl rfl
theorem dksX0_of_2 : cX0_of.data.toList.drop 68 = dktX0_of_2 := dk_seg dksX0_of_1 49 rfl rfl
theorem dksX0_of_3 : cX0_of.data.toList.drop 90 = dktX0_of_3 := dk_seg dksX0_of_2 22 rfl rfl
theorem dksX0_of_4 : cX0_of.data.toList.drop 114 = dktX0_of_4 := dk_seg dksX0_of_3 24 rfl rfl
theorem dksX0_of_5 : cX0_of.data.toList.drop 138 = dktX0_of_5 := dk_seg dksX0_of_4 24 rfl rfl
theorem dksX0_of_6 : cX0_of.data.toList.drop 162 = dktX0_of_6 := dk_seg dksX0_of_5 24 rfl rfl
theorem dX0_of_0 : decode cX0_of 0 = .ok (.aload_n 0, 1) := dk_42 (dk_at dksX0_of_0 0 rfl rfl)
theorem dX0_of_1 : decode cX0_of 1 = .ok (.iload_n 1, 1) := dk_27 (dk_at dksX0_of_0 1 rfl rfl)
theorem dX0_of_2 : decode cX0_of 2 = .ok (.invokevirtual 70, 3) := dk_182 0 70 (dk_at dksX0_of_0 2 rfl rfl)
theorem dX0_of_5 : decode cX0_of 5 = .ok (.ifCond .ne 5, 3) := dk_154 0 5 (dk_at dksX0_of_0 5 rfl rfl)
theorem dX0_of_8 : decode cX0_of 8 = .ok (.iconst (-1), 1) := dk_2 (dk_at dksX0_of_0 8 rfl rfl)
theorem dX0_of_9 : decode cX0_of 9 = .ok (.ireturn, 1) := dk_172 (dk_at dksX0_of_0 9 rfl rfl)
theorem dX0_of_10 : decode cX0_of 10 = .ok (.aload_n 0, 1) := dk_42 (dk_at dksX0_of_0 10 rfl rfl)
theorem dX0_of_11 : decode cX0_of 11 = .ok (.getfield 21, 3) := dk_180 0 21 (dk_at dksX0_of_0 11 rfl rfl)
theorem dX0_of_14 : decode cX0_of 14 = .ok (.getfield 74, 3) := dk_180 0 74 (dk_at dksX0_of_0 14 rfl rfl)
theorem dX0_of_17 : decode cX0_of 17 = .ok (.astore_n 3, 1) := dk_78 (dk_at dksX0_of_0 17 rfl rfl)
theorem dX0_of_18 : decode cX0_of 18 = .ok (.iload_n 2, 1) := dk_28 (dk_at dksX0_of_0 18 rfl rfl)
theorem dX0_of_19 : decode cX0_of 19 = .ok (.tableswitch 154 0 8 #[49, 55, 62, 69, 83, 96, 110, 124, 143], 49) := by decide +kernel
theorem dX0_of_68 : decode cX0_of 68 = .ok (.aload_n 3, 1) := dk_45 (dk_at dksX0_of_2 0 rfl rfl)
theorem dX0_of_69 : decode cX0_of 69 = .ok (.iconst 3, 1) := dk_6 (dk_at dksX0_of_2 1 rfl rfl)
theorem dX0_of_70 : decode cX0_of 70 = .ok (.iload_n 1, 1) := dk_27 (dk_at dksX0_of_2 2 rfl rfl)
theorem dX0_of_71 : decode cX0_of 71 = .ok (.iadd, 1) := dk_96 (dk_at dksX0_of_2 3 rfl rfl)
theorem dX0_of_72 : decode cX0_of 72 = .ok (.iaload, 1) := dk_46 (dk_at dksX0_of_2 4 rfl rfl)
theorem dX0_of_73 : decode cX0_of 73 = .ok (.ireturn, 1) := dk_172 (dk_at dksX0_of_2 5 rfl rfl)
theorem dX0_of_74 : decode cX0_of 74 = .ok (.aload_n 3, 1) := dk_45 (dk_at dksX0_of_2 6 rfl rfl)
theorem dX0_of_75 : decode cX0_of 75 = .ok (.bipush 10, 2) := dk_16 10 (dk_at dksX0_of_2 7 rfl rfl)
theorem dX0_of_77 : decode cX0_of 77 = .ok (.iload_n 1, 1) := dk_27 (dk_at dksX0_of_2 9 rfl rfl)
theorem dX0_of_78 : decode cX0_of 78 = .ok (.iadd, 1) := dk_96 (dk_at dksX0_of_2 10 rfl rfl)
theorem dX0_of_79 : decode cX0_of 79 = .ok (.iaload, 1) := dk_46 (dk_at dksX0_of_2 11 rfl rfl)
theorem dX0_of_80 : decode cX0_of 80 = .ok (.ireturn, 1) := dk_172 (dk_at dksX0_of_2 12 rfl rfl)
theorem dX0_of_81 : decode cX0_of 81 = .ok (.aload_n 3, 1) := dk_45 (dk_at dksX0_of_2 13 rfl rfl)
theorem dX0_of_82 : decode cX0_of 82 = .ok (.bipush 17, 2) := dk_16 17 (dk_at dksX0_of_2 14 rfl rfl)
theorem dX0_of_84 : decode cX0_of 84 = .ok (.iload_n 1, 1) := dk_27 (dk_at dksX0_of_2 16 rfl rfl)
theorem dX0_of_85 : decode cX0_of 85 = .ok (.iadd, 1) := dk_96 (dk_at dksX0_of_2 17 rfl rfl)
theorem dX0_of_86 : decode cX0_of 86 = .ok (.iaload, 1) := dk_46 (dk_at dksX0_of_2 18 rfl rfl)
theorem dX0_of_87 : decode cX0_of 87 = .ok (.ireturn, 1) := dk_172 (dk_at dksX0_of_2 19 rfl rfl)
theorem dX0_of_88 : decode cX0_of 88 = .ok (.aload_n 3, 1) := dk_45 (dk_at dksX0_of_2 20 rfl rfl)
theorem dX0_of_89 : decode cX0_of 89 = .ok (.iload_n 1, 1) := dk_27 (dk_at dksX0_of_2 21 rfl rfl)
theorem dX0_of_90 : decode cX0_of 90 = .ok (.invokestatic 77, 3) := dk_184 0 77 (dk_at dksX0_of_3 0 rfl rfl)
theorem dX0_of_93 : decode cX0_of 93 = .ok (.ifCond .eq 7, 3) := dk_153 0 7 (dk_at dksX0_of_3 3 rfl rfl)
theorem dX0_of_96 : decode cX0_of 96 = .ok (.iconst 1, 1) := dk_4 (dk_at dksX0_of_3 6 rfl rfl)
theorem dX0_of_97 : decode cX0_of 97 = .ok (.goto 4, 3) := dk_167 0 4 (dk_at dksX0_of_3 7 rfl rfl)
theorem dX0_of_100 : decode cX0_of 100 = .ok (.iconst 0, 1) := dk_3 (dk_at dksX0_of_3 10 rfl rfl)
theorem dX0_of_101 : decode cX0_of 101 = .ok (.ireturn, 1) := dk_172 (dk_at dksX0_of_3 11 rfl rfl)
theorem dX0_of_102 : decode cX0_of 102 = .ok (.aload_n 3, 1) := dk_45 (dk_at dksX0_of_3 12 rfl rfl)
theorem dX0_of_103 : decode cX0_of 103 = .ok (.iconst 3, 1) := dk_6 (dk_at dksX0_of_3 13 rfl rfl)
theorem dX0_of_104 : decode cX0_of 104 = .ok (.iload_n 1, 1) := dk_27 (dk_at dksX0_of_3 14 rfl rfl)
theorem dX0_of_105 : decode cX0_of 105 = .ok (.iadd, 1) := dk_96 (dk_at dksX0_of_3 15 rfl rfl)
theorem dX0_of_106 : decode cX0_of 106 = .ok (.iaload, 1) := dk_46 (dk_at dksX0_of_3 16 rfl rfl)
theorem dX0_of_107 : decode cX0_of 107 = .ok (.aload_n 3, 1) := dk_45 (dk_at dksX0_of_3 17 rfl rfl)
theorem dX0_of_108 : decode cX0_of 108 = .ok (.invokestatic 173, 3) := dk_184 0 173 (dk_at dksX0_of_3 18 rfl rfl)
theorem dX0_of_111 : decode cX0_of 111 = .ok (.ishr, 1) := dk_122 (dk_at dksX0_of_3 21 rfl rfl)
theorem dX0_of_112 : decode cX0_of 112 = .ok (.iconst 1, 1) := dk_4 (dk_at dksX0_of_3 22 rfl rfl)
theorem dX0_of_113 : decode cX0_of 113 = .ok (.iand, 1) := dk_126 (dk_at dksX0_of_3 23 rfl rfl)
theorem dX0_of_114 : decode cX0_of 114 = .ok (.ireturn, 1) := dk_172 (dk_at dksX0_of_4 0 rfl rfl)
theorem dX0_of_115 : decode cX0_of 115 = .ok (.aload_n 0, 1) := dk_42 (dk_at dksX0_of_4 1 rfl rfl)
theorem dX0_of_116 : decode cX0_of 116 = .ok (.aload_n 0, 1) := dk_42 (dk_at dksX0_of_4 2 rfl rfl)
theorem dX0_of_117 : decode cX0_of 117 = .ok (.invokevirtual 192, 3) := dk_182 0 192 (dk_at dksX0_of_4 3 rfl rfl)
theorem dX0_of_120 : decode cX0_of 120 = .ok (.aload_n 3, 1) := dk_45 (dk_at dksX0_of_4 6 rfl rfl)
theorem dX0_of_121 : decode cX0_of 121 = .ok (.iload_n 1, 1) := dk_27 (dk_at dksX0_of_4 7 rfl rfl)
theorem dX0_of_122 : decode cX0_of 122 = .ok (.aload_n 3, 1) := dk_45 (dk_at dksX0_of_4 8 rfl rfl)
theorem dX0_of_123 : decode cX0_of 123 = .ok (.iconst 0, 1) := dk_3 (dk_at dksX0_of_4 9 rfl rfl)
theorem dX0_of_124 : decode cX0_of 124 = .ok (.iaload, 1) := dk_46 (dk_at dksX0_of_4 10 rfl rfl)
theorem dX0_of_125 : decode cX0_of 125 = .ok (.invokevirtual 184, 3) := dk_182 0 184 (dk_at dksX0_of_4 11 rfl rfl)
theorem dX0_of_128 : decode cX0_of 128 = .ok (.ireturn, 1) := dk_172 (dk_at dksX0_of_4 14 rfl rfl)
theorem dX0_of_129 : decode cX0_of 129 = .ok (.aload_n 0, 1) := dk_42 (dk_at dksX0_of_4 15 rfl rfl)
theorem dX0_of_130 : decode cX0_of 130 = .ok (.aload_n 0, 1) := dk_42 (dk_at dksX0_of_4 16 rfl rfl)
theorem dX0_of_131 : decode cX0_of 131 = .ok (.invokevirtual 192, 3) := dk_182 0 192 (dk_at dksX0_of_4 17 rfl rfl)
theorem dX0_of_134 : decode cX0_of 134 = .ok (.aload_n 3, 1) := dk_45 (dk_at dksX0_of_4 20 rfl rfl)
theorem dX0_of_135 : decode cX0_of 135 = .ok (.iload_n 1, 1) := dk_27 (dk_at dksX0_of_4 21 rfl rfl)
theorem dX0_of_136 : decode cX0_of 136 = .ok (.aload_n 3, 1) := dk_45 (dk_at dksX0_of_4 22 rfl rfl)
theorem dX0_of_137 : decode cX0_of 137 = .ok (.iconst 0, 1) := dk_3 (dk_at dksX0_of_4 23 rfl rfl)
theorem dX0_of_138 : decode cX0_of 138 = .ok (.iaload, 1) := dk_46 (dk_at dksX0_of_5 0 rfl rfl)
theorem dX0_of_139 : decode cX0_of 139 = .ok (.invokevirtual 177, 3) := dk_182 0 177 (dk_at dksX0_of_5 1 rfl rfl)
theorem dX0_of_142 : decode cX0_of 142 = .ok (.ireturn, 1) := dk_172 (dk_at dksX0_of_5 4 rfl rfl)
theorem dX0_of_143 : decode cX0_of 143 = .ok (.aload_n 0, 1) := dk_42 (dk_at dksX0_of_5 5 rfl rfl)
theorem dX0_of_144 : decode cX0_of 144 = .ok (.aload_n 0, 1) := dk_42 (dk_at dksX0_of_5 6 rfl rfl)
theorem dX0_of_145 : decode cX0_of 145 = .ok (.invokevirtual 192, 3) := dk_182 0 192 (dk_at dksX0_of_5 7 rfl rfl)
theorem dX0_of_148 : decode cX0_of 148 = .ok (.aload_n 3, 1) := dk_45 (dk_at dksX0_of_5 10 rfl rfl)
theorem dX0_of_149 : decode cX0_of 149 = .ok (.iload_n 1, 1) := dk_27 (dk_at dksX0_of_5 11 rfl rfl)
theorem dX0_of_150 : decode cX0_of 150 = .ok (.invokevirtual 199, 3) := dk_182 0 199 (dk_at dksX0_of_5 12 rfl rfl)
theorem dX0_of_153 : decode cX0_of 153 = .ok (.ifCond .eq 7, 3) := dk_153 0 7 (dk_at dksX0_of_5 15 rfl rfl)
theorem dX0_of_156 : decode cX0_of 156 = .ok (.iconst 1, 1) := dk_4 (dk_at dksX0_of_5 18 rfl rfl)
theorem dX0_of_157 : decode cX0_of 157 = .ok (.goto 4, 3) := dk_167 0 4 (dk_at dksX0_of_5 19 rfl rfl)
theorem dX0_of_160 : decode cX0_of 160 = .ok (.iconst 0, 1) := dk_3 (dk_at dksX0_of_5 22 rfl rfl)
theorem dX0_of_161 : decode cX0_of 161 = .ok (.ireturn, 1) := dk_172 (dk_at dksX0_of_5 23 rfl rfl)
theorem dX0_of_162 : decode cX0_of 162 = .ok (.aload_n 0, 1) := dk_42 (dk_at dksX0_of_6 0 rfl rfl)
theorem dX0_of_163 : decode cX0_of 163 = .ok (.aload_n 3, 1) := dk_45 (dk_at dksX0_of_6 1 rfl rfl)
theorem dX0_of_164 : decode cX0_of 164 = .ok (.iload_n 1, 1) := dk_27 (dk_at dksX0_of_6 2 rfl rfl)
theorem dX0_of_165 : decode cX0_of 165 = .ok (.aload_n 3, 1) := dk_45 (dk_at dksX0_of_6 3 rfl rfl)
theorem dX0_of_166 : decode cX0_of 166 = .ok (.invokestatic 173, 3) := dk_184 0 173 (dk_at dksX0_of_6 4 rfl rfl)
theorem dX0_of_169 : decode cX0_of 169 = .ok (.invokevirtual 135, 3) := dk_182 0 135 (dk_at dksX0_of_6 7 rfl rfl)
theorem dX0_of_172 : decode cX0_of 172 = .ok (.ireturn, 1) := dk_172 (dk_at dksX0_of_6 10 rfl rfl)
theorem dX0_of_173 : decode cX0_of 173 = .ok (.iconst (-1), 1) := dk_2 (dk_at dksX0_of_6 11 rfl rfl)
theorem dX0_of_174 : decode cX0_of 174 = .ok (.ireturn, 1) := dk_172 (dk_at dksX0_of_6 12 rfl rfl)
abbrev cX0_is : ByteArray := prog_1_method_48_code
def yX0_is : MethodName := ⟨RX0, "is", "(I)I"⟩
def dkwX0_is_4 : List UInt8 := [184, 0, 173, 182, 0, 131, 172, 16, 254, 172]
abbrev dktX0_is_4 : List UInt8 := dkwX0_is_4 ++ []
def dkwX0_is_3 : List UInt8 := [180, 0, 21, 180, 0, 74, 4, 46, 172, 42, 42, 180, 0, 21, 180, 0, 74, 42, 180, 0, 21, 180, 0, 74]
abbrev dktX0_is_3 : List UInt8 := dkwX0_is_3 ++ dktX0_is_4
def dkwX0_is_2 : List UInt8 := [42, 180, 0, 21, 180, 0, 74, 3, 46, 172, 42, 180, 0, 21, 180, 0, 74, 184, 0, 173, 172, 42]
abbrev dktX0_is_2 : List UInt8 := dkwX0_is_2 ++ dktX0_is_3
def dkwX0_is_1 : List UInt8 := [170, 0, 0, 0, 0, 0, 84, 0, 0, 0, 0, 0, 0, 0, 3, 0, 0, 0, 31, 0, 0, 0, 41, 0, 0, 0, 52, 0, 0, 0, 62]
abbrev dktX0_is_1 : List UInt8 := dkwX0_is_1 ++ dktX0_is_2
def dkwX0_is_0 : List UInt8 := [27]
abbrev dktX0_is_0 : List UInt8 := dkwX0_is_0 ++ dktX0_is_1
theorem dksX0_is_0 : cX0_is.data.toList.drop 0 = dktX0_is_0 := by decide +kernel
theorem dksX0_is_1 : cX0_is.data.toList.drop 1 = dktX0_is_1 := dk_seg dksX0_is_0 1 rfl rfl
theorem dksX0_is_2 : cX0_is.data.toList.drop 32 = dktX0_is_2 := dk_seg dksX0_is_1 31 rfl rfl
theorem dksX0_is_3 : cX0_is.data.toList.drop 54 = dktX0_is_3 := dk_seg dksX0_is_2 22 rfl rfl
theorem dksX0_is_4 : cX0_is.data.toList.drop 78 = dktX0_is_4 := dk_seg dksX0_is_3 24 rfl rfl
theorem dX0_is_0 : decode cX0_is 0 = .ok (.iload_n 1, 1) := dk_27 (dk_at dksX0_is_0 0 rfl rfl)
theorem dX0_is_1 : decode cX0_is 1 = .ok (.tableswitch 84 0 3 #[31, 41, 52, 62], 31) := by decide +kernel
theorem dX0_is_32 : decode cX0_is 32 = .ok (.aload_n 0, 1) := dk_42 (dk_at dksX0_is_2 0 rfl rfl)
theorem dX0_is_33 : decode cX0_is 33 = .ok (.getfield 21, 3) := dk_180 0 21 (dk_at dksX0_is_2 1 rfl rfl)
theorem dX0_is_36 : decode cX0_is 36 = .ok (.getfield 74, 3) := dk_180 0 74 (dk_at dksX0_is_2 4 rfl rfl)
theorem dX0_is_39 : decode cX0_is 39 = .ok (.iconst 0, 1) := dk_3 (dk_at dksX0_is_2 7 rfl rfl)
theorem dX0_is_40 : decode cX0_is 40 = .ok (.iaload, 1) := dk_46 (dk_at dksX0_is_2 8 rfl rfl)
theorem dX0_is_41 : decode cX0_is 41 = .ok (.ireturn, 1) := dk_172 (dk_at dksX0_is_2 9 rfl rfl)
theorem dX0_is_42 : decode cX0_is 42 = .ok (.aload_n 0, 1) := dk_42 (dk_at dksX0_is_2 10 rfl rfl)
theorem dX0_is_43 : decode cX0_is 43 = .ok (.getfield 21, 3) := dk_180 0 21 (dk_at dksX0_is_2 11 rfl rfl)
theorem dX0_is_46 : decode cX0_is 46 = .ok (.getfield 74, 3) := dk_180 0 74 (dk_at dksX0_is_2 14 rfl rfl)
theorem dX0_is_49 : decode cX0_is 49 = .ok (.invokestatic 173, 3) := dk_184 0 173 (dk_at dksX0_is_2 17 rfl rfl)
theorem dX0_is_52 : decode cX0_is 52 = .ok (.ireturn, 1) := dk_172 (dk_at dksX0_is_2 20 rfl rfl)
theorem dX0_is_53 : decode cX0_is 53 = .ok (.aload_n 0, 1) := dk_42 (dk_at dksX0_is_2 21 rfl rfl)
theorem dX0_is_54 : decode cX0_is 54 = .ok (.getfield 21, 3) := dk_180 0 21 (dk_at dksX0_is_3 0 rfl rfl)
theorem dX0_is_57 : decode cX0_is 57 = .ok (.getfield 74, 3) := dk_180 0 74 (dk_at dksX0_is_3 3 rfl rfl)
theorem dX0_is_60 : decode cX0_is 60 = .ok (.iconst 1, 1) := dk_4 (dk_at dksX0_is_3 6 rfl rfl)
theorem dX0_is_61 : decode cX0_is 61 = .ok (.iaload, 1) := dk_46 (dk_at dksX0_is_3 7 rfl rfl)
theorem dX0_is_62 : decode cX0_is 62 = .ok (.ireturn, 1) := dk_172 (dk_at dksX0_is_3 8 rfl rfl)
theorem dX0_is_63 : decode cX0_is 63 = .ok (.aload_n 0, 1) := dk_42 (dk_at dksX0_is_3 9 rfl rfl)
theorem dX0_is_64 : decode cX0_is 64 = .ok (.aload_n 0, 1) := dk_42 (dk_at dksX0_is_3 10 rfl rfl)
theorem dX0_is_65 : decode cX0_is 65 = .ok (.getfield 21, 3) := dk_180 0 21 (dk_at dksX0_is_3 11 rfl rfl)
theorem dX0_is_68 : decode cX0_is 68 = .ok (.getfield 74, 3) := dk_180 0 74 (dk_at dksX0_is_3 14 rfl rfl)
theorem dX0_is_71 : decode cX0_is 71 = .ok (.aload_n 0, 1) := dk_42 (dk_at dksX0_is_3 17 rfl rfl)
theorem dX0_is_72 : decode cX0_is 72 = .ok (.getfield 21, 3) := dk_180 0 21 (dk_at dksX0_is_3 18 rfl rfl)
theorem dX0_is_75 : decode cX0_is 75 = .ok (.getfield 74, 3) := dk_180 0 74 (dk_at dksX0_is_3 21 rfl rfl)
theorem dX0_is_78 : decode cX0_is 78 = .ok (.invokestatic 173, 3) := dk_184 0 173 (dk_at dksX0_is_4 0 rfl rfl)
theorem dX0_is_81 : decode cX0_is 81 = .ok (.invokevirtual 131, 3) := dk_182 0 131 (dk_at dksX0_is_4 3 rfl rfl)
theorem dX0_is_84 : decode cX0_is 84 = .ok (.ireturn, 1) := dk_172 (dk_at dksX0_is_4 6 rfl rfl)
theorem dX0_is_85 : decode cX0_is 85 = .ok (.bipush (-2), 2) := dk_16 254 (dk_at dksX0_is_4 7 rfl rfl)
theorem dX0_is_87 : decode cX0_is 87 = .ok (.ireturn, 1) := dk_172 (dk_at dksX0_is_4 9 rfl rfl)
abbrev cX0_book : ByteArray := prog_1_method_49_code
def yX0_book : MethodName := ⟨RX0, "book", "(II)I"⟩
def dkwX0_book_2 : List UInt8 := [180, 0, 21, 180, 0, 74, 16, 25, 6, 27, 104, 96, 28, 96, 46, 167, 0, 5, 16, 254, 172]
abbrev dktX0_book_2 : List UInt8 := dkwX0_book_2 ++ []
def dkwX0_book_1 : List UInt8 := [180, 0, 74, 16, 24, 46, 4, 100, 184, 0, 62, 153, 0, 31, 28, 3, 5, 184, 0, 62, 153, 0, 22, 42]
abbrev dktX0_book_1 : List UInt8 := dkwX0_book_1 ++ dktX0_book_2
def dkwX0_book_0 : List UInt8 := [27, 2, 160, 0, 14, 42, 180, 0, 21, 180, 0, 74, 16, 24, 46, 172, 27, 3, 42, 180, 0, 21]
abbrev dktX0_book_0 : List UInt8 := dkwX0_book_0 ++ dktX0_book_1
theorem dksX0_book_0 : cX0_book.data.toList.drop 0 = dktX0_book_0 := by decide +kernel
theorem dksX0_book_1 : cX0_book.data.toList.drop 22 = dktX0_book_1 := dk_seg dksX0_book_0 22 rfl rfl
theorem dksX0_book_2 : cX0_book.data.toList.drop 46 = dktX0_book_2 := dk_seg dksX0_book_1 24 rfl rfl
theorem dX0_book_0 : decode cX0_book 0 = .ok (.iload_n 1, 1) := dk_27 (dk_at dksX0_book_0 0 rfl rfl)
theorem dX0_book_1 : decode cX0_book 1 = .ok (.iconst (-1), 1) := dk_2 (dk_at dksX0_book_0 1 rfl rfl)
theorem dX0_book_2 : decode cX0_book 2 = .ok (.if_icmp .ne 14, 3) := dk_160 0 14 (dk_at dksX0_book_0 2 rfl rfl)
theorem dX0_book_5 : decode cX0_book 5 = .ok (.aload_n 0, 1) := dk_42 (dk_at dksX0_book_0 5 rfl rfl)
theorem dX0_book_6 : decode cX0_book 6 = .ok (.getfield 21, 3) := dk_180 0 21 (dk_at dksX0_book_0 6 rfl rfl)
theorem dX0_book_9 : decode cX0_book 9 = .ok (.getfield 74, 3) := dk_180 0 74 (dk_at dksX0_book_0 9 rfl rfl)
theorem dX0_book_12 : decode cX0_book 12 = .ok (.bipush 24, 2) := dk_16 24 (dk_at dksX0_book_0 12 rfl rfl)
theorem dX0_book_14 : decode cX0_book 14 = .ok (.iaload, 1) := dk_46 (dk_at dksX0_book_0 14 rfl rfl)
theorem dX0_book_15 : decode cX0_book 15 = .ok (.ireturn, 1) := dk_172 (dk_at dksX0_book_0 15 rfl rfl)
theorem dX0_book_16 : decode cX0_book 16 = .ok (.iload_n 1, 1) := dk_27 (dk_at dksX0_book_0 16 rfl rfl)
theorem dX0_book_17 : decode cX0_book 17 = .ok (.iconst 0, 1) := dk_3 (dk_at dksX0_book_0 17 rfl rfl)
theorem dX0_book_18 : decode cX0_book 18 = .ok (.aload_n 0, 1) := dk_42 (dk_at dksX0_book_0 18 rfl rfl)
theorem dX0_book_19 : decode cX0_book 19 = .ok (.getfield 21, 3) := dk_180 0 21 (dk_at dksX0_book_0 19 rfl rfl)
theorem dX0_book_22 : decode cX0_book 22 = .ok (.getfield 74, 3) := dk_180 0 74 (dk_at dksX0_book_1 0 rfl rfl)
theorem dX0_book_25 : decode cX0_book 25 = .ok (.bipush 24, 2) := dk_16 24 (dk_at dksX0_book_1 3 rfl rfl)
theorem dX0_book_27 : decode cX0_book 27 = .ok (.iaload, 1) := dk_46 (dk_at dksX0_book_1 5 rfl rfl)
theorem dX0_book_28 : decode cX0_book 28 = .ok (.iconst 1, 1) := dk_4 (dk_at dksX0_book_1 6 rfl rfl)
theorem dX0_book_29 : decode cX0_book 29 = .ok (.isub, 1) := dk_100 (dk_at dksX0_book_1 7 rfl rfl)
theorem dX0_book_30 : decode cX0_book 30 = .ok (.invokestatic 62, 3) := dk_184 0 62 (dk_at dksX0_book_1 8 rfl rfl)
theorem dX0_book_33 : decode cX0_book 33 = .ok (.ifCond .eq 31, 3) := dk_153 0 31 (dk_at dksX0_book_1 11 rfl rfl)
theorem dX0_book_36 : decode cX0_book 36 = .ok (.iload_n 2, 1) := dk_28 (dk_at dksX0_book_1 14 rfl rfl)
theorem dX0_book_37 : decode cX0_book 37 = .ok (.iconst 0, 1) := dk_3 (dk_at dksX0_book_1 15 rfl rfl)
theorem dX0_book_38 : decode cX0_book 38 = .ok (.iconst 2, 1) := dk_5 (dk_at dksX0_book_1 16 rfl rfl)
theorem dX0_book_39 : decode cX0_book 39 = .ok (.invokestatic 62, 3) := dk_184 0 62 (dk_at dksX0_book_1 17 rfl rfl)
theorem dX0_book_42 : decode cX0_book 42 = .ok (.ifCond .eq 22, 3) := dk_153 0 22 (dk_at dksX0_book_1 20 rfl rfl)
theorem dX0_book_45 : decode cX0_book 45 = .ok (.aload_n 0, 1) := dk_42 (dk_at dksX0_book_1 23 rfl rfl)
theorem dX0_book_46 : decode cX0_book 46 = .ok (.getfield 21, 3) := dk_180 0 21 (dk_at dksX0_book_2 0 rfl rfl)
theorem dX0_book_49 : decode cX0_book 49 = .ok (.getfield 74, 3) := dk_180 0 74 (dk_at dksX0_book_2 3 rfl rfl)
theorem dX0_book_52 : decode cX0_book 52 = .ok (.bipush 25, 2) := dk_16 25 (dk_at dksX0_book_2 6 rfl rfl)
theorem dX0_book_54 : decode cX0_book 54 = .ok (.iconst 3, 1) := dk_6 (dk_at dksX0_book_2 8 rfl rfl)
theorem dX0_book_55 : decode cX0_book 55 = .ok (.iload_n 1, 1) := dk_27 (dk_at dksX0_book_2 9 rfl rfl)
theorem dX0_book_56 : decode cX0_book 56 = .ok (.imul, 1) := dk_104 (dk_at dksX0_book_2 10 rfl rfl)
theorem dX0_book_57 : decode cX0_book 57 = .ok (.iadd, 1) := dk_96 (dk_at dksX0_book_2 11 rfl rfl)
theorem dX0_book_58 : decode cX0_book 58 = .ok (.iload_n 2, 1) := dk_28 (dk_at dksX0_book_2 12 rfl rfl)
theorem dX0_book_59 : decode cX0_book 59 = .ok (.iadd, 1) := dk_96 (dk_at dksX0_book_2 13 rfl rfl)
theorem dX0_book_60 : decode cX0_book 60 = .ok (.iaload, 1) := dk_46 (dk_at dksX0_book_2 14 rfl rfl)
theorem dX0_book_61 : decode cX0_book 61 = .ok (.goto 5, 3) := dk_167 0 5 (dk_at dksX0_book_2 15 rfl rfl)
theorem dX0_book_64 : decode cX0_book 64 = .ok (.bipush (-2), 2) := dk_16 254 (dk_at dksX0_book_2 18 rfl rfl)
theorem dX0_book_66 : decode cX0_book 66 = .ok (.ireturn, 1) := dk_172 (dk_at dksX0_book_2 20 rfl rfl)
abbrev cX0_foretold : ByteArray := prog_1_method_51_code
def yX0_foretold : MethodName := ⟨RX0, "foretold", "(II)I"⟩
def dkwX0_foretold_1 : List UInt8 := [182, 0, 192, 27, 182, 1, 48, 42, 180, 0, 43, 16, 10, 28, 96, 46, 172]
abbrev dktX0_foretold_1 : List UInt8 := dkwX0_foretold_1 ++ []
def dkwX0_foretold_0 : List UInt8 := [27, 4, 16, 60, 184, 0, 62, 153, 0, 11, 42, 28, 182, 0, 70, 154, 0, 5, 2, 172, 42, 42]
abbrev dktX0_foretold_0 : List UInt8 := dkwX0_foretold_0 ++ dktX0_foretold_1
theorem dksX0_foretold_0 : cX0_foretold.data.toList.drop 0 = dktX0_foretold_0 := by decide +kernel
theorem dksX0_foretold_1 : cX0_foretold.data.toList.drop 22 = dktX0_foretold_1 := dk_seg dksX0_foretold_0 22 rfl rfl
theorem dX0_foretold_0 : decode cX0_foretold 0 = .ok (.iload_n 1, 1) := dk_27 (dk_at dksX0_foretold_0 0 rfl rfl)
theorem dX0_foretold_1 : decode cX0_foretold 1 = .ok (.iconst 1, 1) := dk_4 (dk_at dksX0_foretold_0 1 rfl rfl)
theorem dX0_foretold_2 : decode cX0_foretold 2 = .ok (.bipush 60, 2) := dk_16 60 (dk_at dksX0_foretold_0 2 rfl rfl)
theorem dX0_foretold_4 : decode cX0_foretold 4 = .ok (.invokestatic 62, 3) := dk_184 0 62 (dk_at dksX0_foretold_0 4 rfl rfl)
theorem dX0_foretold_7 : decode cX0_foretold 7 = .ok (.ifCond .eq 11, 3) := dk_153 0 11 (dk_at dksX0_foretold_0 7 rfl rfl)
theorem dX0_foretold_10 : decode cX0_foretold 10 = .ok (.aload_n 0, 1) := dk_42 (dk_at dksX0_foretold_0 10 rfl rfl)
theorem dX0_foretold_11 : decode cX0_foretold 11 = .ok (.iload_n 2, 1) := dk_28 (dk_at dksX0_foretold_0 11 rfl rfl)
theorem dX0_foretold_12 : decode cX0_foretold 12 = .ok (.invokevirtual 70, 3) := dk_182 0 70 (dk_at dksX0_foretold_0 12 rfl rfl)
theorem dX0_foretold_15 : decode cX0_foretold 15 = .ok (.ifCond .ne 5, 3) := dk_154 0 5 (dk_at dksX0_foretold_0 15 rfl rfl)
theorem dX0_foretold_18 : decode cX0_foretold 18 = .ok (.iconst (-1), 1) := dk_2 (dk_at dksX0_foretold_0 18 rfl rfl)
theorem dX0_foretold_19 : decode cX0_foretold 19 = .ok (.ireturn, 1) := dk_172 (dk_at dksX0_foretold_0 19 rfl rfl)
theorem dX0_foretold_20 : decode cX0_foretold 20 = .ok (.aload_n 0, 1) := dk_42 (dk_at dksX0_foretold_0 20 rfl rfl)
theorem dX0_foretold_21 : decode cX0_foretold 21 = .ok (.aload_n 0, 1) := dk_42 (dk_at dksX0_foretold_0 21 rfl rfl)
theorem dX0_foretold_22 : decode cX0_foretold 22 = .ok (.invokevirtual 192, 3) := dk_182 0 192 (dk_at dksX0_foretold_1 0 rfl rfl)
theorem dX0_foretold_25 : decode cX0_foretold 25 = .ok (.iload_n 1, 1) := dk_27 (dk_at dksX0_foretold_1 3 rfl rfl)
theorem dX0_foretold_26 : decode cX0_foretold 26 = .ok (.invokevirtual 304, 3) := dk_182 1 48 (dk_at dksX0_foretold_1 4 rfl rfl)
theorem dX0_foretold_29 : decode cX0_foretold 29 = .ok (.aload_n 0, 1) := dk_42 (dk_at dksX0_foretold_1 7 rfl rfl)
theorem dX0_foretold_30 : decode cX0_foretold 30 = .ok (.getfield 43, 3) := dk_180 0 43 (dk_at dksX0_foretold_1 8 rfl rfl)
theorem dX0_foretold_33 : decode cX0_foretold 33 = .ok (.bipush 10, 2) := dk_16 10 (dk_at dksX0_foretold_1 11 rfl rfl)
theorem dX0_foretold_35 : decode cX0_foretold 35 = .ok (.iload_n 2, 1) := dk_28 (dk_at dksX0_foretold_1 13 rfl rfl)
theorem dX0_foretold_36 : decode cX0_foretold 36 = .ok (.iadd, 1) := dk_96 (dk_at dksX0_foretold_1 14 rfl rfl)
theorem dX0_foretold_37 : decode cX0_foretold 37 = .ok (.iaload, 1) := dk_46 (dk_at dksX0_foretold_1 15 rfl rfl)
theorem dX0_foretold_38 : decode cX0_foretold 38 = .ok (.ireturn, 1) := dk_172 (dk_at dksX0_foretold_1 16 rfl rfl)
abbrev cX0_goes : ByteArray := prog_1_method_50_code
def yX0_goes : MethodName := ⟨RX0, "goes", "(LShutDays$Text;I)V"⟩
def dkwX0_goes_2 : List UInt8 := [167, 255, 227, 177]
abbrev dktX0_goes_2 : List UInt8 := dkwX0_goes_2 ++ []
def dkwX0_goes_1 : List UInt8 := [180, 0, 43, 3, 46, 17, 39, 15, 162, 0, 18, 42, 43, 42, 180, 0, 43, 182, 0, 195, 132, 3, 1]
abbrev dktX0_goes_1 : List UInt8 := dkwX0_goes_1 ++ dktX0_goes_2
def dkwX0_goes_0 : List UInt8 := [42, 180, 0, 21, 180, 0, 74, 42, 180, 0, 43, 184, 1, 44, 3, 62, 29, 28, 162, 0, 30, 42]
abbrev dktX0_goes_0 : List UInt8 := dkwX0_goes_0 ++ dktX0_goes_1
theorem dksX0_goes_0 : cX0_goes.data.toList.drop 0 = dktX0_goes_0 := by decide +kernel
theorem dksX0_goes_1 : cX0_goes.data.toList.drop 22 = dktX0_goes_1 := dk_seg dksX0_goes_0 22 rfl rfl
theorem dksX0_goes_2 : cX0_goes.data.toList.drop 45 = dktX0_goes_2 := dk_seg dksX0_goes_1 23 rfl rfl
theorem dX0_goes_0 : decode cX0_goes 0 = .ok (.aload_n 0, 1) := dk_42 (dk_at dksX0_goes_0 0 rfl rfl)
theorem dX0_goes_1 : decode cX0_goes 1 = .ok (.getfield 21, 3) := dk_180 0 21 (dk_at dksX0_goes_0 1 rfl rfl)
theorem dX0_goes_4 : decode cX0_goes 4 = .ok (.getfield 74, 3) := dk_180 0 74 (dk_at dksX0_goes_0 4 rfl rfl)
theorem dX0_goes_7 : decode cX0_goes 7 = .ok (.aload_n 0, 1) := dk_42 (dk_at dksX0_goes_0 7 rfl rfl)
theorem dX0_goes_8 : decode cX0_goes 8 = .ok (.getfield 43, 3) := dk_180 0 43 (dk_at dksX0_goes_0 8 rfl rfl)
theorem dX0_goes_11 : decode cX0_goes 11 = .ok (.invokestatic 300, 3) := dk_184 1 44 (dk_at dksX0_goes_0 11 rfl rfl)
theorem dX0_goes_14 : decode cX0_goes 14 = .ok (.iconst 0, 1) := dk_3 (dk_at dksX0_goes_0 14 rfl rfl)
theorem dX0_goes_15 : decode cX0_goes 15 = .ok (.istore_n 3, 1) := dk_62 (dk_at dksX0_goes_0 15 rfl rfl)
theorem dX0_goes_16 : decode cX0_goes 16 = .ok (.iload_n 3, 1) := dk_29 (dk_at dksX0_goes_0 16 rfl rfl)
theorem dX0_goes_17 : decode cX0_goes 17 = .ok (.iload_n 2, 1) := dk_28 (dk_at dksX0_goes_0 17 rfl rfl)
theorem dX0_goes_18 : decode cX0_goes 18 = .ok (.if_icmp .ge 30, 3) := dk_162 0 30 (dk_at dksX0_goes_0 18 rfl rfl)
theorem dX0_goes_21 : decode cX0_goes 21 = .ok (.aload_n 0, 1) := dk_42 (dk_at dksX0_goes_0 21 rfl rfl)
theorem dX0_goes_22 : decode cX0_goes 22 = .ok (.getfield 43, 3) := dk_180 0 43 (dk_at dksX0_goes_1 0 rfl rfl)
theorem dX0_goes_25 : decode cX0_goes 25 = .ok (.iconst 0, 1) := dk_3 (dk_at dksX0_goes_1 3 rfl rfl)
theorem dX0_goes_26 : decode cX0_goes 26 = .ok (.iaload, 1) := dk_46 (dk_at dksX0_goes_1 4 rfl rfl)
theorem dX0_goes_27 : decode cX0_goes 27 = .ok (.sipush 9999, 3) := dk_17 39 15 (dk_at dksX0_goes_1 5 rfl rfl)
theorem dX0_goes_30 : decode cX0_goes 30 = .ok (.if_icmp .ge 18, 3) := dk_162 0 18 (dk_at dksX0_goes_1 8 rfl rfl)
theorem dX0_goes_33 : decode cX0_goes 33 = .ok (.aload_n 0, 1) := dk_42 (dk_at dksX0_goes_1 11 rfl rfl)
theorem dX0_goes_34 : decode cX0_goes 34 = .ok (.aload_n 1, 1) := dk_43 (dk_at dksX0_goes_1 12 rfl rfl)
theorem dX0_goes_35 : decode cX0_goes 35 = .ok (.aload_n 0, 1) := dk_42 (dk_at dksX0_goes_1 13 rfl rfl)
theorem dX0_goes_36 : decode cX0_goes 36 = .ok (.getfield 43, 3) := dk_180 0 43 (dk_at dksX0_goes_1 14 rfl rfl)
theorem dX0_goes_39 : decode cX0_goes 39 = .ok (.invokevirtual 195, 3) := dk_182 0 195 (dk_at dksX0_goes_1 17 rfl rfl)
theorem dX0_goes_42 : decode cX0_goes 42 = .ok (.iinc 3 1, 3) := dk_132 3 1 (dk_at dksX0_goes_1 20 rfl rfl)
theorem dX0_goes_45 : decode cX0_goes 45 = .ok (.goto (-29), 3) := dk_167 255 227 (dk_at dksX0_goes_2 0 rfl rfl)
theorem dX0_goes_48 : decode cX0_goes 48 = .ok (.return_, 1) := dk_177 (dk_at dksX0_goes_2 3 rfl rfl)
abbrev cX0_indoors : ByteArray := prog_1_method_53_code
def yX0_indoors : MethodName := ⟨RX0, "indoors", "(I)I"⟩
def dkwX0_indoors_2 : List UInt8 := [132, 2, 1, 167, 255, 223, 2, 172]
abbrev dktX0_indoors_2 : List UInt8 := dkwX0_indoors_2 ++ []
def dkwX0_indoors_1 : List UInt8 := [180, 0, 21, 180, 0, 74, 3, 46, 28, 96, 16, 20, 112, 182, 1, 52, 27, 161, 0, 5, 28, 172]
abbrev dktX0_indoors_1 : List UInt8 := dkwX0_indoors_1 ++ dktX0_indoors_2
def dkwX0_indoors_0 : List UInt8 := [27, 4, 16, 7, 184, 0, 62, 154, 0, 5, 2, 172, 3, 61, 28, 16, 60, 163, 0, 33, 42, 42]
abbrev dktX0_indoors_0 : List UInt8 := dkwX0_indoors_0 ++ dktX0_indoors_1
theorem dksX0_indoors_0 : cX0_indoors.data.toList.drop 0 = dktX0_indoors_0 := by decide +kernel
theorem dksX0_indoors_1 : cX0_indoors.data.toList.drop 22 = dktX0_indoors_1 := dk_seg dksX0_indoors_0 22 rfl rfl
theorem dksX0_indoors_2 : cX0_indoors.data.toList.drop 44 = dktX0_indoors_2 := dk_seg dksX0_indoors_1 22 rfl rfl
theorem dX0_indoors_0 : decode cX0_indoors 0 = .ok (.iload_n 1, 1) := dk_27 (dk_at dksX0_indoors_0 0 rfl rfl)
theorem dX0_indoors_1 : decode cX0_indoors 1 = .ok (.iconst 1, 1) := dk_4 (dk_at dksX0_indoors_0 1 rfl rfl)
theorem dX0_indoors_2 : decode cX0_indoors 2 = .ok (.bipush 7, 2) := dk_16 7 (dk_at dksX0_indoors_0 2 rfl rfl)
theorem dX0_indoors_4 : decode cX0_indoors 4 = .ok (.invokestatic 62, 3) := dk_184 0 62 (dk_at dksX0_indoors_0 4 rfl rfl)
theorem dX0_indoors_7 : decode cX0_indoors 7 = .ok (.ifCond .ne 5, 3) := dk_154 0 5 (dk_at dksX0_indoors_0 7 rfl rfl)
theorem dX0_indoors_10 : decode cX0_indoors 10 = .ok (.iconst (-1), 1) := dk_2 (dk_at dksX0_indoors_0 10 rfl rfl)
theorem dX0_indoors_11 : decode cX0_indoors 11 = .ok (.ireturn, 1) := dk_172 (dk_at dksX0_indoors_0 11 rfl rfl)
theorem dX0_indoors_12 : decode cX0_indoors 12 = .ok (.iconst 0, 1) := dk_3 (dk_at dksX0_indoors_0 12 rfl rfl)
theorem dX0_indoors_13 : decode cX0_indoors 13 = .ok (.istore_n 2, 1) := dk_61 (dk_at dksX0_indoors_0 13 rfl rfl)
theorem dX0_indoors_14 : decode cX0_indoors 14 = .ok (.iload_n 2, 1) := dk_28 (dk_at dksX0_indoors_0 14 rfl rfl)
theorem dX0_indoors_15 : decode cX0_indoors 15 = .ok (.bipush 60, 2) := dk_16 60 (dk_at dksX0_indoors_0 15 rfl rfl)
theorem dX0_indoors_17 : decode cX0_indoors 17 = .ok (.if_icmp .gt 33, 3) := dk_163 0 33 (dk_at dksX0_indoors_0 17 rfl rfl)
theorem dX0_indoors_20 : decode cX0_indoors 20 = .ok (.aload_n 0, 1) := dk_42 (dk_at dksX0_indoors_0 20 rfl rfl)
theorem dX0_indoors_21 : decode cX0_indoors 21 = .ok (.aload_n 0, 1) := dk_42 (dk_at dksX0_indoors_0 21 rfl rfl)
theorem dX0_indoors_22 : decode cX0_indoors 22 = .ok (.getfield 21, 3) := dk_180 0 21 (dk_at dksX0_indoors_1 0 rfl rfl)
theorem dX0_indoors_25 : decode cX0_indoors 25 = .ok (.getfield 74, 3) := dk_180 0 74 (dk_at dksX0_indoors_1 3 rfl rfl)
theorem dX0_indoors_28 : decode cX0_indoors 28 = .ok (.iconst 0, 1) := dk_3 (dk_at dksX0_indoors_1 6 rfl rfl)
theorem dX0_indoors_29 : decode cX0_indoors 29 = .ok (.iaload, 1) := dk_46 (dk_at dksX0_indoors_1 7 rfl rfl)
theorem dX0_indoors_30 : decode cX0_indoors 30 = .ok (.iload_n 2, 1) := dk_28 (dk_at dksX0_indoors_1 8 rfl rfl)
theorem dX0_indoors_31 : decode cX0_indoors 31 = .ok (.iadd, 1) := dk_96 (dk_at dksX0_indoors_1 9 rfl rfl)
theorem dX0_indoors_32 : decode cX0_indoors 32 = .ok (.bipush 20, 2) := dk_16 20 (dk_at dksX0_indoors_1 10 rfl rfl)
theorem dX0_indoors_34 : decode cX0_indoors 34 = .ok (.irem, 1) := dk_112 (dk_at dksX0_indoors_1 12 rfl rfl)
theorem dX0_indoors_35 : decode cX0_indoors 35 = .ok (.invokevirtual 308, 3) := dk_182 1 52 (dk_at dksX0_indoors_1 13 rfl rfl)
theorem dX0_indoors_38 : decode cX0_indoors 38 = .ok (.iload_n 1, 1) := dk_27 (dk_at dksX0_indoors_1 16 rfl rfl)
theorem dX0_indoors_39 : decode cX0_indoors 39 = .ok (.if_icmp .lt 5, 3) := dk_161 0 5 (dk_at dksX0_indoors_1 17 rfl rfl)
theorem dX0_indoors_42 : decode cX0_indoors 42 = .ok (.iload_n 2, 1) := dk_28 (dk_at dksX0_indoors_1 20 rfl rfl)
theorem dX0_indoors_43 : decode cX0_indoors 43 = .ok (.ireturn, 1) := dk_172 (dk_at dksX0_indoors_1 21 rfl rfl)
theorem dX0_indoors_44 : decode cX0_indoors 44 = .ok (.iinc 2 1, 3) := dk_132 2 1 (dk_at dksX0_indoors_2 0 rfl rfl)
theorem dX0_indoors_47 : decode cX0_indoors 47 = .ok (.goto (-33), 3) := dk_167 255 223 (dk_at dksX0_indoors_2 3 rfl rfl)
theorem dX0_indoors_50 : decode cX0_indoors 50 = .ok (.iconst (-1), 1) := dk_2 (dk_at dksX0_indoors_2 6 rfl rfl)
theorem dX0_indoors_51 : decode cX0_indoors 51 = .ok (.ireturn, 1) := dk_172 (dk_at dksX0_indoors_2 7 rfl rfl)
abbrev cX0_shutOn : ByteArray := prog_1_method_52_code
def yX0_shutOn : MethodName := ⟨RX0, "shutOn", "(I)I"⟩
def dkwX0_shutOn_2 : List UInt8 := [167, 0, 4, 3, 96, 61, 132, 3, 1, 167, 255, 206, 28, 172]
abbrev dktX0_shutOn_2 : List UInt8 := dkwX0_shutOn_2 ++ []
def dkwX0_shutOn_1 : List UInt8 := [153, 0, 25, 42, 180, 0, 21, 180, 0, 74, 6, 29, 96, 46, 27, 184, 0, 66, 153, 0, 7, 4]
abbrev dktX0_shutOn_1 : List UInt8 := dkwX0_shutOn_1 ++ dktX0_shutOn_2
def dkwX0_shutOn_0 : List UInt8 := [3, 61, 3, 62, 29, 42, 180, 0, 21, 180, 0, 59, 3, 46, 162, 0, 43, 28, 42, 29, 182, 0, 209]
abbrev dktX0_shutOn_0 : List UInt8 := dkwX0_shutOn_0 ++ dktX0_shutOn_1
theorem dksX0_shutOn_0 : cX0_shutOn.data.toList.drop 0 = dktX0_shutOn_0 := by decide +kernel
theorem dksX0_shutOn_1 : cX0_shutOn.data.toList.drop 23 = dktX0_shutOn_1 := dk_seg dksX0_shutOn_0 23 rfl rfl
theorem dksX0_shutOn_2 : cX0_shutOn.data.toList.drop 45 = dktX0_shutOn_2 := dk_seg dksX0_shutOn_1 22 rfl rfl
theorem dX0_shutOn_0 : decode cX0_shutOn 0 = .ok (.iconst 0, 1) := dk_3 (dk_at dksX0_shutOn_0 0 rfl rfl)
theorem dX0_shutOn_1 : decode cX0_shutOn 1 = .ok (.istore_n 2, 1) := dk_61 (dk_at dksX0_shutOn_0 1 rfl rfl)
theorem dX0_shutOn_2 : decode cX0_shutOn 2 = .ok (.iconst 0, 1) := dk_3 (dk_at dksX0_shutOn_0 2 rfl rfl)
theorem dX0_shutOn_3 : decode cX0_shutOn 3 = .ok (.istore_n 3, 1) := dk_62 (dk_at dksX0_shutOn_0 3 rfl rfl)
theorem dX0_shutOn_4 : decode cX0_shutOn 4 = .ok (.iload_n 3, 1) := dk_29 (dk_at dksX0_shutOn_0 4 rfl rfl)
theorem dX0_shutOn_5 : decode cX0_shutOn 5 = .ok (.aload_n 0, 1) := dk_42 (dk_at dksX0_shutOn_0 5 rfl rfl)
theorem dX0_shutOn_6 : decode cX0_shutOn 6 = .ok (.getfield 21, 3) := dk_180 0 21 (dk_at dksX0_shutOn_0 6 rfl rfl)
theorem dX0_shutOn_9 : decode cX0_shutOn 9 = .ok (.getfield 59, 3) := dk_180 0 59 (dk_at dksX0_shutOn_0 9 rfl rfl)
theorem dX0_shutOn_12 : decode cX0_shutOn 12 = .ok (.iconst 0, 1) := dk_3 (dk_at dksX0_shutOn_0 12 rfl rfl)
theorem dX0_shutOn_13 : decode cX0_shutOn 13 = .ok (.iaload, 1) := dk_46 (dk_at dksX0_shutOn_0 13 rfl rfl)
theorem dX0_shutOn_14 : decode cX0_shutOn 14 = .ok (.if_icmp .ge 43, 3) := dk_162 0 43 (dk_at dksX0_shutOn_0 14 rfl rfl)
theorem dX0_shutOn_17 : decode cX0_shutOn 17 = .ok (.iload_n 2, 1) := dk_28 (dk_at dksX0_shutOn_0 17 rfl rfl)
theorem dX0_shutOn_18 : decode cX0_shutOn 18 = .ok (.aload_n 0, 1) := dk_42 (dk_at dksX0_shutOn_0 18 rfl rfl)
theorem dX0_shutOn_19 : decode cX0_shutOn 19 = .ok (.iload_n 3, 1) := dk_29 (dk_at dksX0_shutOn_0 19 rfl rfl)
theorem dX0_shutOn_20 : decode cX0_shutOn 20 = .ok (.invokevirtual 209, 3) := dk_182 0 209 (dk_at dksX0_shutOn_0 20 rfl rfl)
theorem dX0_shutOn_23 : decode cX0_shutOn 23 = .ok (.ifCond .eq 25, 3) := dk_153 0 25 (dk_at dksX0_shutOn_1 0 rfl rfl)
theorem dX0_shutOn_26 : decode cX0_shutOn 26 = .ok (.aload_n 0, 1) := dk_42 (dk_at dksX0_shutOn_1 3 rfl rfl)
theorem dX0_shutOn_27 : decode cX0_shutOn 27 = .ok (.getfield 21, 3) := dk_180 0 21 (dk_at dksX0_shutOn_1 4 rfl rfl)
theorem dX0_shutOn_30 : decode cX0_shutOn 30 = .ok (.getfield 74, 3) := dk_180 0 74 (dk_at dksX0_shutOn_1 7 rfl rfl)
theorem dX0_shutOn_33 : decode cX0_shutOn 33 = .ok (.iconst 3, 1) := dk_6 (dk_at dksX0_shutOn_1 10 rfl rfl)
theorem dX0_shutOn_34 : decode cX0_shutOn 34 = .ok (.iload_n 3, 1) := dk_29 (dk_at dksX0_shutOn_1 11 rfl rfl)
theorem dX0_shutOn_35 : decode cX0_shutOn 35 = .ok (.iadd, 1) := dk_96 (dk_at dksX0_shutOn_1 12 rfl rfl)
theorem dX0_shutOn_36 : decode cX0_shutOn 36 = .ok (.iaload, 1) := dk_46 (dk_at dksX0_shutOn_1 13 rfl rfl)
theorem dX0_shutOn_37 : decode cX0_shutOn 37 = .ok (.iload_n 1, 1) := dk_27 (dk_at dksX0_shutOn_1 14 rfl rfl)
theorem dX0_shutOn_38 : decode cX0_shutOn 38 = .ok (.invokestatic 66, 3) := dk_184 0 66 (dk_at dksX0_shutOn_1 15 rfl rfl)
theorem dX0_shutOn_41 : decode cX0_shutOn 41 = .ok (.ifCond .eq 7, 3) := dk_153 0 7 (dk_at dksX0_shutOn_1 18 rfl rfl)
theorem dX0_shutOn_44 : decode cX0_shutOn 44 = .ok (.iconst 1, 1) := dk_4 (dk_at dksX0_shutOn_1 21 rfl rfl)
theorem dX0_shutOn_45 : decode cX0_shutOn 45 = .ok (.goto 4, 3) := dk_167 0 4 (dk_at dksX0_shutOn_2 0 rfl rfl)
theorem dX0_shutOn_48 : decode cX0_shutOn 48 = .ok (.iconst 0, 1) := dk_3 (dk_at dksX0_shutOn_2 3 rfl rfl)
theorem dX0_shutOn_49 : decode cX0_shutOn 49 = .ok (.iadd, 1) := dk_96 (dk_at dksX0_shutOn_2 4 rfl rfl)
theorem dX0_shutOn_50 : decode cX0_shutOn 50 = .ok (.istore_n 2, 1) := dk_61 (dk_at dksX0_shutOn_2 5 rfl rfl)
theorem dX0_shutOn_51 : decode cX0_shutOn 51 = .ok (.iinc 3 1, 3) := dk_132 3 1 (dk_at dksX0_shutOn_2 6 rfl rfl)
theorem dX0_shutOn_54 : decode cX0_shutOn 54 = .ok (.goto (-50), 3) := dk_167 255 206 (dk_at dksX0_shutOn_2 9 rfl rfl)
theorem dX0_shutOn_57 : decode cX0_shutOn 57 = .ok (.iload_n 2, 1) := dk_28 (dk_at dksX0_shutOn_2 12 rfl rfl)
theorem dX0_shutOn_58 : decode cX0_shutOn 58 = .ok (.ireturn, 1) := dk_172 (dk_at dksX0_shutOn_2 13 rfl rfl)
abbrev cX0_crowded : ByteArray := prog_1_method_54_code
def yX0_crowded : MethodName := ⟨RX0, "crowded", "(Z)I"⟩
def dkwX0_crowded_1 : List UInt8 := [61, 132, 3, 1, 167, 255, 232, 27, 153, 0, 11, 42, 28, 182, 1, 52, 167, 0, 4, 28, 172]
abbrev dktX0_crowded_1 : List UInt8 := dkwX0_crowded_1 ++ []
def dkwX0_crowded_0 : List UInt8 := [3, 61, 4, 62, 29, 16, 20, 162, 0, 24, 42, 29, 182, 1, 52, 42, 28, 182, 1, 52, 164, 0, 5, 29]
abbrev dktX0_crowded_0 : List UInt8 := dkwX0_crowded_0 ++ dktX0_crowded_1
theorem dksX0_crowded_0 : cX0_crowded.data.toList.drop 0 = dktX0_crowded_0 := by decide +kernel
theorem dksX0_crowded_1 : cX0_crowded.data.toList.drop 24 = dktX0_crowded_1 := dk_seg dksX0_crowded_0 24 rfl rfl
theorem dX0_crowded_0 : decode cX0_crowded 0 = .ok (.iconst 0, 1) := dk_3 (dk_at dksX0_crowded_0 0 rfl rfl)
theorem dX0_crowded_1 : decode cX0_crowded 1 = .ok (.istore_n 2, 1) := dk_61 (dk_at dksX0_crowded_0 1 rfl rfl)
theorem dX0_crowded_2 : decode cX0_crowded 2 = .ok (.iconst 1, 1) := dk_4 (dk_at dksX0_crowded_0 2 rfl rfl)
theorem dX0_crowded_3 : decode cX0_crowded 3 = .ok (.istore_n 3, 1) := dk_62 (dk_at dksX0_crowded_0 3 rfl rfl)
theorem dX0_crowded_4 : decode cX0_crowded 4 = .ok (.iload_n 3, 1) := dk_29 (dk_at dksX0_crowded_0 4 rfl rfl)
theorem dX0_crowded_5 : decode cX0_crowded 5 = .ok (.bipush 20, 2) := dk_16 20 (dk_at dksX0_crowded_0 5 rfl rfl)
theorem dX0_crowded_7 : decode cX0_crowded 7 = .ok (.if_icmp .ge 24, 3) := dk_162 0 24 (dk_at dksX0_crowded_0 7 rfl rfl)
theorem dX0_crowded_10 : decode cX0_crowded 10 = .ok (.aload_n 0, 1) := dk_42 (dk_at dksX0_crowded_0 10 rfl rfl)
theorem dX0_crowded_11 : decode cX0_crowded 11 = .ok (.iload_n 3, 1) := dk_29 (dk_at dksX0_crowded_0 11 rfl rfl)
theorem dX0_crowded_12 : decode cX0_crowded 12 = .ok (.invokevirtual 308, 3) := dk_182 1 52 (dk_at dksX0_crowded_0 12 rfl rfl)
theorem dX0_crowded_15 : decode cX0_crowded 15 = .ok (.aload_n 0, 1) := dk_42 (dk_at dksX0_crowded_0 15 rfl rfl)
theorem dX0_crowded_16 : decode cX0_crowded 16 = .ok (.iload_n 2, 1) := dk_28 (dk_at dksX0_crowded_0 16 rfl rfl)
theorem dX0_crowded_17 : decode cX0_crowded 17 = .ok (.invokevirtual 308, 3) := dk_182 1 52 (dk_at dksX0_crowded_0 17 rfl rfl)
theorem dX0_crowded_20 : decode cX0_crowded 20 = .ok (.if_icmp .le 5, 3) := dk_164 0 5 (dk_at dksX0_crowded_0 20 rfl rfl)
theorem dX0_crowded_23 : decode cX0_crowded 23 = .ok (.iload_n 3, 1) := dk_29 (dk_at dksX0_crowded_0 23 rfl rfl)
theorem dX0_crowded_24 : decode cX0_crowded 24 = .ok (.istore_n 2, 1) := dk_61 (dk_at dksX0_crowded_1 0 rfl rfl)
theorem dX0_crowded_25 : decode cX0_crowded 25 = .ok (.iinc 3 1, 3) := dk_132 3 1 (dk_at dksX0_crowded_1 1 rfl rfl)
theorem dX0_crowded_28 : decode cX0_crowded 28 = .ok (.goto (-24), 3) := dk_167 255 232 (dk_at dksX0_crowded_1 4 rfl rfl)
theorem dX0_crowded_31 : decode cX0_crowded 31 = .ok (.iload_n 1, 1) := dk_27 (dk_at dksX0_crowded_1 7 rfl rfl)
theorem dX0_crowded_32 : decode cX0_crowded 32 = .ok (.ifCond .eq 11, 3) := dk_153 0 11 (dk_at dksX0_crowded_1 8 rfl rfl)
theorem dX0_crowded_35 : decode cX0_crowded 35 = .ok (.aload_n 0, 1) := dk_42 (dk_at dksX0_crowded_1 11 rfl rfl)
theorem dX0_crowded_36 : decode cX0_crowded 36 = .ok (.iload_n 2, 1) := dk_28 (dk_at dksX0_crowded_1 12 rfl rfl)
theorem dX0_crowded_37 : decode cX0_crowded 37 = .ok (.invokevirtual 308, 3) := dk_182 1 52 (dk_at dksX0_crowded_1 13 rfl rfl)
theorem dX0_crowded_40 : decode cX0_crowded 40 = .ok (.goto 4, 3) := dk_167 0 4 (dk_at dksX0_crowded_1 16 rfl rfl)
theorem dX0_crowded_43 : decode cX0_crowded 43 = .ok (.iload_n 2, 1) := dk_28 (dk_at dksX0_crowded_1 19 rfl rfl)
theorem dX0_crowded_44 : decode cX0_crowded 44 = .ok (.ireturn, 1) := dk_172 (dk_at dksX0_crowded_1 20 rfl rfl)
abbrev cX0_feast : ByteArray := prog_1_method_56_code
def yX0_feast : MethodName := ⟨RX0, "feast", "(Z)I"⟩
def dkwX0_feast_1 : List UInt8 := [61, 132, 3, 1, 167, 255, 232, 27, 153, 0, 11, 42, 28, 182, 1, 55, 167, 0, 4, 28, 172]
abbrev dktX0_feast_1 : List UInt8 := dkwX0_feast_1 ++ []
def dkwX0_feast_0 : List UInt8 := [3, 61, 4, 62, 29, 16, 20, 162, 0, 24, 42, 29, 182, 1, 55, 42, 28, 182, 1, 55, 164, 0, 5, 29]
abbrev dktX0_feast_0 : List UInt8 := dkwX0_feast_0 ++ dktX0_feast_1
theorem dksX0_feast_0 : cX0_feast.data.toList.drop 0 = dktX0_feast_0 := by decide +kernel
theorem dksX0_feast_1 : cX0_feast.data.toList.drop 24 = dktX0_feast_1 := dk_seg dksX0_feast_0 24 rfl rfl
theorem dX0_feast_0 : decode cX0_feast 0 = .ok (.iconst 0, 1) := dk_3 (dk_at dksX0_feast_0 0 rfl rfl)
theorem dX0_feast_1 : decode cX0_feast 1 = .ok (.istore_n 2, 1) := dk_61 (dk_at dksX0_feast_0 1 rfl rfl)
theorem dX0_feast_2 : decode cX0_feast 2 = .ok (.iconst 1, 1) := dk_4 (dk_at dksX0_feast_0 2 rfl rfl)
theorem dX0_feast_3 : decode cX0_feast 3 = .ok (.istore_n 3, 1) := dk_62 (dk_at dksX0_feast_0 3 rfl rfl)
theorem dX0_feast_4 : decode cX0_feast 4 = .ok (.iload_n 3, 1) := dk_29 (dk_at dksX0_feast_0 4 rfl rfl)
theorem dX0_feast_5 : decode cX0_feast 5 = .ok (.bipush 20, 2) := dk_16 20 (dk_at dksX0_feast_0 5 rfl rfl)
theorem dX0_feast_7 : decode cX0_feast 7 = .ok (.if_icmp .ge 24, 3) := dk_162 0 24 (dk_at dksX0_feast_0 7 rfl rfl)
theorem dX0_feast_10 : decode cX0_feast 10 = .ok (.aload_n 0, 1) := dk_42 (dk_at dksX0_feast_0 10 rfl rfl)
theorem dX0_feast_11 : decode cX0_feast 11 = .ok (.iload_n 3, 1) := dk_29 (dk_at dksX0_feast_0 11 rfl rfl)
theorem dX0_feast_12 : decode cX0_feast 12 = .ok (.invokevirtual 311, 3) := dk_182 1 55 (dk_at dksX0_feast_0 12 rfl rfl)
theorem dX0_feast_15 : decode cX0_feast 15 = .ok (.aload_n 0, 1) := dk_42 (dk_at dksX0_feast_0 15 rfl rfl)
theorem dX0_feast_16 : decode cX0_feast 16 = .ok (.iload_n 2, 1) := dk_28 (dk_at dksX0_feast_0 16 rfl rfl)
theorem dX0_feast_17 : decode cX0_feast 17 = .ok (.invokevirtual 311, 3) := dk_182 1 55 (dk_at dksX0_feast_0 17 rfl rfl)
theorem dX0_feast_20 : decode cX0_feast 20 = .ok (.if_icmp .le 5, 3) := dk_164 0 5 (dk_at dksX0_feast_0 20 rfl rfl)
theorem dX0_feast_23 : decode cX0_feast 23 = .ok (.iload_n 3, 1) := dk_29 (dk_at dksX0_feast_0 23 rfl rfl)
theorem dX0_feast_24 : decode cX0_feast 24 = .ok (.istore_n 2, 1) := dk_61 (dk_at dksX0_feast_1 0 rfl rfl)
theorem dX0_feast_25 : decode cX0_feast 25 = .ok (.iinc 3 1, 3) := dk_132 3 1 (dk_at dksX0_feast_1 1 rfl rfl)
theorem dX0_feast_28 : decode cX0_feast 28 = .ok (.goto (-24), 3) := dk_167 255 232 (dk_at dksX0_feast_1 4 rfl rfl)
theorem dX0_feast_31 : decode cX0_feast 31 = .ok (.iload_n 1, 1) := dk_27 (dk_at dksX0_feast_1 7 rfl rfl)
theorem dX0_feast_32 : decode cX0_feast 32 = .ok (.ifCond .eq 11, 3) := dk_153 0 11 (dk_at dksX0_feast_1 8 rfl rfl)
theorem dX0_feast_35 : decode cX0_feast 35 = .ok (.aload_n 0, 1) := dk_42 (dk_at dksX0_feast_1 11 rfl rfl)
theorem dX0_feast_36 : decode cX0_feast 36 = .ok (.iload_n 2, 1) := dk_28 (dk_at dksX0_feast_1 12 rfl rfl)
theorem dX0_feast_37 : decode cX0_feast 37 = .ok (.invokevirtual 311, 3) := dk_182 1 55 (dk_at dksX0_feast_1 13 rfl rfl)
theorem dX0_feast_40 : decode cX0_feast 40 = .ok (.goto 4, 3) := dk_167 0 4 (dk_at dksX0_feast_1 16 rfl rfl)
theorem dX0_feast_43 : decode cX0_feast 43 = .ok (.iload_n 2, 1) := dk_28 (dk_at dksX0_feast_1 19 rfl rfl)
theorem dX0_feast_44 : decode cX0_feast 44 = .ok (.ireturn, 1) := dk_172 (dk_at dksX0_feast_1 20 rfl rfl)
abbrev cX0_friendsOn : ByteArray := prog_1_method_55_code
def yX0_friendsOn : MethodName := ⟨RX0, "friendsOn", "(I)I"⟩
def dkwX0_friendsOn_2 : List UInt8 := [167, 0, 4, 3, 96, 61, 132, 3, 1, 167, 255, 205, 28, 172]
abbrev dktX0_friendsOn_2 : List UInt8 := dkwX0_friendsOn_2 ++ []
def dkwX0_friendsOn_1 : List UInt8 := [180, 0, 74, 29, 27, 182, 0, 122, 153, 0, 18, 42, 180, 0, 21, 180, 0, 74, 16, 17, 29, 96, 46]
abbrev dktX0_friendsOn_1 : List UInt8 := dkwX0_friendsOn_1 ++ dktX0_friendsOn_2
def dkwX0_friendsOn_0 : List UInt8 := [3, 61, 3, 62, 29, 42, 180, 0, 21, 180, 0, 59, 3, 46, 162, 0, 44, 28, 42, 42, 180, 0, 21]
abbrev dktX0_friendsOn_0 : List UInt8 := dkwX0_friendsOn_0 ++ dktX0_friendsOn_1
theorem dksX0_friendsOn_0 : cX0_friendsOn.data.toList.drop 0 = dktX0_friendsOn_0 := by decide +kernel
theorem dksX0_friendsOn_1 : cX0_friendsOn.data.toList.drop 23 = dktX0_friendsOn_1 := dk_seg dksX0_friendsOn_0 23 rfl rfl
theorem dksX0_friendsOn_2 : cX0_friendsOn.data.toList.drop 46 = dktX0_friendsOn_2 := dk_seg dksX0_friendsOn_1 23 rfl rfl
theorem dX0_friendsOn_0 : decode cX0_friendsOn 0 = .ok (.iconst 0, 1) := dk_3 (dk_at dksX0_friendsOn_0 0 rfl rfl)
theorem dX0_friendsOn_1 : decode cX0_friendsOn 1 = .ok (.istore_n 2, 1) := dk_61 (dk_at dksX0_friendsOn_0 1 rfl rfl)
theorem dX0_friendsOn_2 : decode cX0_friendsOn 2 = .ok (.iconst 0, 1) := dk_3 (dk_at dksX0_friendsOn_0 2 rfl rfl)
theorem dX0_friendsOn_3 : decode cX0_friendsOn 3 = .ok (.istore_n 3, 1) := dk_62 (dk_at dksX0_friendsOn_0 3 rfl rfl)
theorem dX0_friendsOn_4 : decode cX0_friendsOn 4 = .ok (.iload_n 3, 1) := dk_29 (dk_at dksX0_friendsOn_0 4 rfl rfl)
theorem dX0_friendsOn_5 : decode cX0_friendsOn 5 = .ok (.aload_n 0, 1) := dk_42 (dk_at dksX0_friendsOn_0 5 rfl rfl)
theorem dX0_friendsOn_6 : decode cX0_friendsOn 6 = .ok (.getfield 21, 3) := dk_180 0 21 (dk_at dksX0_friendsOn_0 6 rfl rfl)
theorem dX0_friendsOn_9 : decode cX0_friendsOn 9 = .ok (.getfield 59, 3) := dk_180 0 59 (dk_at dksX0_friendsOn_0 9 rfl rfl)
theorem dX0_friendsOn_12 : decode cX0_friendsOn 12 = .ok (.iconst 0, 1) := dk_3 (dk_at dksX0_friendsOn_0 12 rfl rfl)
theorem dX0_friendsOn_13 : decode cX0_friendsOn 13 = .ok (.iaload, 1) := dk_46 (dk_at dksX0_friendsOn_0 13 rfl rfl)
theorem dX0_friendsOn_14 : decode cX0_friendsOn 14 = .ok (.if_icmp .ge 44, 3) := dk_162 0 44 (dk_at dksX0_friendsOn_0 14 rfl rfl)
theorem dX0_friendsOn_17 : decode cX0_friendsOn 17 = .ok (.iload_n 2, 1) := dk_28 (dk_at dksX0_friendsOn_0 17 rfl rfl)
theorem dX0_friendsOn_18 : decode cX0_friendsOn 18 = .ok (.aload_n 0, 1) := dk_42 (dk_at dksX0_friendsOn_0 18 rfl rfl)
theorem dX0_friendsOn_19 : decode cX0_friendsOn 19 = .ok (.aload_n 0, 1) := dk_42 (dk_at dksX0_friendsOn_0 19 rfl rfl)
theorem dX0_friendsOn_20 : decode cX0_friendsOn 20 = .ok (.getfield 21, 3) := dk_180 0 21 (dk_at dksX0_friendsOn_0 20 rfl rfl)
theorem dX0_friendsOn_23 : decode cX0_friendsOn 23 = .ok (.getfield 74, 3) := dk_180 0 74 (dk_at dksX0_friendsOn_1 0 rfl rfl)
theorem dX0_friendsOn_26 : decode cX0_friendsOn 26 = .ok (.iload_n 3, 1) := dk_29 (dk_at dksX0_friendsOn_1 3 rfl rfl)
theorem dX0_friendsOn_27 : decode cX0_friendsOn 27 = .ok (.iload_n 1, 1) := dk_27 (dk_at dksX0_friendsOn_1 4 rfl rfl)
theorem dX0_friendsOn_28 : decode cX0_friendsOn 28 = .ok (.invokevirtual 122, 3) := dk_182 0 122 (dk_at dksX0_friendsOn_1 5 rfl rfl)
theorem dX0_friendsOn_31 : decode cX0_friendsOn 31 = .ok (.ifCond .eq 18, 3) := dk_153 0 18 (dk_at dksX0_friendsOn_1 8 rfl rfl)
theorem dX0_friendsOn_34 : decode cX0_friendsOn 34 = .ok (.aload_n 0, 1) := dk_42 (dk_at dksX0_friendsOn_1 11 rfl rfl)
theorem dX0_friendsOn_35 : decode cX0_friendsOn 35 = .ok (.getfield 21, 3) := dk_180 0 21 (dk_at dksX0_friendsOn_1 12 rfl rfl)
theorem dX0_friendsOn_38 : decode cX0_friendsOn 38 = .ok (.getfield 74, 3) := dk_180 0 74 (dk_at dksX0_friendsOn_1 15 rfl rfl)
theorem dX0_friendsOn_41 : decode cX0_friendsOn 41 = .ok (.bipush 17, 2) := dk_16 17 (dk_at dksX0_friendsOn_1 18 rfl rfl)
theorem dX0_friendsOn_43 : decode cX0_friendsOn 43 = .ok (.iload_n 3, 1) := dk_29 (dk_at dksX0_friendsOn_1 20 rfl rfl)
theorem dX0_friendsOn_44 : decode cX0_friendsOn 44 = .ok (.iadd, 1) := dk_96 (dk_at dksX0_friendsOn_1 21 rfl rfl)
theorem dX0_friendsOn_45 : decode cX0_friendsOn 45 = .ok (.iaload, 1) := dk_46 (dk_at dksX0_friendsOn_1 22 rfl rfl)
theorem dX0_friendsOn_46 : decode cX0_friendsOn 46 = .ok (.goto 4, 3) := dk_167 0 4 (dk_at dksX0_friendsOn_2 0 rfl rfl)
theorem dX0_friendsOn_49 : decode cX0_friendsOn 49 = .ok (.iconst 0, 1) := dk_3 (dk_at dksX0_friendsOn_2 3 rfl rfl)
theorem dX0_friendsOn_50 : decode cX0_friendsOn 50 = .ok (.iadd, 1) := dk_96 (dk_at dksX0_friendsOn_2 4 rfl rfl)
theorem dX0_friendsOn_51 : decode cX0_friendsOn 51 = .ok (.istore_n 2, 1) := dk_61 (dk_at dksX0_friendsOn_2 5 rfl rfl)
theorem dX0_friendsOn_52 : decode cX0_friendsOn 52 = .ok (.iinc 3 1, 3) := dk_132 3 1 (dk_at dksX0_friendsOn_2 6 rfl rfl)
theorem dX0_friendsOn_55 : decode cX0_friendsOn 55 = .ok (.goto (-51), 3) := dk_167 255 205 (dk_at dksX0_friendsOn_2 9 rfl rfl)
theorem dX0_friendsOn_58 : decode cX0_friendsOn 58 = .ok (.iload_n 2, 1) := dk_28 (dk_at dksX0_friendsOn_2 12 rfl rfl)
theorem dX0_friendsOn_59 : decode cX0_friendsOn 59 = .ok (.ireturn, 1) := dk_172 (dk_at dksX0_friendsOn_2 13 rfl rfl)
abbrev cX0_alone : ByteArray := prog_1_method_57_code
def yX0_alone : MethodName := ⟨RX0, "alone", "()I"⟩
def dkwX0_alone_4 : List UInt8 := [28, 96, 46, 126, 154, 0, 9, 4, 28, 120, 167, 0, 4, 3, 128, 60, 132, 2, 1, 167, 255, 147, 27, 172]
abbrev dktX0_alone_4 : List UInt8 := dkwX0_alone_4 ++ []
def dkwX0_alone_3 : List UInt8 := [132, 4, 1, 167, 255, 205, 27, 42, 28, 182, 0, 209, 153, 0, 25, 29, 42, 180, 0, 21, 180, 0, 74, 6]
abbrev dktX0_alone_3 : List UInt8 := dkwX0_alone_3 ++ dktX0_alone_4
def dkwX0_alone_2 : List UInt8 := [182, 0, 209, 153, 0, 18, 42, 180, 0, 21, 180, 0, 74, 6, 21, 4, 96, 46, 167, 0, 4, 3, 128, 62]
abbrev dktX0_alone_2 : List UInt8 := dkwX0_alone_2 ++ dktX0_alone_3
def dkwX0_alone_1 : List UInt8 := [42, 180, 0, 21, 180, 0, 59, 3, 46, 162, 0, 43, 29, 21, 4, 28, 159, 0, 27, 42, 21, 4]
abbrev dktX0_alone_1 : List UInt8 := dkwX0_alone_1 ++ dktX0_alone_2
def dkwX0_alone_0 : List UInt8 := [3, 60, 3, 61, 28, 42, 180, 0, 21, 180, 0, 59, 3, 46, 162, 0, 102, 3, 62, 3, 54, 4, 21, 4]
abbrev dktX0_alone_0 : List UInt8 := dkwX0_alone_0 ++ dktX0_alone_1
theorem dksX0_alone_0 : cX0_alone.data.toList.drop 0 = dktX0_alone_0 := by decide +kernel
theorem dksX0_alone_1 : cX0_alone.data.toList.drop 24 = dktX0_alone_1 := dk_seg dksX0_alone_0 24 rfl rfl
theorem dksX0_alone_2 : cX0_alone.data.toList.drop 46 = dktX0_alone_2 := dk_seg dksX0_alone_1 22 rfl rfl
theorem dksX0_alone_3 : cX0_alone.data.toList.drop 70 = dktX0_alone_3 := dk_seg dksX0_alone_2 24 rfl rfl
theorem dksX0_alone_4 : cX0_alone.data.toList.drop 94 = dktX0_alone_4 := dk_seg dksX0_alone_3 24 rfl rfl
theorem dX0_alone_0 : decode cX0_alone 0 = .ok (.iconst 0, 1) := dk_3 (dk_at dksX0_alone_0 0 rfl rfl)
theorem dX0_alone_1 : decode cX0_alone 1 = .ok (.istore_n 1, 1) := dk_60 (dk_at dksX0_alone_0 1 rfl rfl)
theorem dX0_alone_2 : decode cX0_alone 2 = .ok (.iconst 0, 1) := dk_3 (dk_at dksX0_alone_0 2 rfl rfl)
theorem dX0_alone_3 : decode cX0_alone 3 = .ok (.istore_n 2, 1) := dk_61 (dk_at dksX0_alone_0 3 rfl rfl)
theorem dX0_alone_4 : decode cX0_alone 4 = .ok (.iload_n 2, 1) := dk_28 (dk_at dksX0_alone_0 4 rfl rfl)
theorem dX0_alone_5 : decode cX0_alone 5 = .ok (.aload_n 0, 1) := dk_42 (dk_at dksX0_alone_0 5 rfl rfl)
theorem dX0_alone_6 : decode cX0_alone 6 = .ok (.getfield 21, 3) := dk_180 0 21 (dk_at dksX0_alone_0 6 rfl rfl)
theorem dX0_alone_9 : decode cX0_alone 9 = .ok (.getfield 59, 3) := dk_180 0 59 (dk_at dksX0_alone_0 9 rfl rfl)
theorem dX0_alone_12 : decode cX0_alone 12 = .ok (.iconst 0, 1) := dk_3 (dk_at dksX0_alone_0 12 rfl rfl)
theorem dX0_alone_13 : decode cX0_alone 13 = .ok (.iaload, 1) := dk_46 (dk_at dksX0_alone_0 13 rfl rfl)
theorem dX0_alone_14 : decode cX0_alone 14 = .ok (.if_icmp .ge 102, 3) := dk_162 0 102 (dk_at dksX0_alone_0 14 rfl rfl)
theorem dX0_alone_17 : decode cX0_alone 17 = .ok (.iconst 0, 1) := dk_3 (dk_at dksX0_alone_0 17 rfl rfl)
theorem dX0_alone_18 : decode cX0_alone 18 = .ok (.istore_n 3, 1) := dk_62 (dk_at dksX0_alone_0 18 rfl rfl)
theorem dX0_alone_19 : decode cX0_alone 19 = .ok (.iconst 0, 1) := dk_3 (dk_at dksX0_alone_0 19 rfl rfl)
theorem dX0_alone_20 : decode cX0_alone 20 = .ok (.istore 4, 2) := dk_54 4 (dk_at dksX0_alone_0 20 rfl rfl)
theorem dX0_alone_22 : decode cX0_alone 22 = .ok (.iload 4, 2) := dk_21 4 (dk_at dksX0_alone_0 22 rfl rfl)
theorem dX0_alone_24 : decode cX0_alone 24 = .ok (.aload_n 0, 1) := dk_42 (dk_at dksX0_alone_1 0 rfl rfl)
theorem dX0_alone_25 : decode cX0_alone 25 = .ok (.getfield 21, 3) := dk_180 0 21 (dk_at dksX0_alone_1 1 rfl rfl)
theorem dX0_alone_28 : decode cX0_alone 28 = .ok (.getfield 59, 3) := dk_180 0 59 (dk_at dksX0_alone_1 4 rfl rfl)
theorem dX0_alone_31 : decode cX0_alone 31 = .ok (.iconst 0, 1) := dk_3 (dk_at dksX0_alone_1 7 rfl rfl)
theorem dX0_alone_32 : decode cX0_alone 32 = .ok (.iaload, 1) := dk_46 (dk_at dksX0_alone_1 8 rfl rfl)
theorem dX0_alone_33 : decode cX0_alone 33 = .ok (.if_icmp .ge 43, 3) := dk_162 0 43 (dk_at dksX0_alone_1 9 rfl rfl)
theorem dX0_alone_36 : decode cX0_alone 36 = .ok (.iload_n 3, 1) := dk_29 (dk_at dksX0_alone_1 12 rfl rfl)
theorem dX0_alone_37 : decode cX0_alone 37 = .ok (.iload 4, 2) := dk_21 4 (dk_at dksX0_alone_1 13 rfl rfl)
theorem dX0_alone_39 : decode cX0_alone 39 = .ok (.iload_n 2, 1) := dk_28 (dk_at dksX0_alone_1 15 rfl rfl)
theorem dX0_alone_40 : decode cX0_alone 40 = .ok (.if_icmp .eq 27, 3) := dk_159 0 27 (dk_at dksX0_alone_1 16 rfl rfl)
theorem dX0_alone_43 : decode cX0_alone 43 = .ok (.aload_n 0, 1) := dk_42 (dk_at dksX0_alone_1 19 rfl rfl)
theorem dX0_alone_44 : decode cX0_alone 44 = .ok (.iload 4, 2) := dk_21 4 (dk_at dksX0_alone_1 20 rfl rfl)
theorem dX0_alone_46 : decode cX0_alone 46 = .ok (.invokevirtual 209, 3) := dk_182 0 209 (dk_at dksX0_alone_2 0 rfl rfl)
theorem dX0_alone_49 : decode cX0_alone 49 = .ok (.ifCond .eq 18, 3) := dk_153 0 18 (dk_at dksX0_alone_2 3 rfl rfl)
theorem dX0_alone_52 : decode cX0_alone 52 = .ok (.aload_n 0, 1) := dk_42 (dk_at dksX0_alone_2 6 rfl rfl)
theorem dX0_alone_53 : decode cX0_alone 53 = .ok (.getfield 21, 3) := dk_180 0 21 (dk_at dksX0_alone_2 7 rfl rfl)
theorem dX0_alone_56 : decode cX0_alone 56 = .ok (.getfield 74, 3) := dk_180 0 74 (dk_at dksX0_alone_2 10 rfl rfl)
theorem dX0_alone_59 : decode cX0_alone 59 = .ok (.iconst 3, 1) := dk_6 (dk_at dksX0_alone_2 13 rfl rfl)
theorem dX0_alone_60 : decode cX0_alone 60 = .ok (.iload 4, 2) := dk_21 4 (dk_at dksX0_alone_2 14 rfl rfl)
theorem dX0_alone_62 : decode cX0_alone 62 = .ok (.iadd, 1) := dk_96 (dk_at dksX0_alone_2 16 rfl rfl)
theorem dX0_alone_63 : decode cX0_alone 63 = .ok (.iaload, 1) := dk_46 (dk_at dksX0_alone_2 17 rfl rfl)
theorem dX0_alone_64 : decode cX0_alone 64 = .ok (.goto 4, 3) := dk_167 0 4 (dk_at dksX0_alone_2 18 rfl rfl)
theorem dX0_alone_67 : decode cX0_alone 67 = .ok (.iconst 0, 1) := dk_3 (dk_at dksX0_alone_2 21 rfl rfl)
theorem dX0_alone_68 : decode cX0_alone 68 = .ok (.ior, 1) := dk_128 (dk_at dksX0_alone_2 22 rfl rfl)
theorem dX0_alone_69 : decode cX0_alone 69 = .ok (.istore_n 3, 1) := dk_62 (dk_at dksX0_alone_2 23 rfl rfl)
theorem dX0_alone_70 : decode cX0_alone 70 = .ok (.iinc 4 1, 3) := dk_132 4 1 (dk_at dksX0_alone_3 0 rfl rfl)
theorem dX0_alone_73 : decode cX0_alone 73 = .ok (.goto (-51), 3) := dk_167 255 205 (dk_at dksX0_alone_3 3 rfl rfl)
theorem dX0_alone_76 : decode cX0_alone 76 = .ok (.iload_n 1, 1) := dk_27 (dk_at dksX0_alone_3 6 rfl rfl)
theorem dX0_alone_77 : decode cX0_alone 77 = .ok (.aload_n 0, 1) := dk_42 (dk_at dksX0_alone_3 7 rfl rfl)
theorem dX0_alone_78 : decode cX0_alone 78 = .ok (.iload_n 2, 1) := dk_28 (dk_at dksX0_alone_3 8 rfl rfl)
theorem dX0_alone_79 : decode cX0_alone 79 = .ok (.invokevirtual 209, 3) := dk_182 0 209 (dk_at dksX0_alone_3 9 rfl rfl)
theorem dX0_alone_82 : decode cX0_alone 82 = .ok (.ifCond .eq 25, 3) := dk_153 0 25 (dk_at dksX0_alone_3 12 rfl rfl)
theorem dX0_alone_85 : decode cX0_alone 85 = .ok (.iload_n 3, 1) := dk_29 (dk_at dksX0_alone_3 15 rfl rfl)
theorem dX0_alone_86 : decode cX0_alone 86 = .ok (.aload_n 0, 1) := dk_42 (dk_at dksX0_alone_3 16 rfl rfl)
theorem dX0_alone_87 : decode cX0_alone 87 = .ok (.getfield 21, 3) := dk_180 0 21 (dk_at dksX0_alone_3 17 rfl rfl)
theorem dX0_alone_90 : decode cX0_alone 90 = .ok (.getfield 74, 3) := dk_180 0 74 (dk_at dksX0_alone_3 20 rfl rfl)
theorem dX0_alone_93 : decode cX0_alone 93 = .ok (.iconst 3, 1) := dk_6 (dk_at dksX0_alone_3 23 rfl rfl)
theorem dX0_alone_94 : decode cX0_alone 94 = .ok (.iload_n 2, 1) := dk_28 (dk_at dksX0_alone_4 0 rfl rfl)
theorem dX0_alone_95 : decode cX0_alone 95 = .ok (.iadd, 1) := dk_96 (dk_at dksX0_alone_4 1 rfl rfl)
theorem dX0_alone_96 : decode cX0_alone 96 = .ok (.iaload, 1) := dk_46 (dk_at dksX0_alone_4 2 rfl rfl)
theorem dX0_alone_97 : decode cX0_alone 97 = .ok (.iand, 1) := dk_126 (dk_at dksX0_alone_4 3 rfl rfl)
theorem dX0_alone_98 : decode cX0_alone 98 = .ok (.ifCond .ne 9, 3) := dk_154 0 9 (dk_at dksX0_alone_4 4 rfl rfl)
theorem dX0_alone_101 : decode cX0_alone 101 = .ok (.iconst 1, 1) := dk_4 (dk_at dksX0_alone_4 7 rfl rfl)
theorem dX0_alone_102 : decode cX0_alone 102 = .ok (.iload_n 2, 1) := dk_28 (dk_at dksX0_alone_4 8 rfl rfl)
theorem dX0_alone_103 : decode cX0_alone 103 = .ok (.ishl, 1) := dk_120 (dk_at dksX0_alone_4 9 rfl rfl)
theorem dX0_alone_104 : decode cX0_alone 104 = .ok (.goto 4, 3) := dk_167 0 4 (dk_at dksX0_alone_4 10 rfl rfl)
theorem dX0_alone_107 : decode cX0_alone 107 = .ok (.iconst 0, 1) := dk_3 (dk_at dksX0_alone_4 13 rfl rfl)
theorem dX0_alone_108 : decode cX0_alone 108 = .ok (.ior, 1) := dk_128 (dk_at dksX0_alone_4 14 rfl rfl)
theorem dX0_alone_109 : decode cX0_alone 109 = .ok (.istore_n 1, 1) := dk_60 (dk_at dksX0_alone_4 15 rfl rfl)
theorem dX0_alone_110 : decode cX0_alone 110 = .ok (.iinc 2 1, 3) := dk_132 2 1 (dk_at dksX0_alone_4 16 rfl rfl)
theorem dX0_alone_113 : decode cX0_alone 113 = .ok (.goto (-109), 3) := dk_167 255 147 (dk_at dksX0_alone_4 19 rfl rfl)
theorem dX0_alone_116 : decode cX0_alone 116 = .ok (.iload_n 1, 1) := dk_27 (dk_at dksX0_alone_4 22 rfl rfl)
theorem dX0_alone_117 : decode cX0_alone 117 = .ok (.ireturn, 1) := dk_172 (dk_at dksX0_alone_4 23 rfl rfl)
abbrev cX0_nobodys : ByteArray := prog_1_method_58_code
def yX0_nobodys : MethodName := ⟨RX0, "nobodys", "()I"⟩
def dkwX0_nobodys_1 : List UInt8 := [167, 0, 4, 3, 128, 60, 132, 2, 1, 167, 255, 229, 27, 172]
abbrev dktX0_nobodys_1 : List UInt8 := dkwX0_nobodys_1 ++ []
def dkwX0_nobodys_0 : List UInt8 := [3, 60, 3, 61, 28, 16, 20, 162, 0, 27, 27, 42, 28, 182, 1, 52, 154, 0, 9, 4, 28, 120]
abbrev dktX0_nobodys_0 : List UInt8 := dkwX0_nobodys_0 ++ dktX0_nobodys_1
theorem dksX0_nobodys_0 : cX0_nobodys.data.toList.drop 0 = dktX0_nobodys_0 := by decide +kernel
theorem dksX0_nobodys_1 : cX0_nobodys.data.toList.drop 22 = dktX0_nobodys_1 := dk_seg dksX0_nobodys_0 22 rfl rfl
theorem dX0_nobodys_0 : decode cX0_nobodys 0 = .ok (.iconst 0, 1) := dk_3 (dk_at dksX0_nobodys_0 0 rfl rfl)
theorem dX0_nobodys_1 : decode cX0_nobodys 1 = .ok (.istore_n 1, 1) := dk_60 (dk_at dksX0_nobodys_0 1 rfl rfl)
theorem dX0_nobodys_2 : decode cX0_nobodys 2 = .ok (.iconst 0, 1) := dk_3 (dk_at dksX0_nobodys_0 2 rfl rfl)
theorem dX0_nobodys_3 : decode cX0_nobodys 3 = .ok (.istore_n 2, 1) := dk_61 (dk_at dksX0_nobodys_0 3 rfl rfl)
theorem dX0_nobodys_4 : decode cX0_nobodys 4 = .ok (.iload_n 2, 1) := dk_28 (dk_at dksX0_nobodys_0 4 rfl rfl)
theorem dX0_nobodys_5 : decode cX0_nobodys 5 = .ok (.bipush 20, 2) := dk_16 20 (dk_at dksX0_nobodys_0 5 rfl rfl)
theorem dX0_nobodys_7 : decode cX0_nobodys 7 = .ok (.if_icmp .ge 27, 3) := dk_162 0 27 (dk_at dksX0_nobodys_0 7 rfl rfl)
theorem dX0_nobodys_10 : decode cX0_nobodys 10 = .ok (.iload_n 1, 1) := dk_27 (dk_at dksX0_nobodys_0 10 rfl rfl)
theorem dX0_nobodys_11 : decode cX0_nobodys 11 = .ok (.aload_n 0, 1) := dk_42 (dk_at dksX0_nobodys_0 11 rfl rfl)
theorem dX0_nobodys_12 : decode cX0_nobodys 12 = .ok (.iload_n 2, 1) := dk_28 (dk_at dksX0_nobodys_0 12 rfl rfl)
theorem dX0_nobodys_13 : decode cX0_nobodys 13 = .ok (.invokevirtual 308, 3) := dk_182 1 52 (dk_at dksX0_nobodys_0 13 rfl rfl)
theorem dX0_nobodys_16 : decode cX0_nobodys 16 = .ok (.ifCond .ne 9, 3) := dk_154 0 9 (dk_at dksX0_nobodys_0 16 rfl rfl)
theorem dX0_nobodys_19 : decode cX0_nobodys 19 = .ok (.iconst 1, 1) := dk_4 (dk_at dksX0_nobodys_0 19 rfl rfl)
theorem dX0_nobodys_20 : decode cX0_nobodys 20 = .ok (.iload_n 2, 1) := dk_28 (dk_at dksX0_nobodys_0 20 rfl rfl)
theorem dX0_nobodys_21 : decode cX0_nobodys 21 = .ok (.ishl, 1) := dk_120 (dk_at dksX0_nobodys_0 21 rfl rfl)
theorem dX0_nobodys_22 : decode cX0_nobodys 22 = .ok (.goto 4, 3) := dk_167 0 4 (dk_at dksX0_nobodys_1 0 rfl rfl)
theorem dX0_nobodys_25 : decode cX0_nobodys 25 = .ok (.iconst 0, 1) := dk_3 (dk_at dksX0_nobodys_1 3 rfl rfl)
theorem dX0_nobodys_26 : decode cX0_nobodys 26 = .ok (.ior, 1) := dk_128 (dk_at dksX0_nobodys_1 4 rfl rfl)
theorem dX0_nobodys_27 : decode cX0_nobodys 27 = .ok (.istore_n 1, 1) := dk_60 (dk_at dksX0_nobodys_1 5 rfl rfl)
theorem dX0_nobodys_28 : decode cX0_nobodys 28 = .ok (.iinc 2 1, 3) := dk_132 2 1 (dk_at dksX0_nobodys_1 6 rfl rfl)
theorem dX0_nobodys_31 : decode cX0_nobodys 31 = .ok (.goto (-27), 3) := dk_167 255 229 (dk_at dksX0_nobodys_1 9 rfl rfl)
theorem dX0_nobodys_34 : decode cX0_nobodys 34 = .ok (.iload_n 1, 1) := dk_27 (dk_at dksX0_nobodys_1 12 rfl rfl)
theorem dX0_nobodys_35 : decode cX0_nobodys 35 = .ok (.ireturn, 1) := dk_172 (dk_at dksX0_nobodys_1 13 rfl rfl)
abbrev cX0_poorest : ByteArray := prog_1_method_59_code
def yX0_poorest : MethodName := ⟨RX0, "poorest", "(I)I"⟩
def dkwX0_poorest_3 : List UInt8 := [29, 61, 132, 3, 1, 167, 255, 204, 28, 172]
abbrev dktX0_poorest_3 : List UInt8 := dkwX0_poorest_3 ++ []
def dkwX0_poorest_2 : List UInt8 := [159, 0, 24, 42, 180, 0, 43, 16, 10, 29, 96, 46, 42, 180, 0, 43, 16, 10, 28, 96, 46, 162, 0, 5]
abbrev dktX0_poorest_2 : List UInt8 := dkwX0_poorest_2 ++ dktX0_poorest_3
def dkwX0_poorest_1 : List UInt8 := [62, 29, 42, 180, 0, 21, 180, 0, 59, 3, 46, 162, 0, 45, 42, 29, 182, 0, 209, 153, 0, 31, 28, 2]
abbrev dktX0_poorest_1 : List UInt8 := dkwX0_poorest_1 ++ dktX0_poorest_2
def dkwX0_poorest_0 : List UInt8 := [27, 4, 16, 60, 184, 0, 62, 154, 0, 5, 2, 172, 42, 42, 182, 0, 192, 27, 182, 1, 48, 2, 61, 3]
abbrev dktX0_poorest_0 : List UInt8 := dkwX0_poorest_0 ++ dktX0_poorest_1
theorem dksX0_poorest_0 : cX0_poorest.data.toList.drop 0 = dktX0_poorest_0 := by decide +kernel
theorem dksX0_poorest_1 : cX0_poorest.data.toList.drop 24 = dktX0_poorest_1 := dk_seg dksX0_poorest_0 24 rfl rfl
theorem dksX0_poorest_2 : cX0_poorest.data.toList.drop 48 = dktX0_poorest_2 := dk_seg dksX0_poorest_1 24 rfl rfl
theorem dksX0_poorest_3 : cX0_poorest.data.toList.drop 72 = dktX0_poorest_3 := dk_seg dksX0_poorest_2 24 rfl rfl
theorem dX0_poorest_0 : decode cX0_poorest 0 = .ok (.iload_n 1, 1) := dk_27 (dk_at dksX0_poorest_0 0 rfl rfl)
theorem dX0_poorest_1 : decode cX0_poorest 1 = .ok (.iconst 1, 1) := dk_4 (dk_at dksX0_poorest_0 1 rfl rfl)
theorem dX0_poorest_2 : decode cX0_poorest 2 = .ok (.bipush 60, 2) := dk_16 60 (dk_at dksX0_poorest_0 2 rfl rfl)
theorem dX0_poorest_4 : decode cX0_poorest 4 = .ok (.invokestatic 62, 3) := dk_184 0 62 (dk_at dksX0_poorest_0 4 rfl rfl)
theorem dX0_poorest_7 : decode cX0_poorest 7 = .ok (.ifCond .ne 5, 3) := dk_154 0 5 (dk_at dksX0_poorest_0 7 rfl rfl)
theorem dX0_poorest_10 : decode cX0_poorest 10 = .ok (.iconst (-1), 1) := dk_2 (dk_at dksX0_poorest_0 10 rfl rfl)
theorem dX0_poorest_11 : decode cX0_poorest 11 = .ok (.ireturn, 1) := dk_172 (dk_at dksX0_poorest_0 11 rfl rfl)
theorem dX0_poorest_12 : decode cX0_poorest 12 = .ok (.aload_n 0, 1) := dk_42 (dk_at dksX0_poorest_0 12 rfl rfl)
theorem dX0_poorest_13 : decode cX0_poorest 13 = .ok (.aload_n 0, 1) := dk_42 (dk_at dksX0_poorest_0 13 rfl rfl)
theorem dX0_poorest_14 : decode cX0_poorest 14 = .ok (.invokevirtual 192, 3) := dk_182 0 192 (dk_at dksX0_poorest_0 14 rfl rfl)
theorem dX0_poorest_17 : decode cX0_poorest 17 = .ok (.iload_n 1, 1) := dk_27 (dk_at dksX0_poorest_0 17 rfl rfl)
theorem dX0_poorest_18 : decode cX0_poorest 18 = .ok (.invokevirtual 304, 3) := dk_182 1 48 (dk_at dksX0_poorest_0 18 rfl rfl)
theorem dX0_poorest_21 : decode cX0_poorest 21 = .ok (.iconst (-1), 1) := dk_2 (dk_at dksX0_poorest_0 21 rfl rfl)
theorem dX0_poorest_22 : decode cX0_poorest 22 = .ok (.istore_n 2, 1) := dk_61 (dk_at dksX0_poorest_0 22 rfl rfl)
theorem dX0_poorest_23 : decode cX0_poorest 23 = .ok (.iconst 0, 1) := dk_3 (dk_at dksX0_poorest_0 23 rfl rfl)
theorem dX0_poorest_24 : decode cX0_poorest 24 = .ok (.istore_n 3, 1) := dk_62 (dk_at dksX0_poorest_1 0 rfl rfl)
theorem dX0_poorest_25 : decode cX0_poorest 25 = .ok (.iload_n 3, 1) := dk_29 (dk_at dksX0_poorest_1 1 rfl rfl)
theorem dX0_poorest_26 : decode cX0_poorest 26 = .ok (.aload_n 0, 1) := dk_42 (dk_at dksX0_poorest_1 2 rfl rfl)
theorem dX0_poorest_27 : decode cX0_poorest 27 = .ok (.getfield 21, 3) := dk_180 0 21 (dk_at dksX0_poorest_1 3 rfl rfl)
theorem dX0_poorest_30 : decode cX0_poorest 30 = .ok (.getfield 59, 3) := dk_180 0 59 (dk_at dksX0_poorest_1 6 rfl rfl)
theorem dX0_poorest_33 : decode cX0_poorest 33 = .ok (.iconst 0, 1) := dk_3 (dk_at dksX0_poorest_1 9 rfl rfl)
theorem dX0_poorest_34 : decode cX0_poorest 34 = .ok (.iaload, 1) := dk_46 (dk_at dksX0_poorest_1 10 rfl rfl)
theorem dX0_poorest_35 : decode cX0_poorest 35 = .ok (.if_icmp .ge 45, 3) := dk_162 0 45 (dk_at dksX0_poorest_1 11 rfl rfl)
theorem dX0_poorest_38 : decode cX0_poorest 38 = .ok (.aload_n 0, 1) := dk_42 (dk_at dksX0_poorest_1 14 rfl rfl)
theorem dX0_poorest_39 : decode cX0_poorest 39 = .ok (.iload_n 3, 1) := dk_29 (dk_at dksX0_poorest_1 15 rfl rfl)
theorem dX0_poorest_40 : decode cX0_poorest 40 = .ok (.invokevirtual 209, 3) := dk_182 0 209 (dk_at dksX0_poorest_1 16 rfl rfl)
theorem dX0_poorest_43 : decode cX0_poorest 43 = .ok (.ifCond .eq 31, 3) := dk_153 0 31 (dk_at dksX0_poorest_1 19 rfl rfl)
theorem dX0_poorest_46 : decode cX0_poorest 46 = .ok (.iload_n 2, 1) := dk_28 (dk_at dksX0_poorest_1 22 rfl rfl)
theorem dX0_poorest_47 : decode cX0_poorest 47 = .ok (.iconst (-1), 1) := dk_2 (dk_at dksX0_poorest_1 23 rfl rfl)
theorem dX0_poorest_48 : decode cX0_poorest 48 = .ok (.if_icmp .eq 24, 3) := dk_159 0 24 (dk_at dksX0_poorest_2 0 rfl rfl)
theorem dX0_poorest_51 : decode cX0_poorest 51 = .ok (.aload_n 0, 1) := dk_42 (dk_at dksX0_poorest_2 3 rfl rfl)
theorem dX0_poorest_52 : decode cX0_poorest 52 = .ok (.getfield 43, 3) := dk_180 0 43 (dk_at dksX0_poorest_2 4 rfl rfl)
theorem dX0_poorest_55 : decode cX0_poorest 55 = .ok (.bipush 10, 2) := dk_16 10 (dk_at dksX0_poorest_2 7 rfl rfl)
theorem dX0_poorest_57 : decode cX0_poorest 57 = .ok (.iload_n 3, 1) := dk_29 (dk_at dksX0_poorest_2 9 rfl rfl)
theorem dX0_poorest_58 : decode cX0_poorest 58 = .ok (.iadd, 1) := dk_96 (dk_at dksX0_poorest_2 10 rfl rfl)
theorem dX0_poorest_59 : decode cX0_poorest 59 = .ok (.iaload, 1) := dk_46 (dk_at dksX0_poorest_2 11 rfl rfl)
theorem dX0_poorest_60 : decode cX0_poorest 60 = .ok (.aload_n 0, 1) := dk_42 (dk_at dksX0_poorest_2 12 rfl rfl)
theorem dX0_poorest_61 : decode cX0_poorest 61 = .ok (.getfield 43, 3) := dk_180 0 43 (dk_at dksX0_poorest_2 13 rfl rfl)
theorem dX0_poorest_64 : decode cX0_poorest 64 = .ok (.bipush 10, 2) := dk_16 10 (dk_at dksX0_poorest_2 16 rfl rfl)
theorem dX0_poorest_66 : decode cX0_poorest 66 = .ok (.iload_n 2, 1) := dk_28 (dk_at dksX0_poorest_2 18 rfl rfl)
theorem dX0_poorest_67 : decode cX0_poorest 67 = .ok (.iadd, 1) := dk_96 (dk_at dksX0_poorest_2 19 rfl rfl)
theorem dX0_poorest_68 : decode cX0_poorest 68 = .ok (.iaload, 1) := dk_46 (dk_at dksX0_poorest_2 20 rfl rfl)
theorem dX0_poorest_69 : decode cX0_poorest 69 = .ok (.if_icmp .ge 5, 3) := dk_162 0 5 (dk_at dksX0_poorest_2 21 rfl rfl)
theorem dX0_poorest_72 : decode cX0_poorest 72 = .ok (.iload_n 3, 1) := dk_29 (dk_at dksX0_poorest_3 0 rfl rfl)
theorem dX0_poorest_73 : decode cX0_poorest 73 = .ok (.istore_n 2, 1) := dk_61 (dk_at dksX0_poorest_3 1 rfl rfl)
theorem dX0_poorest_74 : decode cX0_poorest 74 = .ok (.iinc 3 1, 3) := dk_132 3 1 (dk_at dksX0_poorest_3 2 rfl rfl)
theorem dX0_poorest_77 : decode cX0_poorest 77 = .ok (.goto (-52), 3) := dk_167 255 204 (dk_at dksX0_poorest_3 5 rfl rfl)
theorem dX0_poorest_80 : decode cX0_poorest 80 = .ok (.iload_n 2, 1) := dk_28 (dk_at dksX0_poorest_3 8 rfl rfl)
theorem dX0_poorest_81 : decode cX0_poorest 81 = .ok (.ireturn, 1) := dk_172 (dk_at dksX0_poorest_3 9 rfl rfl)
abbrev cX0_seen : ByteArray := prog_1_method_60_code
def yX0_seen : MethodName := ⟨RX0, "seen", "(IIZ)I"⟩
def dkwX0_seen_3 : List UInt8 := [42, 180, 0, 21, 42, 180, 0, 21, 180, 1, 61, 7, 25, 4, 182, 1, 64, 172]
abbrev dktX0_seen_3 : List UInt8 := dkwX0_seen_3 ++ []
def dkwX0_seen_2 : List UInt8 := [188, 10, 89, 3, 27, 79, 89, 4, 28, 79, 89, 5, 29, 153, 0, 7, 4, 167, 0, 4, 3, 79, 58, 4]
abbrev dktX0_seen_2 : List UInt8 := dkwX0_seen_2 ++ dktX0_seen_3
def dkwX0_seen_1 : List UInt8 := [184, 0, 227, 153, 0, 17, 42, 180, 0, 21, 180, 0, 59, 7, 46, 16, 8, 160, 0, 6, 16, 254, 172, 6]
abbrev dktX0_seen_1 : List UInt8 := dkwX0_seen_1 ++ dktX0_seen_2
def dkwX0_seen_0 : List UInt8 := [27, 2, 160, 0, 12, 42, 180, 0, 21, 7, 182, 1, 58, 172, 42, 27, 182, 0, 70, 153, 0, 24, 28]
abbrev dktX0_seen_0 : List UInt8 := dkwX0_seen_0 ++ dktX0_seen_1
theorem dksX0_seen_0 : cX0_seen.data.toList.drop 0 = dktX0_seen_0 := by decide +kernel
theorem dksX0_seen_1 : cX0_seen.data.toList.drop 23 = dktX0_seen_1 := dk_seg dksX0_seen_0 23 rfl rfl
theorem dksX0_seen_2 : cX0_seen.data.toList.drop 47 = dktX0_seen_2 := dk_seg dksX0_seen_1 24 rfl rfl
theorem dksX0_seen_3 : cX0_seen.data.toList.drop 71 = dktX0_seen_3 := dk_seg dksX0_seen_2 24 rfl rfl
theorem dX0_seen_0 : decode cX0_seen 0 = .ok (.iload_n 1, 1) := dk_27 (dk_at dksX0_seen_0 0 rfl rfl)
theorem dX0_seen_1 : decode cX0_seen 1 = .ok (.iconst (-1), 1) := dk_2 (dk_at dksX0_seen_0 1 rfl rfl)
theorem dX0_seen_2 : decode cX0_seen 2 = .ok (.if_icmp .ne 12, 3) := dk_160 0 12 (dk_at dksX0_seen_0 2 rfl rfl)
theorem dX0_seen_5 : decode cX0_seen 5 = .ok (.aload_n 0, 1) := dk_42 (dk_at dksX0_seen_0 5 rfl rfl)
theorem dX0_seen_6 : decode cX0_seen 6 = .ok (.getfield 21, 3) := dk_180 0 21 (dk_at dksX0_seen_0 6 rfl rfl)
theorem dX0_seen_9 : decode cX0_seen 9 = .ok (.iconst 4, 1) := dk_7 (dk_at dksX0_seen_0 9 rfl rfl)
theorem dX0_seen_10 : decode cX0_seen 10 = .ok (.invokevirtual 314, 3) := dk_182 1 58 (dk_at dksX0_seen_0 10 rfl rfl)
theorem dX0_seen_13 : decode cX0_seen 13 = .ok (.ireturn, 1) := dk_172 (dk_at dksX0_seen_0 13 rfl rfl)
theorem dX0_seen_14 : decode cX0_seen 14 = .ok (.aload_n 0, 1) := dk_42 (dk_at dksX0_seen_0 14 rfl rfl)
theorem dX0_seen_15 : decode cX0_seen 15 = .ok (.iload_n 1, 1) := dk_27 (dk_at dksX0_seen_0 15 rfl rfl)
theorem dX0_seen_16 : decode cX0_seen 16 = .ok (.invokevirtual 70, 3) := dk_182 0 70 (dk_at dksX0_seen_0 16 rfl rfl)
theorem dX0_seen_19 : decode cX0_seen 19 = .ok (.ifCond .eq 24, 3) := dk_153 0 24 (dk_at dksX0_seen_0 19 rfl rfl)
theorem dX0_seen_22 : decode cX0_seen 22 = .ok (.iload_n 2, 1) := dk_28 (dk_at dksX0_seen_0 22 rfl rfl)
theorem dX0_seen_23 : decode cX0_seen 23 = .ok (.invokestatic 227, 3) := dk_184 0 227 (dk_at dksX0_seen_1 0 rfl rfl)
theorem dX0_seen_26 : decode cX0_seen 26 = .ok (.ifCond .eq 17, 3) := dk_153 0 17 (dk_at dksX0_seen_1 3 rfl rfl)
theorem dX0_seen_29 : decode cX0_seen 29 = .ok (.aload_n 0, 1) := dk_42 (dk_at dksX0_seen_1 6 rfl rfl)
theorem dX0_seen_30 : decode cX0_seen 30 = .ok (.getfield 21, 3) := dk_180 0 21 (dk_at dksX0_seen_1 7 rfl rfl)
theorem dX0_seen_33 : decode cX0_seen 33 = .ok (.getfield 59, 3) := dk_180 0 59 (dk_at dksX0_seen_1 10 rfl rfl)
theorem dX0_seen_36 : decode cX0_seen 36 = .ok (.iconst 4, 1) := dk_7 (dk_at dksX0_seen_1 13 rfl rfl)
theorem dX0_seen_37 : decode cX0_seen 37 = .ok (.iaload, 1) := dk_46 (dk_at dksX0_seen_1 14 rfl rfl)
theorem dX0_seen_38 : decode cX0_seen 38 = .ok (.bipush 8, 2) := dk_16 8 (dk_at dksX0_seen_1 15 rfl rfl)
theorem dX0_seen_40 : decode cX0_seen 40 = .ok (.if_icmp .ne 6, 3) := dk_160 0 6 (dk_at dksX0_seen_1 17 rfl rfl)
theorem dX0_seen_43 : decode cX0_seen 43 = .ok (.bipush (-2), 2) := dk_16 254 (dk_at dksX0_seen_1 20 rfl rfl)
theorem dX0_seen_45 : decode cX0_seen 45 = .ok (.ireturn, 1) := dk_172 (dk_at dksX0_seen_1 22 rfl rfl)
theorem dX0_seen_46 : decode cX0_seen 46 = .ok (.iconst 3, 1) := dk_6 (dk_at dksX0_seen_1 23 rfl rfl)
theorem dX0_seen_47 : decode cX0_seen 47 = .ok (.newarray .int, 2) := dk_188_10 (dk_at dksX0_seen_2 0 rfl rfl)
theorem dX0_seen_49 : decode cX0_seen 49 = .ok (.dup, 1) := dk_89 (dk_at dksX0_seen_2 2 rfl rfl)
theorem dX0_seen_50 : decode cX0_seen 50 = .ok (.iconst 0, 1) := dk_3 (dk_at dksX0_seen_2 3 rfl rfl)
theorem dX0_seen_51 : decode cX0_seen 51 = .ok (.iload_n 1, 1) := dk_27 (dk_at dksX0_seen_2 4 rfl rfl)
theorem dX0_seen_52 : decode cX0_seen 52 = .ok (.iastore, 1) := dk_79 (dk_at dksX0_seen_2 5 rfl rfl)
theorem dX0_seen_53 : decode cX0_seen 53 = .ok (.dup, 1) := dk_89 (dk_at dksX0_seen_2 6 rfl rfl)
theorem dX0_seen_54 : decode cX0_seen 54 = .ok (.iconst 1, 1) := dk_4 (dk_at dksX0_seen_2 7 rfl rfl)
theorem dX0_seen_55 : decode cX0_seen 55 = .ok (.iload_n 2, 1) := dk_28 (dk_at dksX0_seen_2 8 rfl rfl)
theorem dX0_seen_56 : decode cX0_seen 56 = .ok (.iastore, 1) := dk_79 (dk_at dksX0_seen_2 9 rfl rfl)
theorem dX0_seen_57 : decode cX0_seen 57 = .ok (.dup, 1) := dk_89 (dk_at dksX0_seen_2 10 rfl rfl)
theorem dX0_seen_58 : decode cX0_seen 58 = .ok (.iconst 2, 1) := dk_5 (dk_at dksX0_seen_2 11 rfl rfl)
theorem dX0_seen_59 : decode cX0_seen 59 = .ok (.iload_n 3, 1) := dk_29 (dk_at dksX0_seen_2 12 rfl rfl)
theorem dX0_seen_60 : decode cX0_seen 60 = .ok (.ifCond .eq 7, 3) := dk_153 0 7 (dk_at dksX0_seen_2 13 rfl rfl)
theorem dX0_seen_63 : decode cX0_seen 63 = .ok (.iconst 1, 1) := dk_4 (dk_at dksX0_seen_2 16 rfl rfl)
theorem dX0_seen_64 : decode cX0_seen 64 = .ok (.goto 4, 3) := dk_167 0 4 (dk_at dksX0_seen_2 17 rfl rfl)
theorem dX0_seen_67 : decode cX0_seen 67 = .ok (.iconst 0, 1) := dk_3 (dk_at dksX0_seen_2 20 rfl rfl)
theorem dX0_seen_68 : decode cX0_seen 68 = .ok (.iastore, 1) := dk_79 (dk_at dksX0_seen_2 21 rfl rfl)
theorem dX0_seen_69 : decode cX0_seen 69 = .ok (.astore 4, 2) := dk_58 4 (dk_at dksX0_seen_2 22 rfl rfl)
theorem dX0_seen_71 : decode cX0_seen 71 = .ok (.aload_n 0, 1) := dk_42 (dk_at dksX0_seen_3 0 rfl rfl)
theorem dX0_seen_72 : decode cX0_seen 72 = .ok (.getfield 21, 3) := dk_180 0 21 (dk_at dksX0_seen_3 1 rfl rfl)
theorem dX0_seen_75 : decode cX0_seen 75 = .ok (.aload_n 0, 1) := dk_42 (dk_at dksX0_seen_3 4 rfl rfl)
theorem dX0_seen_76 : decode cX0_seen 76 = .ok (.getfield 21, 3) := dk_180 0 21 (dk_at dksX0_seen_3 5 rfl rfl)
theorem dX0_seen_79 : decode cX0_seen 79 = .ok (.getfield 317, 3) := dk_180 1 61 (dk_at dksX0_seen_3 8 rfl rfl)
theorem dX0_seen_82 : decode cX0_seen 82 = .ok (.iconst 4, 1) := dk_7 (dk_at dksX0_seen_3 11 rfl rfl)
theorem dX0_seen_83 : decode cX0_seen 83 = .ok (.aload 4, 2) := dk_25 4 (dk_at dksX0_seen_3 12 rfl rfl)
theorem dX0_seen_85 : decode cX0_seen 85 = .ok (.invokevirtual 320, 3) := dk_182 1 64 (dk_at dksX0_seen_3 14 rfl rfl)
theorem dX0_seen_88 : decode cX0_seen 88 = .ok (.ireturn, 1) := dk_172 (dk_at dksX0_seen_3 17 rfl rfl)
abbrev cX0_sets : ByteArray := prog_1_method_64_code
def yX0_sets : MethodName := ⟨RX0, "sets", "(IIZ)I"⟩
def dkwX0_sets_3 : List UInt8 := [160, 0, 10, 4, 21, 6, 120, 167, 0, 4, 3, 128, 54, 5, 132, 6, 1, 167, 255, 213, 21, 5, 172]
abbrev dktX0_sets_3 : List UInt8 := dkwX0_sets_3 ++ []
def dkwX0_sets_2 : List UInt8 := [162, 0, 42, 21, 4, 158, 0, 37, 21, 5, 42, 27, 28, 4, 21, 6, 120, 182, 1, 74, 21, 4]
abbrev dktX0_sets_2 : List UInt8 := dkwX0_sets_2 ++ dktX0_sets_3
def dkwX0_sets_1 : List UInt8 := [182, 1, 74, 54, 4, 29, 154, 0, 6, 21, 4, 172, 3, 54, 5, 3, 54, 6, 21, 6, 16, 20]
abbrev dktX0_sets_1 : List UInt8 := dkwX0_sets_1 ++ dktX0_sets_2
def dkwX0_sets_0 : List UInt8 := [42, 27, 182, 0, 70, 153, 0, 12, 28, 4, 6, 184, 0, 62, 154, 0, 5, 2, 172, 42, 27, 28, 3]
abbrev dktX0_sets_0 : List UInt8 := dkwX0_sets_0 ++ dktX0_sets_1
theorem dksX0_sets_0 : cX0_sets.data.toList.drop 0 = dktX0_sets_0 := by decide +kernel
theorem dksX0_sets_1 : cX0_sets.data.toList.drop 23 = dktX0_sets_1 := dk_seg dksX0_sets_0 23 rfl rfl
theorem dksX0_sets_2 : cX0_sets.data.toList.drop 45 = dktX0_sets_2 := dk_seg dksX0_sets_1 22 rfl rfl
theorem dksX0_sets_3 : cX0_sets.data.toList.drop 67 = dktX0_sets_3 := dk_seg dksX0_sets_2 22 rfl rfl
theorem dX0_sets_0 : decode cX0_sets 0 = .ok (.aload_n 0, 1) := dk_42 (dk_at dksX0_sets_0 0 rfl rfl)
theorem dX0_sets_1 : decode cX0_sets 1 = .ok (.iload_n 1, 1) := dk_27 (dk_at dksX0_sets_0 1 rfl rfl)
theorem dX0_sets_2 : decode cX0_sets 2 = .ok (.invokevirtual 70, 3) := dk_182 0 70 (dk_at dksX0_sets_0 2 rfl rfl)
theorem dX0_sets_5 : decode cX0_sets 5 = .ok (.ifCond .eq 12, 3) := dk_153 0 12 (dk_at dksX0_sets_0 5 rfl rfl)
theorem dX0_sets_8 : decode cX0_sets 8 = .ok (.iload_n 2, 1) := dk_28 (dk_at dksX0_sets_0 8 rfl rfl)
theorem dX0_sets_9 : decode cX0_sets 9 = .ok (.iconst 1, 1) := dk_4 (dk_at dksX0_sets_0 9 rfl rfl)
theorem dX0_sets_10 : decode cX0_sets 10 = .ok (.iconst 3, 1) := dk_6 (dk_at dksX0_sets_0 10 rfl rfl)
theorem dX0_sets_11 : decode cX0_sets 11 = .ok (.invokestatic 62, 3) := dk_184 0 62 (dk_at dksX0_sets_0 11 rfl rfl)
theorem dX0_sets_14 : decode cX0_sets 14 = .ok (.ifCond .ne 5, 3) := dk_154 0 5 (dk_at dksX0_sets_0 14 rfl rfl)
theorem dX0_sets_17 : decode cX0_sets 17 = .ok (.iconst (-1), 1) := dk_2 (dk_at dksX0_sets_0 17 rfl rfl)
theorem dX0_sets_18 : decode cX0_sets 18 = .ok (.ireturn, 1) := dk_172 (dk_at dksX0_sets_0 18 rfl rfl)
theorem dX0_sets_19 : decode cX0_sets 19 = .ok (.aload_n 0, 1) := dk_42 (dk_at dksX0_sets_0 19 rfl rfl)
theorem dX0_sets_20 : decode cX0_sets 20 = .ok (.iload_n 1, 1) := dk_27 (dk_at dksX0_sets_0 20 rfl rfl)
theorem dX0_sets_21 : decode cX0_sets 21 = .ok (.iload_n 2, 1) := dk_28 (dk_at dksX0_sets_0 21 rfl rfl)
theorem dX0_sets_22 : decode cX0_sets 22 = .ok (.iconst 0, 1) := dk_3 (dk_at dksX0_sets_0 22 rfl rfl)
theorem dX0_sets_23 : decode cX0_sets 23 = .ok (.invokevirtual 330, 3) := dk_182 1 74 (dk_at dksX0_sets_1 0 rfl rfl)
theorem dX0_sets_26 : decode cX0_sets 26 = .ok (.istore 4, 2) := dk_54 4 (dk_at dksX0_sets_1 3 rfl rfl)
theorem dX0_sets_28 : decode cX0_sets 28 = .ok (.iload_n 3, 1) := dk_29 (dk_at dksX0_sets_1 5 rfl rfl)
theorem dX0_sets_29 : decode cX0_sets 29 = .ok (.ifCond .ne 6, 3) := dk_154 0 6 (dk_at dksX0_sets_1 6 rfl rfl)
theorem dX0_sets_32 : decode cX0_sets 32 = .ok (.iload 4, 2) := dk_21 4 (dk_at dksX0_sets_1 9 rfl rfl)
theorem dX0_sets_34 : decode cX0_sets 34 = .ok (.ireturn, 1) := dk_172 (dk_at dksX0_sets_1 11 rfl rfl)
theorem dX0_sets_35 : decode cX0_sets 35 = .ok (.iconst 0, 1) := dk_3 (dk_at dksX0_sets_1 12 rfl rfl)
theorem dX0_sets_36 : decode cX0_sets 36 = .ok (.istore 5, 2) := dk_54 5 (dk_at dksX0_sets_1 13 rfl rfl)
theorem dX0_sets_38 : decode cX0_sets 38 = .ok (.iconst 0, 1) := dk_3 (dk_at dksX0_sets_1 15 rfl rfl)
theorem dX0_sets_39 : decode cX0_sets 39 = .ok (.istore 6, 2) := dk_54 6 (dk_at dksX0_sets_1 16 rfl rfl)
theorem dX0_sets_41 : decode cX0_sets 41 = .ok (.iload 6, 2) := dk_21 6 (dk_at dksX0_sets_1 18 rfl rfl)
theorem dX0_sets_43 : decode cX0_sets 43 = .ok (.bipush 20, 2) := dk_16 20 (dk_at dksX0_sets_1 20 rfl rfl)
theorem dX0_sets_45 : decode cX0_sets 45 = .ok (.if_icmp .ge 42, 3) := dk_162 0 42 (dk_at dksX0_sets_2 0 rfl rfl)
theorem dX0_sets_48 : decode cX0_sets 48 = .ok (.iload 4, 2) := dk_21 4 (dk_at dksX0_sets_2 3 rfl rfl)
theorem dX0_sets_50 : decode cX0_sets 50 = .ok (.ifCond .le 37, 3) := dk_158 0 37 (dk_at dksX0_sets_2 5 rfl rfl)
theorem dX0_sets_53 : decode cX0_sets 53 = .ok (.iload 5, 2) := dk_21 5 (dk_at dksX0_sets_2 8 rfl rfl)
theorem dX0_sets_55 : decode cX0_sets 55 = .ok (.aload_n 0, 1) := dk_42 (dk_at dksX0_sets_2 10 rfl rfl)
theorem dX0_sets_56 : decode cX0_sets 56 = .ok (.iload_n 1, 1) := dk_27 (dk_at dksX0_sets_2 11 rfl rfl)
theorem dX0_sets_57 : decode cX0_sets 57 = .ok (.iload_n 2, 1) := dk_28 (dk_at dksX0_sets_2 12 rfl rfl)
theorem dX0_sets_58 : decode cX0_sets 58 = .ok (.iconst 1, 1) := dk_4 (dk_at dksX0_sets_2 13 rfl rfl)
theorem dX0_sets_59 : decode cX0_sets 59 = .ok (.iload 6, 2) := dk_21 6 (dk_at dksX0_sets_2 14 rfl rfl)
theorem dX0_sets_61 : decode cX0_sets 61 = .ok (.ishl, 1) := dk_120 (dk_at dksX0_sets_2 16 rfl rfl)
theorem dX0_sets_62 : decode cX0_sets 62 = .ok (.invokevirtual 330, 3) := dk_182 1 74 (dk_at dksX0_sets_2 17 rfl rfl)
theorem dX0_sets_65 : decode cX0_sets 65 = .ok (.iload 4, 2) := dk_21 4 (dk_at dksX0_sets_2 20 rfl rfl)
theorem dX0_sets_67 : decode cX0_sets 67 = .ok (.if_icmp .ne 10, 3) := dk_160 0 10 (dk_at dksX0_sets_3 0 rfl rfl)
theorem dX0_sets_70 : decode cX0_sets 70 = .ok (.iconst 1, 1) := dk_4 (dk_at dksX0_sets_3 3 rfl rfl)
theorem dX0_sets_71 : decode cX0_sets 71 = .ok (.iload 6, 2) := dk_21 6 (dk_at dksX0_sets_3 4 rfl rfl)
theorem dX0_sets_73 : decode cX0_sets 73 = .ok (.ishl, 1) := dk_120 (dk_at dksX0_sets_3 6 rfl rfl)
theorem dX0_sets_74 : decode cX0_sets 74 = .ok (.goto 4, 3) := dk_167 0 4 (dk_at dksX0_sets_3 7 rfl rfl)
theorem dX0_sets_77 : decode cX0_sets 77 = .ok (.iconst 0, 1) := dk_3 (dk_at dksX0_sets_3 10 rfl rfl)
theorem dX0_sets_78 : decode cX0_sets 78 = .ok (.ior, 1) := dk_128 (dk_at dksX0_sets_3 11 rfl rfl)
theorem dX0_sets_79 : decode cX0_sets 79 = .ok (.istore 5, 2) := dk_54 5 (dk_at dksX0_sets_3 12 rfl rfl)
theorem dX0_sets_81 : decode cX0_sets 81 = .ok (.iinc 6 1, 3) := dk_132 6 1 (dk_at dksX0_sets_3 14 rfl rfl)
theorem dX0_sets_84 : decode cX0_sets 84 = .ok (.goto (-43), 3) := dk_167 255 213 (dk_at dksX0_sets_3 17 rfl rfl)
theorem dX0_sets_87 : decode cX0_sets 87 = .ok (.iload 5, 2) := dk_21 5 (dk_at dksX0_sets_3 20 rfl rfl)
theorem dX0_sets_89 : decode cX0_sets 89 = .ok (.ireturn, 1) := dk_172 (dk_at dksX0_sets_3 22 rfl rfl)
abbrev cX0_setsWith : ByteArray := prog_1_method_63_code
def yX0_setsWith : MethodName := ⟨RX0, "setsWith", "(III)I"⟩
def dkwX0_setsWith_2 : List UInt8 := [184, 1, 68, 172]
abbrev dktX0_setsWith_2 : List UInt8 := dkwX0_setsWith_2 ++ []
def dkwX0_setsWith_1 : List UInt8 := [153, 0, 5, 3, 172, 16, 20, 21, 4, 21, 5, 128, 184, 0, 126, 100, 28, 21, 4, 184, 0, 126, 100]
abbrev dktX0_setsWith_1 : List UInt8 := dkwX0_setsWith_1 ++ dktX0_setsWith_2
def dkwX0_setsWith_0 : List UInt8 := [42, 27, 4, 182, 1, 71, 29, 128, 54, 4, 42, 27, 3, 182, 1, 71, 54, 5, 21, 4, 21, 5, 126]
abbrev dktX0_setsWith_0 : List UInt8 := dkwX0_setsWith_0 ++ dktX0_setsWith_1
theorem dksX0_setsWith_0 : cX0_setsWith.data.toList.drop 0 = dktX0_setsWith_0 := by decide +kernel
theorem dksX0_setsWith_1 : cX0_setsWith.data.toList.drop 23 = dktX0_setsWith_1 := dk_seg dksX0_setsWith_0 23 rfl rfl
theorem dksX0_setsWith_2 : cX0_setsWith.data.toList.drop 46 = dktX0_setsWith_2 := dk_seg dksX0_setsWith_1 23 rfl rfl
theorem dX0_setsWith_0 : decode cX0_setsWith 0 = .ok (.aload_n 0, 1) := dk_42 (dk_at dksX0_setsWith_0 0 rfl rfl)
theorem dX0_setsWith_1 : decode cX0_setsWith 1 = .ok (.iload_n 1, 1) := dk_27 (dk_at dksX0_setsWith_0 1 rfl rfl)
theorem dX0_setsWith_2 : decode cX0_setsWith 2 = .ok (.iconst 1, 1) := dk_4 (dk_at dksX0_setsWith_0 2 rfl rfl)
theorem dX0_setsWith_3 : decode cX0_setsWith 3 = .ok (.invokevirtual 327, 3) := dk_182 1 71 (dk_at dksX0_setsWith_0 3 rfl rfl)
theorem dX0_setsWith_6 : decode cX0_setsWith 6 = .ok (.iload_n 3, 1) := dk_29 (dk_at dksX0_setsWith_0 6 rfl rfl)
theorem dX0_setsWith_7 : decode cX0_setsWith 7 = .ok (.ior, 1) := dk_128 (dk_at dksX0_setsWith_0 7 rfl rfl)
theorem dX0_setsWith_8 : decode cX0_setsWith 8 = .ok (.istore 4, 2) := dk_54 4 (dk_at dksX0_setsWith_0 8 rfl rfl)
theorem dX0_setsWith_10 : decode cX0_setsWith 10 = .ok (.aload_n 0, 1) := dk_42 (dk_at dksX0_setsWith_0 10 rfl rfl)
theorem dX0_setsWith_11 : decode cX0_setsWith 11 = .ok (.iload_n 1, 1) := dk_27 (dk_at dksX0_setsWith_0 11 rfl rfl)
theorem dX0_setsWith_12 : decode cX0_setsWith 12 = .ok (.iconst 0, 1) := dk_3 (dk_at dksX0_setsWith_0 12 rfl rfl)
theorem dX0_setsWith_13 : decode cX0_setsWith 13 = .ok (.invokevirtual 327, 3) := dk_182 1 71 (dk_at dksX0_setsWith_0 13 rfl rfl)
theorem dX0_setsWith_16 : decode cX0_setsWith 16 = .ok (.istore 5, 2) := dk_54 5 (dk_at dksX0_setsWith_0 16 rfl rfl)
theorem dX0_setsWith_18 : decode cX0_setsWith 18 = .ok (.iload 4, 2) := dk_21 4 (dk_at dksX0_setsWith_0 18 rfl rfl)
theorem dX0_setsWith_20 : decode cX0_setsWith 20 = .ok (.iload 5, 2) := dk_21 5 (dk_at dksX0_setsWith_0 20 rfl rfl)
theorem dX0_setsWith_22 : decode cX0_setsWith 22 = .ok (.iand, 1) := dk_126 (dk_at dksX0_setsWith_0 22 rfl rfl)
theorem dX0_setsWith_23 : decode cX0_setsWith 23 = .ok (.ifCond .eq 5, 3) := dk_153 0 5 (dk_at dksX0_setsWith_1 0 rfl rfl)
theorem dX0_setsWith_26 : decode cX0_setsWith 26 = .ok (.iconst 0, 1) := dk_3 (dk_at dksX0_setsWith_1 3 rfl rfl)
theorem dX0_setsWith_27 : decode cX0_setsWith 27 = .ok (.ireturn, 1) := dk_172 (dk_at dksX0_setsWith_1 4 rfl rfl)
theorem dX0_setsWith_28 : decode cX0_setsWith 28 = .ok (.bipush 20, 2) := dk_16 20 (dk_at dksX0_setsWith_1 5 rfl rfl)
theorem dX0_setsWith_30 : decode cX0_setsWith 30 = .ok (.iload 4, 2) := dk_21 4 (dk_at dksX0_setsWith_1 7 rfl rfl)
theorem dX0_setsWith_32 : decode cX0_setsWith 32 = .ok (.iload 5, 2) := dk_21 5 (dk_at dksX0_setsWith_1 9 rfl rfl)
theorem dX0_setsWith_34 : decode cX0_setsWith 34 = .ok (.ior, 1) := dk_128 (dk_at dksX0_setsWith_1 11 rfl rfl)
theorem dX0_setsWith_35 : decode cX0_setsWith 35 = .ok (.invokestatic 126, 3) := dk_184 0 126 (dk_at dksX0_setsWith_1 12 rfl rfl)
theorem dX0_setsWith_38 : decode cX0_setsWith 38 = .ok (.isub, 1) := dk_100 (dk_at dksX0_setsWith_1 15 rfl rfl)
theorem dX0_setsWith_39 : decode cX0_setsWith 39 = .ok (.iload_n 2, 1) := dk_28 (dk_at dksX0_setsWith_1 16 rfl rfl)
theorem dX0_setsWith_40 : decode cX0_setsWith 40 = .ok (.iload 4, 2) := dk_21 4 (dk_at dksX0_setsWith_1 17 rfl rfl)
theorem dX0_setsWith_42 : decode cX0_setsWith 42 = .ok (.invokestatic 126, 3) := dk_184 0 126 (dk_at dksX0_setsWith_1 19 rfl rfl)
theorem dX0_setsWith_45 : decode cX0_setsWith 45 = .ok (.isub, 1) := dk_100 (dk_at dksX0_setsWith_1 22 rfl rfl)
theorem dX0_setsWith_46 : decode cX0_setsWith 46 = .ok (.invokestatic 324, 3) := dk_184 1 68 (dk_at dksX0_setsWith_2 0 rfl rfl)
theorem dX0_setsWith_49 : decode cX0_setsWith 49 = .ok (.ireturn, 1) := dk_172 (dk_at dksX0_setsWith_2 3 rfl rfl)
abbrev cX0_datesSeen : ByteArray := prog_1_method_61_code
def yX0_datesSeen : MethodName := ⟨RX0, "datesSeen", "(II)I"⟩
def dkwX0_datesSeen_7 : List UInt8 := [29, 172]
abbrev dktX0_datesSeen_7 : List UInt8 := dkwX0_datesSeen_7 ++ []
def dkwX0_datesSeen_6 : List UInt8 := [180, 0, 21, 180, 1, 61, 21, 4, 50, 4, 46, 120, 167, 0, 4, 3, 128, 62, 132, 4, 1, 167, 255, 186]
abbrev dktX0_datesSeen_6 : List UInt8 := dkwX0_datesSeen_6 ++ dktX0_datesSeen_7
def dkwX0_datesSeen_5 : List UInt8 := [46, 27, 160, 0, 36, 42, 180, 0, 21, 180, 1, 61, 21, 4, 50, 5, 46, 28, 160, 0, 20, 4, 42]
abbrev dktX0_datesSeen_5 : List UInt8 := dkwX0_datesSeen_5 ++ dktX0_datesSeen_6
def dkwX0_datesSeen_4 : List UInt8 := [42, 180, 0, 21, 180, 0, 59, 7, 46, 162, 0, 62, 29, 42, 180, 0, 21, 180, 1, 61, 21, 4, 50, 3]
abbrev dktX0_datesSeen_4 : List UInt8 := dkwX0_datesSeen_4 ++ dktX0_datesSeen_5
def dkwX0_datesSeen_3 : List UInt8 := [21, 5, 46, 16, 20, 112, 120, 167, 0, 4, 3, 128, 62, 132, 4, 1, 167, 255, 175, 3, 54, 4, 21, 4]
abbrev dktX0_datesSeen_3 : List UInt8 := dkwX0_datesSeen_3 ++ dktX0_datesSeen_4
def dkwX0_datesSeen_2 : List UInt8 := [180, 0, 21, 180, 0, 74, 21, 5, 5, 96, 46, 28, 160, 0, 21, 4, 42, 180, 0, 21, 180, 0, 74]
abbrev dktX0_datesSeen_2 : List UInt8 := dkwX0_datesSeen_2 ++ dktX0_datesSeen_3
def dkwX0_datesSeen_1 : List UInt8 := [21, 4, 104, 96, 54, 5, 29, 42, 180, 0, 21, 180, 0, 74, 21, 5, 4, 96, 46, 27, 160, 0, 37, 42]
abbrev dktX0_datesSeen_1 : List UInt8 := dkwX0_datesSeen_1 ++ dktX0_datesSeen_2
def dkwX0_datesSeen_0 : List UInt8 := [3, 62, 3, 54, 4, 21, 4, 42, 180, 0, 21, 180, 0, 74, 16, 24, 46, 162, 0, 72, 16, 25, 6]
abbrev dktX0_datesSeen_0 : List UInt8 := dkwX0_datesSeen_0 ++ dktX0_datesSeen_1
theorem dksX0_datesSeen_0 : cX0_datesSeen.data.toList.drop 0 = dktX0_datesSeen_0 := by decide +kernel
theorem dksX0_datesSeen_1 : cX0_datesSeen.data.toList.drop 23 = dktX0_datesSeen_1 := dk_seg dksX0_datesSeen_0 23 rfl rfl
theorem dksX0_datesSeen_2 : cX0_datesSeen.data.toList.drop 47 = dktX0_datesSeen_2 := dk_seg dksX0_datesSeen_1 24 rfl rfl
theorem dksX0_datesSeen_3 : cX0_datesSeen.data.toList.drop 70 = dktX0_datesSeen_3 := dk_seg dksX0_datesSeen_2 23 rfl rfl
theorem dksX0_datesSeen_4 : cX0_datesSeen.data.toList.drop 94 = dktX0_datesSeen_4 := dk_seg dksX0_datesSeen_3 24 rfl rfl
theorem dksX0_datesSeen_5 : cX0_datesSeen.data.toList.drop 118 = dktX0_datesSeen_5 := dk_seg dksX0_datesSeen_4 24 rfl rfl
theorem dksX0_datesSeen_6 : cX0_datesSeen.data.toList.drop 141 = dktX0_datesSeen_6 := dk_seg dksX0_datesSeen_5 23 rfl rfl
theorem dksX0_datesSeen_7 : cX0_datesSeen.data.toList.drop 165 = dktX0_datesSeen_7 := dk_seg dksX0_datesSeen_6 24 rfl rfl
theorem dX0_datesSeen_0 : decode cX0_datesSeen 0 = .ok (.iconst 0, 1) := dk_3 (dk_at dksX0_datesSeen_0 0 rfl rfl)
theorem dX0_datesSeen_1 : decode cX0_datesSeen 1 = .ok (.istore_n 3, 1) := dk_62 (dk_at dksX0_datesSeen_0 1 rfl rfl)
theorem dX0_datesSeen_2 : decode cX0_datesSeen 2 = .ok (.iconst 0, 1) := dk_3 (dk_at dksX0_datesSeen_0 2 rfl rfl)
theorem dX0_datesSeen_3 : decode cX0_datesSeen 3 = .ok (.istore 4, 2) := dk_54 4 (dk_at dksX0_datesSeen_0 3 rfl rfl)
theorem dX0_datesSeen_5 : decode cX0_datesSeen 5 = .ok (.iload 4, 2) := dk_21 4 (dk_at dksX0_datesSeen_0 5 rfl rfl)
theorem dX0_datesSeen_7 : decode cX0_datesSeen 7 = .ok (.aload_n 0, 1) := dk_42 (dk_at dksX0_datesSeen_0 7 rfl rfl)
theorem dX0_datesSeen_8 : decode cX0_datesSeen 8 = .ok (.getfield 21, 3) := dk_180 0 21 (dk_at dksX0_datesSeen_0 8 rfl rfl)
theorem dX0_datesSeen_11 : decode cX0_datesSeen 11 = .ok (.getfield 74, 3) := dk_180 0 74 (dk_at dksX0_datesSeen_0 11 rfl rfl)
theorem dX0_datesSeen_14 : decode cX0_datesSeen 14 = .ok (.bipush 24, 2) := dk_16 24 (dk_at dksX0_datesSeen_0 14 rfl rfl)
theorem dX0_datesSeen_16 : decode cX0_datesSeen 16 = .ok (.iaload, 1) := dk_46 (dk_at dksX0_datesSeen_0 16 rfl rfl)
theorem dX0_datesSeen_17 : decode cX0_datesSeen 17 = .ok (.if_icmp .ge 72, 3) := dk_162 0 72 (dk_at dksX0_datesSeen_0 17 rfl rfl)
theorem dX0_datesSeen_20 : decode cX0_datesSeen 20 = .ok (.bipush 25, 2) := dk_16 25 (dk_at dksX0_datesSeen_0 20 rfl rfl)
theorem dX0_datesSeen_22 : decode cX0_datesSeen 22 = .ok (.iconst 3, 1) := dk_6 (dk_at dksX0_datesSeen_0 22 rfl rfl)
theorem dX0_datesSeen_23 : decode cX0_datesSeen 23 = .ok (.iload 4, 2) := dk_21 4 (dk_at dksX0_datesSeen_1 0 rfl rfl)
theorem dX0_datesSeen_25 : decode cX0_datesSeen 25 = .ok (.imul, 1) := dk_104 (dk_at dksX0_datesSeen_1 2 rfl rfl)
theorem dX0_datesSeen_26 : decode cX0_datesSeen 26 = .ok (.iadd, 1) := dk_96 (dk_at dksX0_datesSeen_1 3 rfl rfl)
theorem dX0_datesSeen_27 : decode cX0_datesSeen 27 = .ok (.istore 5, 2) := dk_54 5 (dk_at dksX0_datesSeen_1 4 rfl rfl)
theorem dX0_datesSeen_29 : decode cX0_datesSeen 29 = .ok (.iload_n 3, 1) := dk_29 (dk_at dksX0_datesSeen_1 6 rfl rfl)
theorem dX0_datesSeen_30 : decode cX0_datesSeen 30 = .ok (.aload_n 0, 1) := dk_42 (dk_at dksX0_datesSeen_1 7 rfl rfl)
theorem dX0_datesSeen_31 : decode cX0_datesSeen 31 = .ok (.getfield 21, 3) := dk_180 0 21 (dk_at dksX0_datesSeen_1 8 rfl rfl)
theorem dX0_datesSeen_34 : decode cX0_datesSeen 34 = .ok (.getfield 74, 3) := dk_180 0 74 (dk_at dksX0_datesSeen_1 11 rfl rfl)
theorem dX0_datesSeen_37 : decode cX0_datesSeen 37 = .ok (.iload 5, 2) := dk_21 5 (dk_at dksX0_datesSeen_1 14 rfl rfl)
theorem dX0_datesSeen_39 : decode cX0_datesSeen 39 = .ok (.iconst 1, 1) := dk_4 (dk_at dksX0_datesSeen_1 16 rfl rfl)
theorem dX0_datesSeen_40 : decode cX0_datesSeen 40 = .ok (.iadd, 1) := dk_96 (dk_at dksX0_datesSeen_1 17 rfl rfl)
theorem dX0_datesSeen_41 : decode cX0_datesSeen 41 = .ok (.iaload, 1) := dk_46 (dk_at dksX0_datesSeen_1 18 rfl rfl)
theorem dX0_datesSeen_42 : decode cX0_datesSeen 42 = .ok (.iload_n 1, 1) := dk_27 (dk_at dksX0_datesSeen_1 19 rfl rfl)
theorem dX0_datesSeen_43 : decode cX0_datesSeen 43 = .ok (.if_icmp .ne 37, 3) := dk_160 0 37 (dk_at dksX0_datesSeen_1 20 rfl rfl)
theorem dX0_datesSeen_46 : decode cX0_datesSeen 46 = .ok (.aload_n 0, 1) := dk_42 (dk_at dksX0_datesSeen_1 23 rfl rfl)
theorem dX0_datesSeen_47 : decode cX0_datesSeen 47 = .ok (.getfield 21, 3) := dk_180 0 21 (dk_at dksX0_datesSeen_2 0 rfl rfl)
theorem dX0_datesSeen_50 : decode cX0_datesSeen 50 = .ok (.getfield 74, 3) := dk_180 0 74 (dk_at dksX0_datesSeen_2 3 rfl rfl)
theorem dX0_datesSeen_53 : decode cX0_datesSeen 53 = .ok (.iload 5, 2) := dk_21 5 (dk_at dksX0_datesSeen_2 6 rfl rfl)
theorem dX0_datesSeen_55 : decode cX0_datesSeen 55 = .ok (.iconst 2, 1) := dk_5 (dk_at dksX0_datesSeen_2 8 rfl rfl)
theorem dX0_datesSeen_56 : decode cX0_datesSeen 56 = .ok (.iadd, 1) := dk_96 (dk_at dksX0_datesSeen_2 9 rfl rfl)
theorem dX0_datesSeen_57 : decode cX0_datesSeen 57 = .ok (.iaload, 1) := dk_46 (dk_at dksX0_datesSeen_2 10 rfl rfl)
theorem dX0_datesSeen_58 : decode cX0_datesSeen 58 = .ok (.iload_n 2, 1) := dk_28 (dk_at dksX0_datesSeen_2 11 rfl rfl)
theorem dX0_datesSeen_59 : decode cX0_datesSeen 59 = .ok (.if_icmp .ne 21, 3) := dk_160 0 21 (dk_at dksX0_datesSeen_2 12 rfl rfl)
theorem dX0_datesSeen_62 : decode cX0_datesSeen 62 = .ok (.iconst 1, 1) := dk_4 (dk_at dksX0_datesSeen_2 15 rfl rfl)
theorem dX0_datesSeen_63 : decode cX0_datesSeen 63 = .ok (.aload_n 0, 1) := dk_42 (dk_at dksX0_datesSeen_2 16 rfl rfl)
theorem dX0_datesSeen_64 : decode cX0_datesSeen 64 = .ok (.getfield 21, 3) := dk_180 0 21 (dk_at dksX0_datesSeen_2 17 rfl rfl)
theorem dX0_datesSeen_67 : decode cX0_datesSeen 67 = .ok (.getfield 74, 3) := dk_180 0 74 (dk_at dksX0_datesSeen_2 20 rfl rfl)
theorem dX0_datesSeen_70 : decode cX0_datesSeen 70 = .ok (.iload 5, 2) := dk_21 5 (dk_at dksX0_datesSeen_3 0 rfl rfl)
theorem dX0_datesSeen_72 : decode cX0_datesSeen 72 = .ok (.iaload, 1) := dk_46 (dk_at dksX0_datesSeen_3 2 rfl rfl)
theorem dX0_datesSeen_73 : decode cX0_datesSeen 73 = .ok (.bipush 20, 2) := dk_16 20 (dk_at dksX0_datesSeen_3 3 rfl rfl)
theorem dX0_datesSeen_75 : decode cX0_datesSeen 75 = .ok (.irem, 1) := dk_112 (dk_at dksX0_datesSeen_3 5 rfl rfl)
theorem dX0_datesSeen_76 : decode cX0_datesSeen 76 = .ok (.ishl, 1) := dk_120 (dk_at dksX0_datesSeen_3 6 rfl rfl)
theorem dX0_datesSeen_77 : decode cX0_datesSeen 77 = .ok (.goto 4, 3) := dk_167 0 4 (dk_at dksX0_datesSeen_3 7 rfl rfl)
theorem dX0_datesSeen_80 : decode cX0_datesSeen 80 = .ok (.iconst 0, 1) := dk_3 (dk_at dksX0_datesSeen_3 10 rfl rfl)
theorem dX0_datesSeen_81 : decode cX0_datesSeen 81 = .ok (.ior, 1) := dk_128 (dk_at dksX0_datesSeen_3 11 rfl rfl)
theorem dX0_datesSeen_82 : decode cX0_datesSeen 82 = .ok (.istore_n 3, 1) := dk_62 (dk_at dksX0_datesSeen_3 12 rfl rfl)
theorem dX0_datesSeen_83 : decode cX0_datesSeen 83 = .ok (.iinc 4 1, 3) := dk_132 4 1 (dk_at dksX0_datesSeen_3 13 rfl rfl)
theorem dX0_datesSeen_86 : decode cX0_datesSeen 86 = .ok (.goto (-81), 3) := dk_167 255 175 (dk_at dksX0_datesSeen_3 16 rfl rfl)
theorem dX0_datesSeen_89 : decode cX0_datesSeen 89 = .ok (.iconst 0, 1) := dk_3 (dk_at dksX0_datesSeen_3 19 rfl rfl)
theorem dX0_datesSeen_90 : decode cX0_datesSeen 90 = .ok (.istore 4, 2) := dk_54 4 (dk_at dksX0_datesSeen_3 20 rfl rfl)
theorem dX0_datesSeen_92 : decode cX0_datesSeen 92 = .ok (.iload 4, 2) := dk_21 4 (dk_at dksX0_datesSeen_3 22 rfl rfl)
theorem dX0_datesSeen_94 : decode cX0_datesSeen 94 = .ok (.aload_n 0, 1) := dk_42 (dk_at dksX0_datesSeen_4 0 rfl rfl)
theorem dX0_datesSeen_95 : decode cX0_datesSeen 95 = .ok (.getfield 21, 3) := dk_180 0 21 (dk_at dksX0_datesSeen_4 1 rfl rfl)
theorem dX0_datesSeen_98 : decode cX0_datesSeen 98 = .ok (.getfield 59, 3) := dk_180 0 59 (dk_at dksX0_datesSeen_4 4 rfl rfl)
theorem dX0_datesSeen_101 : decode cX0_datesSeen 101 = .ok (.iconst 4, 1) := dk_7 (dk_at dksX0_datesSeen_4 7 rfl rfl)
theorem dX0_datesSeen_102 : decode cX0_datesSeen 102 = .ok (.iaload, 1) := dk_46 (dk_at dksX0_datesSeen_4 8 rfl rfl)
theorem dX0_datesSeen_103 : decode cX0_datesSeen 103 = .ok (.if_icmp .ge 62, 3) := dk_162 0 62 (dk_at dksX0_datesSeen_4 9 rfl rfl)
theorem dX0_datesSeen_106 : decode cX0_datesSeen 106 = .ok (.iload_n 3, 1) := dk_29 (dk_at dksX0_datesSeen_4 12 rfl rfl)
theorem dX0_datesSeen_107 : decode cX0_datesSeen 107 = .ok (.aload_n 0, 1) := dk_42 (dk_at dksX0_datesSeen_4 13 rfl rfl)
theorem dX0_datesSeen_108 : decode cX0_datesSeen 108 = .ok (.getfield 21, 3) := dk_180 0 21 (dk_at dksX0_datesSeen_4 14 rfl rfl)
theorem dX0_datesSeen_111 : decode cX0_datesSeen 111 = .ok (.getfield 317, 3) := dk_180 1 61 (dk_at dksX0_datesSeen_4 17 rfl rfl)
theorem dX0_datesSeen_114 : decode cX0_datesSeen 114 = .ok (.iload 4, 2) := dk_21 4 (dk_at dksX0_datesSeen_4 20 rfl rfl)
theorem dX0_datesSeen_116 : decode cX0_datesSeen 116 = .ok (.aaload, 1) := dk_50 (dk_at dksX0_datesSeen_4 22 rfl rfl)
theorem dX0_datesSeen_117 : decode cX0_datesSeen 117 = .ok (.iconst 0, 1) := dk_3 (dk_at dksX0_datesSeen_4 23 rfl rfl)
theorem dX0_datesSeen_118 : decode cX0_datesSeen 118 = .ok (.iaload, 1) := dk_46 (dk_at dksX0_datesSeen_5 0 rfl rfl)
theorem dX0_datesSeen_119 : decode cX0_datesSeen 119 = .ok (.iload_n 1, 1) := dk_27 (dk_at dksX0_datesSeen_5 1 rfl rfl)
theorem dX0_datesSeen_120 : decode cX0_datesSeen 120 = .ok (.if_icmp .ne 36, 3) := dk_160 0 36 (dk_at dksX0_datesSeen_5 2 rfl rfl)
theorem dX0_datesSeen_123 : decode cX0_datesSeen 123 = .ok (.aload_n 0, 1) := dk_42 (dk_at dksX0_datesSeen_5 5 rfl rfl)
theorem dX0_datesSeen_124 : decode cX0_datesSeen 124 = .ok (.getfield 21, 3) := dk_180 0 21 (dk_at dksX0_datesSeen_5 6 rfl rfl)
theorem dX0_datesSeen_127 : decode cX0_datesSeen 127 = .ok (.getfield 317, 3) := dk_180 1 61 (dk_at dksX0_datesSeen_5 9 rfl rfl)
theorem dX0_datesSeen_130 : decode cX0_datesSeen 130 = .ok (.iload 4, 2) := dk_21 4 (dk_at dksX0_datesSeen_5 12 rfl rfl)
theorem dX0_datesSeen_132 : decode cX0_datesSeen 132 = .ok (.aaload, 1) := dk_50 (dk_at dksX0_datesSeen_5 14 rfl rfl)
theorem dX0_datesSeen_133 : decode cX0_datesSeen 133 = .ok (.iconst 2, 1) := dk_5 (dk_at dksX0_datesSeen_5 15 rfl rfl)
theorem dX0_datesSeen_134 : decode cX0_datesSeen 134 = .ok (.iaload, 1) := dk_46 (dk_at dksX0_datesSeen_5 16 rfl rfl)
theorem dX0_datesSeen_135 : decode cX0_datesSeen 135 = .ok (.iload_n 2, 1) := dk_28 (dk_at dksX0_datesSeen_5 17 rfl rfl)
theorem dX0_datesSeen_136 : decode cX0_datesSeen 136 = .ok (.if_icmp .ne 20, 3) := dk_160 0 20 (dk_at dksX0_datesSeen_5 18 rfl rfl)
theorem dX0_datesSeen_139 : decode cX0_datesSeen 139 = .ok (.iconst 1, 1) := dk_4 (dk_at dksX0_datesSeen_5 21 rfl rfl)
theorem dX0_datesSeen_140 : decode cX0_datesSeen 140 = .ok (.aload_n 0, 1) := dk_42 (dk_at dksX0_datesSeen_5 22 rfl rfl)
theorem dX0_datesSeen_141 : decode cX0_datesSeen 141 = .ok (.getfield 21, 3) := dk_180 0 21 (dk_at dksX0_datesSeen_6 0 rfl rfl)
theorem dX0_datesSeen_144 : decode cX0_datesSeen 144 = .ok (.getfield 317, 3) := dk_180 1 61 (dk_at dksX0_datesSeen_6 3 rfl rfl)
theorem dX0_datesSeen_147 : decode cX0_datesSeen 147 = .ok (.iload 4, 2) := dk_21 4 (dk_at dksX0_datesSeen_6 6 rfl rfl)
theorem dX0_datesSeen_149 : decode cX0_datesSeen 149 = .ok (.aaload, 1) := dk_50 (dk_at dksX0_datesSeen_6 8 rfl rfl)
theorem dX0_datesSeen_150 : decode cX0_datesSeen 150 = .ok (.iconst 1, 1) := dk_4 (dk_at dksX0_datesSeen_6 9 rfl rfl)
theorem dX0_datesSeen_151 : decode cX0_datesSeen 151 = .ok (.iaload, 1) := dk_46 (dk_at dksX0_datesSeen_6 10 rfl rfl)
theorem dX0_datesSeen_152 : decode cX0_datesSeen 152 = .ok (.ishl, 1) := dk_120 (dk_at dksX0_datesSeen_6 11 rfl rfl)
theorem dX0_datesSeen_153 : decode cX0_datesSeen 153 = .ok (.goto 4, 3) := dk_167 0 4 (dk_at dksX0_datesSeen_6 12 rfl rfl)
theorem dX0_datesSeen_156 : decode cX0_datesSeen 156 = .ok (.iconst 0, 1) := dk_3 (dk_at dksX0_datesSeen_6 15 rfl rfl)
theorem dX0_datesSeen_157 : decode cX0_datesSeen 157 = .ok (.ior, 1) := dk_128 (dk_at dksX0_datesSeen_6 16 rfl rfl)
theorem dX0_datesSeen_158 : decode cX0_datesSeen 158 = .ok (.istore_n 3, 1) := dk_62 (dk_at dksX0_datesSeen_6 17 rfl rfl)
theorem dX0_datesSeen_159 : decode cX0_datesSeen 159 = .ok (.iinc 4 1, 3) := dk_132 4 1 (dk_at dksX0_datesSeen_6 18 rfl rfl)
theorem dX0_datesSeen_162 : decode cX0_datesSeen 162 = .ok (.goto (-70), 3) := dk_167 255 186 (dk_at dksX0_datesSeen_6 21 rfl rfl)
theorem dX0_datesSeen_165 : decode cX0_datesSeen 165 = .ok (.iload_n 3, 1) := dk_29 (dk_at dksX0_datesSeen_7 0 rfl rfl)
theorem dX0_datesSeen_166 : decode cX0_datesSeen 166 = .ok (.ireturn, 1) := dk_172 (dk_at dksX0_datesSeen_7 1 rfl rfl)
abbrev cX0_ways : ByteArray := prog_1_method_62_code
def yX0_ways : MethodName := ⟨RX0, "ways", "(II)I"⟩
def dkwX0_ways_1 : List UInt8 := [100, 184, 1, 68, 26, 27, 100, 4, 96, 104, 27, 108, 172]
abbrev dktX0_ways_1 : List UInt8 := dkwX0_ways_1 ++ []
def dkwX0_ways_0 : List UInt8 := [27, 155, 0, 8, 26, 27, 162, 0, 7, 3, 167, 0, 26, 27, 154, 0, 7, 4, 167, 0, 18, 26, 27, 4]
abbrev dktX0_ways_0 : List UInt8 := dkwX0_ways_0 ++ dktX0_ways_1
theorem dksX0_ways_0 : cX0_ways.data.toList.drop 0 = dktX0_ways_0 := by decide +kernel
theorem dksX0_ways_1 : cX0_ways.data.toList.drop 24 = dktX0_ways_1 := dk_seg dksX0_ways_0 24 rfl rfl
theorem dX0_ways_0 : decode cX0_ways 0 = .ok (.iload_n 1, 1) := dk_27 (dk_at dksX0_ways_0 0 rfl rfl)
theorem dX0_ways_1 : decode cX0_ways 1 = .ok (.ifCond .lt 8, 3) := dk_155 0 8 (dk_at dksX0_ways_0 1 rfl rfl)
theorem dX0_ways_4 : decode cX0_ways 4 = .ok (.iload_n 0, 1) := dk_26 (dk_at dksX0_ways_0 4 rfl rfl)
theorem dX0_ways_5 : decode cX0_ways 5 = .ok (.iload_n 1, 1) := dk_27 (dk_at dksX0_ways_0 5 rfl rfl)
theorem dX0_ways_6 : decode cX0_ways 6 = .ok (.if_icmp .ge 7, 3) := dk_162 0 7 (dk_at dksX0_ways_0 6 rfl rfl)
theorem dX0_ways_9 : decode cX0_ways 9 = .ok (.iconst 0, 1) := dk_3 (dk_at dksX0_ways_0 9 rfl rfl)
theorem dX0_ways_10 : decode cX0_ways 10 = .ok (.goto 26, 3) := dk_167 0 26 (dk_at dksX0_ways_0 10 rfl rfl)
theorem dX0_ways_13 : decode cX0_ways 13 = .ok (.iload_n 1, 1) := dk_27 (dk_at dksX0_ways_0 13 rfl rfl)
theorem dX0_ways_14 : decode cX0_ways 14 = .ok (.ifCond .ne 7, 3) := dk_154 0 7 (dk_at dksX0_ways_0 14 rfl rfl)
theorem dX0_ways_17 : decode cX0_ways 17 = .ok (.iconst 1, 1) := dk_4 (dk_at dksX0_ways_0 17 rfl rfl)
theorem dX0_ways_18 : decode cX0_ways 18 = .ok (.goto 18, 3) := dk_167 0 18 (dk_at dksX0_ways_0 18 rfl rfl)
theorem dX0_ways_21 : decode cX0_ways 21 = .ok (.iload_n 0, 1) := dk_26 (dk_at dksX0_ways_0 21 rfl rfl)
theorem dX0_ways_22 : decode cX0_ways 22 = .ok (.iload_n 1, 1) := dk_27 (dk_at dksX0_ways_0 22 rfl rfl)
theorem dX0_ways_23 : decode cX0_ways 23 = .ok (.iconst 1, 1) := dk_4 (dk_at dksX0_ways_0 23 rfl rfl)
theorem dX0_ways_24 : decode cX0_ways 24 = .ok (.isub, 1) := dk_100 (dk_at dksX0_ways_1 0 rfl rfl)
theorem dX0_ways_25 : decode cX0_ways 25 = .ok (.invokestatic 324, 3) := dk_184 1 68 (dk_at dksX0_ways_1 1 rfl rfl)
theorem dX0_ways_28 : decode cX0_ways 28 = .ok (.iload_n 0, 1) := dk_26 (dk_at dksX0_ways_1 4 rfl rfl)
theorem dX0_ways_29 : decode cX0_ways 29 = .ok (.iload_n 1, 1) := dk_27 (dk_at dksX0_ways_1 5 rfl rfl)
theorem dX0_ways_30 : decode cX0_ways 30 = .ok (.isub, 1) := dk_100 (dk_at dksX0_ways_1 6 rfl rfl)
theorem dX0_ways_31 : decode cX0_ways 31 = .ok (.iconst 1, 1) := dk_4 (dk_at dksX0_ways_1 7 rfl rfl)
theorem dX0_ways_32 : decode cX0_ways 32 = .ok (.iadd, 1) := dk_96 (dk_at dksX0_ways_1 8 rfl rfl)
theorem dX0_ways_33 : decode cX0_ways 33 = .ok (.imul, 1) := dk_104 (dk_at dksX0_ways_1 9 rfl rfl)
theorem dX0_ways_34 : decode cX0_ways 34 = .ok (.iload_n 1, 1) := dk_27 (dk_at dksX0_ways_1 10 rfl rfl)
theorem dX0_ways_35 : decode cX0_ways 35 = .ok (.idiv, 1) := dk_108 (dk_at dksX0_ways_1 11 rfl rfl)
theorem dX0_ways_36 : decode cX0_ways 36 = .ok (.ireturn, 1) := dk_172 (dk_at dksX0_ways_1 12 rfl rfl)
abbrev cX0_odds : ByteArray := prog_1_method_66_code
def yX0_odds : MethodName := ⟨RX0, "odds", "(IIIZ)I"⟩
def dkwX0_odds_3 : List UInt8 := [167, 0, 5, 21, 6, 21, 5, 21, 6, 184, 1, 78, 108, 172]
abbrev dktX0_odds_3 : List UInt8 := dkwX0_odds_3 ++ []
def dkwX0_odds_2 : List UInt8 := [167, 0, 4, 3, 172, 42, 27, 28, 4, 29, 120, 182, 1, 74, 54, 6, 21, 4, 153, 0, 8, 21, 5]
abbrev dktX0_odds_2 : List UInt8 := dkwX0_odds_2 ++ dktX0_odds_3
def dkwX0_odds_1 : List UInt8 := [2, 172, 42, 27, 28, 3, 182, 1, 74, 54, 5, 21, 5, 154, 0, 14, 21, 4, 153, 0, 7, 4]
abbrev dktX0_odds_1 : List UInt8 := dkwX0_odds_1 ++ dktX0_odds_2
def dkwX0_odds_0 : List UInt8 := [42, 27, 182, 0, 70, 153, 0, 19, 28, 4, 6, 184, 0, 62, 153, 0, 10, 29, 184, 0, 227, 154, 0, 5]
abbrev dktX0_odds_0 : List UInt8 := dkwX0_odds_0 ++ dktX0_odds_1
theorem dksX0_odds_0 : cX0_odds.data.toList.drop 0 = dktX0_odds_0 := by decide +kernel
theorem dksX0_odds_1 : cX0_odds.data.toList.drop 24 = dktX0_odds_1 := dk_seg dksX0_odds_0 24 rfl rfl
theorem dksX0_odds_2 : cX0_odds.data.toList.drop 46 = dktX0_odds_2 := dk_seg dksX0_odds_1 22 rfl rfl
theorem dksX0_odds_3 : cX0_odds.data.toList.drop 69 = dktX0_odds_3 := dk_seg dksX0_odds_2 23 rfl rfl
theorem dX0_odds_0 : decode cX0_odds 0 = .ok (.aload_n 0, 1) := dk_42 (dk_at dksX0_odds_0 0 rfl rfl)
theorem dX0_odds_1 : decode cX0_odds 1 = .ok (.iload_n 1, 1) := dk_27 (dk_at dksX0_odds_0 1 rfl rfl)
theorem dX0_odds_2 : decode cX0_odds 2 = .ok (.invokevirtual 70, 3) := dk_182 0 70 (dk_at dksX0_odds_0 2 rfl rfl)
theorem dX0_odds_5 : decode cX0_odds 5 = .ok (.ifCond .eq 19, 3) := dk_153 0 19 (dk_at dksX0_odds_0 5 rfl rfl)
theorem dX0_odds_8 : decode cX0_odds 8 = .ok (.iload_n 2, 1) := dk_28 (dk_at dksX0_odds_0 8 rfl rfl)
theorem dX0_odds_9 : decode cX0_odds 9 = .ok (.iconst 1, 1) := dk_4 (dk_at dksX0_odds_0 9 rfl rfl)
theorem dX0_odds_10 : decode cX0_odds 10 = .ok (.iconst 3, 1) := dk_6 (dk_at dksX0_odds_0 10 rfl rfl)
theorem dX0_odds_11 : decode cX0_odds 11 = .ok (.invokestatic 62, 3) := dk_184 0 62 (dk_at dksX0_odds_0 11 rfl rfl)
theorem dX0_odds_14 : decode cX0_odds 14 = .ok (.ifCond .eq 10, 3) := dk_153 0 10 (dk_at dksX0_odds_0 14 rfl rfl)
theorem dX0_odds_17 : decode cX0_odds 17 = .ok (.iload_n 3, 1) := dk_29 (dk_at dksX0_odds_0 17 rfl rfl)
theorem dX0_odds_18 : decode cX0_odds 18 = .ok (.invokestatic 227, 3) := dk_184 0 227 (dk_at dksX0_odds_0 18 rfl rfl)
theorem dX0_odds_21 : decode cX0_odds 21 = .ok (.ifCond .ne 5, 3) := dk_154 0 5 (dk_at dksX0_odds_0 21 rfl rfl)
theorem dX0_odds_24 : decode cX0_odds 24 = .ok (.iconst (-1), 1) := dk_2 (dk_at dksX0_odds_1 0 rfl rfl)
theorem dX0_odds_25 : decode cX0_odds 25 = .ok (.ireturn, 1) := dk_172 (dk_at dksX0_odds_1 1 rfl rfl)
theorem dX0_odds_26 : decode cX0_odds 26 = .ok (.aload_n 0, 1) := dk_42 (dk_at dksX0_odds_1 2 rfl rfl)
theorem dX0_odds_27 : decode cX0_odds 27 = .ok (.iload_n 1, 1) := dk_27 (dk_at dksX0_odds_1 3 rfl rfl)
theorem dX0_odds_28 : decode cX0_odds 28 = .ok (.iload_n 2, 1) := dk_28 (dk_at dksX0_odds_1 4 rfl rfl)
theorem dX0_odds_29 : decode cX0_odds 29 = .ok (.iconst 0, 1) := dk_3 (dk_at dksX0_odds_1 5 rfl rfl)
theorem dX0_odds_30 : decode cX0_odds 30 = .ok (.invokevirtual 330, 3) := dk_182 1 74 (dk_at dksX0_odds_1 6 rfl rfl)
theorem dX0_odds_33 : decode cX0_odds 33 = .ok (.istore 5, 2) := dk_54 5 (dk_at dksX0_odds_1 9 rfl rfl)
theorem dX0_odds_35 : decode cX0_odds 35 = .ok (.iload 5, 2) := dk_21 5 (dk_at dksX0_odds_1 11 rfl rfl)
theorem dX0_odds_37 : decode cX0_odds 37 = .ok (.ifCond .ne 14, 3) := dk_154 0 14 (dk_at dksX0_odds_1 13 rfl rfl)
theorem dX0_odds_40 : decode cX0_odds 40 = .ok (.iload 4, 2) := dk_21 4 (dk_at dksX0_odds_1 16 rfl rfl)
theorem dX0_odds_42 : decode cX0_odds 42 = .ok (.ifCond .eq 7, 3) := dk_153 0 7 (dk_at dksX0_odds_1 18 rfl rfl)
theorem dX0_odds_45 : decode cX0_odds 45 = .ok (.iconst 1, 1) := dk_4 (dk_at dksX0_odds_1 21 rfl rfl)
theorem dX0_odds_46 : decode cX0_odds 46 = .ok (.goto 4, 3) := dk_167 0 4 (dk_at dksX0_odds_2 0 rfl rfl)
theorem dX0_odds_49 : decode cX0_odds 49 = .ok (.iconst 0, 1) := dk_3 (dk_at dksX0_odds_2 3 rfl rfl)
theorem dX0_odds_50 : decode cX0_odds 50 = .ok (.ireturn, 1) := dk_172 (dk_at dksX0_odds_2 4 rfl rfl)
theorem dX0_odds_51 : decode cX0_odds 51 = .ok (.aload_n 0, 1) := dk_42 (dk_at dksX0_odds_2 5 rfl rfl)
theorem dX0_odds_52 : decode cX0_odds 52 = .ok (.iload_n 1, 1) := dk_27 (dk_at dksX0_odds_2 6 rfl rfl)
theorem dX0_odds_53 : decode cX0_odds 53 = .ok (.iload_n 2, 1) := dk_28 (dk_at dksX0_odds_2 7 rfl rfl)
theorem dX0_odds_54 : decode cX0_odds 54 = .ok (.iconst 1, 1) := dk_4 (dk_at dksX0_odds_2 8 rfl rfl)
theorem dX0_odds_55 : decode cX0_odds 55 = .ok (.iload_n 3, 1) := dk_29 (dk_at dksX0_odds_2 9 rfl rfl)
theorem dX0_odds_56 : decode cX0_odds 56 = .ok (.ishl, 1) := dk_120 (dk_at dksX0_odds_2 10 rfl rfl)
theorem dX0_odds_57 : decode cX0_odds 57 = .ok (.invokevirtual 330, 3) := dk_182 1 74 (dk_at dksX0_odds_2 11 rfl rfl)
theorem dX0_odds_60 : decode cX0_odds 60 = .ok (.istore 6, 2) := dk_54 6 (dk_at dksX0_odds_2 14 rfl rfl)
theorem dX0_odds_62 : decode cX0_odds 62 = .ok (.iload 4, 2) := dk_21 4 (dk_at dksX0_odds_2 16 rfl rfl)
theorem dX0_odds_64 : decode cX0_odds 64 = .ok (.ifCond .eq 8, 3) := dk_153 0 8 (dk_at dksX0_odds_2 18 rfl rfl)
theorem dX0_odds_67 : decode cX0_odds 67 = .ok (.iload 5, 2) := dk_21 5 (dk_at dksX0_odds_2 21 rfl rfl)
theorem dX0_odds_69 : decode cX0_odds 69 = .ok (.goto 5, 3) := dk_167 0 5 (dk_at dksX0_odds_3 0 rfl rfl)
theorem dX0_odds_72 : decode cX0_odds 72 = .ok (.iload 6, 2) := dk_21 6 (dk_at dksX0_odds_3 3 rfl rfl)
theorem dX0_odds_74 : decode cX0_odds 74 = .ok (.iload 5, 2) := dk_21 5 (dk_at dksX0_odds_3 5 rfl rfl)
theorem dX0_odds_76 : decode cX0_odds 76 = .ok (.iload 6, 2) := dk_21 6 (dk_at dksX0_odds_3 7 rfl rfl)
theorem dX0_odds_78 : decode cX0_odds 78 = .ok (.invokestatic 334, 3) := dk_184 1 78 (dk_at dksX0_odds_3 9 rfl rfl)
theorem dX0_odds_81 : decode cX0_odds 81 = .ok (.idiv, 1) := dk_108 (dk_at dksX0_odds_3 12 rfl rfl)
theorem dX0_odds_82 : decode cX0_odds 82 = .ok (.ireturn, 1) := dk_172 (dk_at dksX0_odds_3 13 rfl rfl)
abbrev cX0_common : ByteArray := prog_1_method_65_code
def yX0_common : MethodName := ⟨RX0, "common", "(II)I"⟩
def dkwX0_common_0 : List UInt8 := [27, 154, 0, 7, 26, 167, 0, 10, 27, 26, 27, 112, 184, 1, 78, 172]
abbrev dktX0_common_0 : List UInt8 := dkwX0_common_0 ++ []
theorem dksX0_common_0 : cX0_common.data.toList.drop 0 = dktX0_common_0 := by decide +kernel
theorem dX0_common_0 : decode cX0_common 0 = .ok (.iload_n 1, 1) := dk_27 (dk_at dksX0_common_0 0 rfl rfl)
theorem dX0_common_1 : decode cX0_common 1 = .ok (.ifCond .ne 7, 3) := dk_154 0 7 (dk_at dksX0_common_0 1 rfl rfl)
theorem dX0_common_4 : decode cX0_common 4 = .ok (.iload_n 0, 1) := dk_26 (dk_at dksX0_common_0 4 rfl rfl)
theorem dX0_common_5 : decode cX0_common 5 = .ok (.goto 10, 3) := dk_167 0 10 (dk_at dksX0_common_0 5 rfl rfl)
theorem dX0_common_8 : decode cX0_common 8 = .ok (.iload_n 1, 1) := dk_27 (dk_at dksX0_common_0 8 rfl rfl)
theorem dX0_common_9 : decode cX0_common 9 = .ok (.iload_n 0, 1) := dk_26 (dk_at dksX0_common_0 9 rfl rfl)
theorem dX0_common_10 : decode cX0_common 10 = .ok (.iload_n 1, 1) := dk_27 (dk_at dksX0_common_0 10 rfl rfl)
theorem dX0_common_11 : decode cX0_common 11 = .ok (.irem, 1) := dk_112 (dk_at dksX0_common_0 11 rfl rfl)
theorem dX0_common_12 : decode cX0_common 12 = .ok (.invokestatic 334, 3) := dk_184 1 78 (dk_at dksX0_common_0 12 rfl rfl)
theorem dX0_common_15 : decode cX0_common 15 = .ok (.ireturn, 1) := dk_172 (dk_at dksX0_common_0 15 rfl rfl)
abbrev cX0_nextKnock : ByteArray := prog_1_method_67_code
def yX0_nextKnock : MethodName := ⟨RX0, "nextKnock", "(II)I"⟩
def dkwX0_nextKnock_3 : List UInt8 := [167, 0, 11, 21, 6, 54, 4, 21, 7, 54, 5, 132, 6, 1, 167, 255, 209, 21, 4, 172]
abbrev dktX0_nextKnock_3 : List UInt8 := dkwX0_nextKnock_3 ++ []
def dkwX0_nextKnock_2 : List UInt8 := [4, 21, 6, 120, 182, 1, 74, 104, 29, 100, 184, 1, 81, 54, 7, 21, 7, 21, 5, 161, 0, 6]
abbrev dktX0_nextKnock_2 : List UInt8 := dkwX0_nextKnock_2 ++ dktX0_nextKnock_3
def dkwX0_nextKnock_1 : List UInt8 := [182, 1, 74, 62, 2, 54, 4, 29, 54, 5, 3, 54, 6, 21, 6, 16, 20, 162, 0, 46, 5, 42, 27, 28]
abbrev dktX0_nextKnock_1 : List UInt8 := dkwX0_nextKnock_1 ++ dktX0_nextKnock_2
def dkwX0_nextKnock_0 : List UInt8 := [42, 27, 182, 0, 70, 153, 0, 12, 28, 4, 6, 184, 0, 62, 154, 0, 5, 2, 172, 42, 27, 28, 3]
abbrev dktX0_nextKnock_0 : List UInt8 := dkwX0_nextKnock_0 ++ dktX0_nextKnock_1
theorem dksX0_nextKnock_0 : cX0_nextKnock.data.toList.drop 0 = dktX0_nextKnock_0 := by decide +kernel
theorem dksX0_nextKnock_1 : cX0_nextKnock.data.toList.drop 23 = dktX0_nextKnock_1 := dk_seg dksX0_nextKnock_0 23 rfl rfl
theorem dksX0_nextKnock_2 : cX0_nextKnock.data.toList.drop 47 = dktX0_nextKnock_2 := dk_seg dksX0_nextKnock_1 24 rfl rfl
theorem dksX0_nextKnock_3 : cX0_nextKnock.data.toList.drop 69 = dktX0_nextKnock_3 := dk_seg dksX0_nextKnock_2 22 rfl rfl
theorem dX0_nextKnock_0 : decode cX0_nextKnock 0 = .ok (.aload_n 0, 1) := dk_42 (dk_at dksX0_nextKnock_0 0 rfl rfl)
theorem dX0_nextKnock_1 : decode cX0_nextKnock 1 = .ok (.iload_n 1, 1) := dk_27 (dk_at dksX0_nextKnock_0 1 rfl rfl)
theorem dX0_nextKnock_2 : decode cX0_nextKnock 2 = .ok (.invokevirtual 70, 3) := dk_182 0 70 (dk_at dksX0_nextKnock_0 2 rfl rfl)
theorem dX0_nextKnock_5 : decode cX0_nextKnock 5 = .ok (.ifCond .eq 12, 3) := dk_153 0 12 (dk_at dksX0_nextKnock_0 5 rfl rfl)
theorem dX0_nextKnock_8 : decode cX0_nextKnock 8 = .ok (.iload_n 2, 1) := dk_28 (dk_at dksX0_nextKnock_0 8 rfl rfl)
theorem dX0_nextKnock_9 : decode cX0_nextKnock 9 = .ok (.iconst 1, 1) := dk_4 (dk_at dksX0_nextKnock_0 9 rfl rfl)
theorem dX0_nextKnock_10 : decode cX0_nextKnock 10 = .ok (.iconst 3, 1) := dk_6 (dk_at dksX0_nextKnock_0 10 rfl rfl)
theorem dX0_nextKnock_11 : decode cX0_nextKnock 11 = .ok (.invokestatic 62, 3) := dk_184 0 62 (dk_at dksX0_nextKnock_0 11 rfl rfl)
theorem dX0_nextKnock_14 : decode cX0_nextKnock 14 = .ok (.ifCond .ne 5, 3) := dk_154 0 5 (dk_at dksX0_nextKnock_0 14 rfl rfl)
theorem dX0_nextKnock_17 : decode cX0_nextKnock 17 = .ok (.iconst (-1), 1) := dk_2 (dk_at dksX0_nextKnock_0 17 rfl rfl)
theorem dX0_nextKnock_18 : decode cX0_nextKnock 18 = .ok (.ireturn, 1) := dk_172 (dk_at dksX0_nextKnock_0 18 rfl rfl)
theorem dX0_nextKnock_19 : decode cX0_nextKnock 19 = .ok (.aload_n 0, 1) := dk_42 (dk_at dksX0_nextKnock_0 19 rfl rfl)
theorem dX0_nextKnock_20 : decode cX0_nextKnock 20 = .ok (.iload_n 1, 1) := dk_27 (dk_at dksX0_nextKnock_0 20 rfl rfl)
theorem dX0_nextKnock_21 : decode cX0_nextKnock 21 = .ok (.iload_n 2, 1) := dk_28 (dk_at dksX0_nextKnock_0 21 rfl rfl)
theorem dX0_nextKnock_22 : decode cX0_nextKnock 22 = .ok (.iconst 0, 1) := dk_3 (dk_at dksX0_nextKnock_0 22 rfl rfl)
theorem dX0_nextKnock_23 : decode cX0_nextKnock 23 = .ok (.invokevirtual 330, 3) := dk_182 1 74 (dk_at dksX0_nextKnock_1 0 rfl rfl)
theorem dX0_nextKnock_26 : decode cX0_nextKnock 26 = .ok (.istore_n 3, 1) := dk_62 (dk_at dksX0_nextKnock_1 3 rfl rfl)
theorem dX0_nextKnock_27 : decode cX0_nextKnock 27 = .ok (.iconst (-1), 1) := dk_2 (dk_at dksX0_nextKnock_1 4 rfl rfl)
theorem dX0_nextKnock_28 : decode cX0_nextKnock 28 = .ok (.istore 4, 2) := dk_54 4 (dk_at dksX0_nextKnock_1 5 rfl rfl)
theorem dX0_nextKnock_30 : decode cX0_nextKnock 30 = .ok (.iload_n 3, 1) := dk_29 (dk_at dksX0_nextKnock_1 7 rfl rfl)
theorem dX0_nextKnock_31 : decode cX0_nextKnock 31 = .ok (.istore 5, 2) := dk_54 5 (dk_at dksX0_nextKnock_1 8 rfl rfl)
theorem dX0_nextKnock_33 : decode cX0_nextKnock 33 = .ok (.iconst 0, 1) := dk_3 (dk_at dksX0_nextKnock_1 10 rfl rfl)
theorem dX0_nextKnock_34 : decode cX0_nextKnock 34 = .ok (.istore 6, 2) := dk_54 6 (dk_at dksX0_nextKnock_1 11 rfl rfl)
theorem dX0_nextKnock_36 : decode cX0_nextKnock 36 = .ok (.iload 6, 2) := dk_21 6 (dk_at dksX0_nextKnock_1 13 rfl rfl)
theorem dX0_nextKnock_38 : decode cX0_nextKnock 38 = .ok (.bipush 20, 2) := dk_16 20 (dk_at dksX0_nextKnock_1 15 rfl rfl)
theorem dX0_nextKnock_40 : decode cX0_nextKnock 40 = .ok (.if_icmp .ge 46, 3) := dk_162 0 46 (dk_at dksX0_nextKnock_1 17 rfl rfl)
theorem dX0_nextKnock_43 : decode cX0_nextKnock 43 = .ok (.iconst 2, 1) := dk_5 (dk_at dksX0_nextKnock_1 20 rfl rfl)
theorem dX0_nextKnock_44 : decode cX0_nextKnock 44 = .ok (.aload_n 0, 1) := dk_42 (dk_at dksX0_nextKnock_1 21 rfl rfl)
theorem dX0_nextKnock_45 : decode cX0_nextKnock 45 = .ok (.iload_n 1, 1) := dk_27 (dk_at dksX0_nextKnock_1 22 rfl rfl)
theorem dX0_nextKnock_46 : decode cX0_nextKnock 46 = .ok (.iload_n 2, 1) := dk_28 (dk_at dksX0_nextKnock_1 23 rfl rfl)
theorem dX0_nextKnock_47 : decode cX0_nextKnock 47 = .ok (.iconst 1, 1) := dk_4 (dk_at dksX0_nextKnock_2 0 rfl rfl)
theorem dX0_nextKnock_48 : decode cX0_nextKnock 48 = .ok (.iload 6, 2) := dk_21 6 (dk_at dksX0_nextKnock_2 1 rfl rfl)
theorem dX0_nextKnock_50 : decode cX0_nextKnock 50 = .ok (.ishl, 1) := dk_120 (dk_at dksX0_nextKnock_2 3 rfl rfl)
theorem dX0_nextKnock_51 : decode cX0_nextKnock 51 = .ok (.invokevirtual 330, 3) := dk_182 1 74 (dk_at dksX0_nextKnock_2 4 rfl rfl)
theorem dX0_nextKnock_54 : decode cX0_nextKnock 54 = .ok (.imul, 1) := dk_104 (dk_at dksX0_nextKnock_2 7 rfl rfl)
theorem dX0_nextKnock_55 : decode cX0_nextKnock 55 = .ok (.iload_n 3, 1) := dk_29 (dk_at dksX0_nextKnock_2 8 rfl rfl)
theorem dX0_nextKnock_56 : decode cX0_nextKnock 56 = .ok (.isub, 1) := dk_100 (dk_at dksX0_nextKnock_2 9 rfl rfl)
theorem dX0_nextKnock_57 : decode cX0_nextKnock 57 = .ok (.invokestatic 337, 3) := dk_184 1 81 (dk_at dksX0_nextKnock_2 10 rfl rfl)
theorem dX0_nextKnock_60 : decode cX0_nextKnock 60 = .ok (.istore 7, 2) := dk_54 7 (dk_at dksX0_nextKnock_2 13 rfl rfl)
theorem dX0_nextKnock_62 : decode cX0_nextKnock 62 = .ok (.iload 7, 2) := dk_21 7 (dk_at dksX0_nextKnock_2 15 rfl rfl)
theorem dX0_nextKnock_64 : decode cX0_nextKnock 64 = .ok (.iload 5, 2) := dk_21 5 (dk_at dksX0_nextKnock_2 17 rfl rfl)
theorem dX0_nextKnock_66 : decode cX0_nextKnock 66 = .ok (.if_icmp .lt 6, 3) := dk_161 0 6 (dk_at dksX0_nextKnock_2 19 rfl rfl)
theorem dX0_nextKnock_69 : decode cX0_nextKnock 69 = .ok (.goto 11, 3) := dk_167 0 11 (dk_at dksX0_nextKnock_3 0 rfl rfl)
theorem dX0_nextKnock_72 : decode cX0_nextKnock 72 = .ok (.iload 6, 2) := dk_21 6 (dk_at dksX0_nextKnock_3 3 rfl rfl)
theorem dX0_nextKnock_74 : decode cX0_nextKnock 74 = .ok (.istore 4, 2) := dk_54 4 (dk_at dksX0_nextKnock_3 5 rfl rfl)
theorem dX0_nextKnock_76 : decode cX0_nextKnock 76 = .ok (.iload 7, 2) := dk_21 7 (dk_at dksX0_nextKnock_3 7 rfl rfl)
theorem dX0_nextKnock_78 : decode cX0_nextKnock 78 = .ok (.istore 5, 2) := dk_54 5 (dk_at dksX0_nextKnock_3 9 rfl rfl)
theorem dX0_nextKnock_80 : decode cX0_nextKnock 80 = .ok (.iinc 6 1, 3) := dk_132 6 1 (dk_at dksX0_nextKnock_3 11 rfl rfl)
theorem dX0_nextKnock_83 : decode cX0_nextKnock 83 = .ok (.goto (-47), 3) := dk_167 255 209 (dk_at dksX0_nextKnock_3 14 rfl rfl)
theorem dX0_nextKnock_86 : decode cX0_nextKnock 86 = .ok (.iload 4, 2) := dk_21 4 (dk_at dksX0_nextKnock_3 17 rfl rfl)
theorem dX0_nextKnock_88 : decode cX0_nextKnock 88 = .ok (.ireturn, 1) := dk_172 (dk_at dksX0_nextKnock_3 19 rfl rfl)
abbrev cX0_thieves : ByteArray := prog_1_method_71_code
def yX0_thieves : MethodName := ⟨RX0, "thieves", "(IIZ)I"⟩
def dkwX0_thieves_1 : List UInt8 := [42, 27, 28, 182, 1, 87, 167, 0, 9, 42, 27, 28, 182, 1, 90, 172]
abbrev dktX0_thieves_1 : List UInt8 := dkwX0_thieves_1 ++ []
def dkwX0_thieves_0 : List UInt8 := [27, 184, 0, 227, 153, 0, 13, 28, 4, 16, 7, 184, 0, 62, 154, 0, 6, 16, 254, 172, 29, 153, 0, 12]
abbrev dktX0_thieves_0 : List UInt8 := dkwX0_thieves_0 ++ dktX0_thieves_1
theorem dksX0_thieves_0 : cX0_thieves.data.toList.drop 0 = dktX0_thieves_0 := by decide +kernel
theorem dksX0_thieves_1 : cX0_thieves.data.toList.drop 24 = dktX0_thieves_1 := dk_seg dksX0_thieves_0 24 rfl rfl
theorem dX0_thieves_0 : decode cX0_thieves 0 = .ok (.iload_n 1, 1) := dk_27 (dk_at dksX0_thieves_0 0 rfl rfl)
theorem dX0_thieves_1 : decode cX0_thieves 1 = .ok (.invokestatic 227, 3) := dk_184 0 227 (dk_at dksX0_thieves_0 1 rfl rfl)
theorem dX0_thieves_4 : decode cX0_thieves 4 = .ok (.ifCond .eq 13, 3) := dk_153 0 13 (dk_at dksX0_thieves_0 4 rfl rfl)
theorem dX0_thieves_7 : decode cX0_thieves 7 = .ok (.iload_n 2, 1) := dk_28 (dk_at dksX0_thieves_0 7 rfl rfl)
theorem dX0_thieves_8 : decode cX0_thieves 8 = .ok (.iconst 1, 1) := dk_4 (dk_at dksX0_thieves_0 8 rfl rfl)
theorem dX0_thieves_9 : decode cX0_thieves 9 = .ok (.bipush 7, 2) := dk_16 7 (dk_at dksX0_thieves_0 9 rfl rfl)
theorem dX0_thieves_11 : decode cX0_thieves 11 = .ok (.invokestatic 62, 3) := dk_184 0 62 (dk_at dksX0_thieves_0 11 rfl rfl)
theorem dX0_thieves_14 : decode cX0_thieves 14 = .ok (.ifCond .ne 6, 3) := dk_154 0 6 (dk_at dksX0_thieves_0 14 rfl rfl)
theorem dX0_thieves_17 : decode cX0_thieves 17 = .ok (.bipush (-2), 2) := dk_16 254 (dk_at dksX0_thieves_0 17 rfl rfl)
theorem dX0_thieves_19 : decode cX0_thieves 19 = .ok (.ireturn, 1) := dk_172 (dk_at dksX0_thieves_0 19 rfl rfl)
theorem dX0_thieves_20 : decode cX0_thieves 20 = .ok (.iload_n 3, 1) := dk_29 (dk_at dksX0_thieves_0 20 rfl rfl)
theorem dX0_thieves_21 : decode cX0_thieves 21 = .ok (.ifCond .eq 12, 3) := dk_153 0 12 (dk_at dksX0_thieves_0 21 rfl rfl)
theorem dX0_thieves_24 : decode cX0_thieves 24 = .ok (.aload_n 0, 1) := dk_42 (dk_at dksX0_thieves_1 0 rfl rfl)
theorem dX0_thieves_25 : decode cX0_thieves 25 = .ok (.iload_n 1, 1) := dk_27 (dk_at dksX0_thieves_1 1 rfl rfl)
theorem dX0_thieves_26 : decode cX0_thieves 26 = .ok (.iload_n 2, 1) := dk_28 (dk_at dksX0_thieves_1 2 rfl rfl)
theorem dX0_thieves_27 : decode cX0_thieves 27 = .ok (.invokevirtual 343, 3) := dk_182 1 87 (dk_at dksX0_thieves_1 3 rfl rfl)
theorem dX0_thieves_30 : decode cX0_thieves 30 = .ok (.goto 9, 3) := dk_167 0 9 (dk_at dksX0_thieves_1 6 rfl rfl)
theorem dX0_thieves_33 : decode cX0_thieves 33 = .ok (.aload_n 0, 1) := dk_42 (dk_at dksX0_thieves_1 9 rfl rfl)
theorem dX0_thieves_34 : decode cX0_thieves 34 = .ok (.iload_n 1, 1) := dk_27 (dk_at dksX0_thieves_1 10 rfl rfl)
theorem dX0_thieves_35 : decode cX0_thieves 35 = .ok (.iload_n 2, 1) := dk_28 (dk_at dksX0_thieves_1 11 rfl rfl)
theorem dX0_thieves_36 : decode cX0_thieves 36 = .ok (.invokevirtual 346, 3) := dk_182 1 90 (dk_at dksX0_thieves_1 12 rfl rfl)
theorem dX0_thieves_39 : decode cX0_thieves 39 = .ok (.ireturn, 1) := dk_172 (dk_at dksX0_thieves_1 15 rfl rfl)
abbrev cX0_firstLooted : ByteArray := prog_1_method_69_code
def yX0_firstLooted : MethodName := ⟨RX0, "firstLooted", "(II)I"⟩
def dkwX0_firstLooted_2 : List UInt8 := [62, 132, 4, 1, 167, 255, 209, 29, 172]
abbrev dktX0_firstLooted_2 : List UInt8 := dkwX0_firstLooted_2 ++ []
def dkwX0_firstLooted_1 : List UInt8 := [182, 1, 84, 29, 2, 160, 0, 7, 2, 167, 0, 10, 42, 29, 27, 28, 182, 1, 84, 164, 0, 6, 21, 4]
abbrev dktX0_firstLooted_1 : List UInt8 := dkwX0_firstLooted_1 ++ dktX0_firstLooted_2
def dkwX0_firstLooted_0 : List UInt8 := [2, 62, 3, 54, 4, 21, 4, 42, 180, 0, 21, 180, 0, 59, 3, 46, 162, 0, 39, 42, 21, 4, 27, 28]
abbrev dktX0_firstLooted_0 : List UInt8 := dkwX0_firstLooted_0 ++ dktX0_firstLooted_1
theorem dksX0_firstLooted_0 : cX0_firstLooted.data.toList.drop 0 = dktX0_firstLooted_0 := by decide +kernel
theorem dksX0_firstLooted_1 : cX0_firstLooted.data.toList.drop 24 = dktX0_firstLooted_1 := dk_seg dksX0_firstLooted_0 24 rfl rfl
theorem dksX0_firstLooted_2 : cX0_firstLooted.data.toList.drop 48 = dktX0_firstLooted_2 := dk_seg dksX0_firstLooted_1 24 rfl rfl
theorem dX0_firstLooted_0 : decode cX0_firstLooted 0 = .ok (.iconst (-1), 1) := dk_2 (dk_at dksX0_firstLooted_0 0 rfl rfl)
theorem dX0_firstLooted_1 : decode cX0_firstLooted 1 = .ok (.istore_n 3, 1) := dk_62 (dk_at dksX0_firstLooted_0 1 rfl rfl)
theorem dX0_firstLooted_2 : decode cX0_firstLooted 2 = .ok (.iconst 0, 1) := dk_3 (dk_at dksX0_firstLooted_0 2 rfl rfl)
theorem dX0_firstLooted_3 : decode cX0_firstLooted 3 = .ok (.istore 4, 2) := dk_54 4 (dk_at dksX0_firstLooted_0 3 rfl rfl)
theorem dX0_firstLooted_5 : decode cX0_firstLooted 5 = .ok (.iload 4, 2) := dk_21 4 (dk_at dksX0_firstLooted_0 5 rfl rfl)
theorem dX0_firstLooted_7 : decode cX0_firstLooted 7 = .ok (.aload_n 0, 1) := dk_42 (dk_at dksX0_firstLooted_0 7 rfl rfl)
theorem dX0_firstLooted_8 : decode cX0_firstLooted 8 = .ok (.getfield 21, 3) := dk_180 0 21 (dk_at dksX0_firstLooted_0 8 rfl rfl)
theorem dX0_firstLooted_11 : decode cX0_firstLooted 11 = .ok (.getfield 59, 3) := dk_180 0 59 (dk_at dksX0_firstLooted_0 11 rfl rfl)
theorem dX0_firstLooted_14 : decode cX0_firstLooted 14 = .ok (.iconst 0, 1) := dk_3 (dk_at dksX0_firstLooted_0 14 rfl rfl)
theorem dX0_firstLooted_15 : decode cX0_firstLooted 15 = .ok (.iaload, 1) := dk_46 (dk_at dksX0_firstLooted_0 15 rfl rfl)
theorem dX0_firstLooted_16 : decode cX0_firstLooted 16 = .ok (.if_icmp .ge 39, 3) := dk_162 0 39 (dk_at dksX0_firstLooted_0 16 rfl rfl)
theorem dX0_firstLooted_19 : decode cX0_firstLooted 19 = .ok (.aload_n 0, 1) := dk_42 (dk_at dksX0_firstLooted_0 19 rfl rfl)
theorem dX0_firstLooted_20 : decode cX0_firstLooted 20 = .ok (.iload 4, 2) := dk_21 4 (dk_at dksX0_firstLooted_0 20 rfl rfl)
theorem dX0_firstLooted_22 : decode cX0_firstLooted 22 = .ok (.iload_n 1, 1) := dk_27 (dk_at dksX0_firstLooted_0 22 rfl rfl)
theorem dX0_firstLooted_23 : decode cX0_firstLooted 23 = .ok (.iload_n 2, 1) := dk_28 (dk_at dksX0_firstLooted_0 23 rfl rfl)
theorem dX0_firstLooted_24 : decode cX0_firstLooted 24 = .ok (.invokevirtual 340, 3) := dk_182 1 84 (dk_at dksX0_firstLooted_1 0 rfl rfl)
theorem dX0_firstLooted_27 : decode cX0_firstLooted 27 = .ok (.iload_n 3, 1) := dk_29 (dk_at dksX0_firstLooted_1 3 rfl rfl)
theorem dX0_firstLooted_28 : decode cX0_firstLooted 28 = .ok (.iconst (-1), 1) := dk_2 (dk_at dksX0_firstLooted_1 4 rfl rfl)
theorem dX0_firstLooted_29 : decode cX0_firstLooted 29 = .ok (.if_icmp .ne 7, 3) := dk_160 0 7 (dk_at dksX0_firstLooted_1 5 rfl rfl)
theorem dX0_firstLooted_32 : decode cX0_firstLooted 32 = .ok (.iconst (-1), 1) := dk_2 (dk_at dksX0_firstLooted_1 8 rfl rfl)
theorem dX0_firstLooted_33 : decode cX0_firstLooted 33 = .ok (.goto 10, 3) := dk_167 0 10 (dk_at dksX0_firstLooted_1 9 rfl rfl)
theorem dX0_firstLooted_36 : decode cX0_firstLooted 36 = .ok (.aload_n 0, 1) := dk_42 (dk_at dksX0_firstLooted_1 12 rfl rfl)
theorem dX0_firstLooted_37 : decode cX0_firstLooted 37 = .ok (.iload_n 3, 1) := dk_29 (dk_at dksX0_firstLooted_1 13 rfl rfl)
theorem dX0_firstLooted_38 : decode cX0_firstLooted 38 = .ok (.iload_n 1, 1) := dk_27 (dk_at dksX0_firstLooted_1 14 rfl rfl)
theorem dX0_firstLooted_39 : decode cX0_firstLooted 39 = .ok (.iload_n 2, 1) := dk_28 (dk_at dksX0_firstLooted_1 15 rfl rfl)
theorem dX0_firstLooted_40 : decode cX0_firstLooted 40 = .ok (.invokevirtual 340, 3) := dk_182 1 84 (dk_at dksX0_firstLooted_1 16 rfl rfl)
theorem dX0_firstLooted_43 : decode cX0_firstLooted 43 = .ok (.if_icmp .le 6, 3) := dk_164 0 6 (dk_at dksX0_firstLooted_1 19 rfl rfl)
theorem dX0_firstLooted_46 : decode cX0_firstLooted 46 = .ok (.iload 4, 2) := dk_21 4 (dk_at dksX0_firstLooted_1 22 rfl rfl)
theorem dX0_firstLooted_48 : decode cX0_firstLooted 48 = .ok (.istore_n 3, 1) := dk_62 (dk_at dksX0_firstLooted_2 0 rfl rfl)
theorem dX0_firstLooted_49 : decode cX0_firstLooted 49 = .ok (.iinc 4 1, 3) := dk_132 4 1 (dk_at dksX0_firstLooted_2 1 rfl rfl)
theorem dX0_firstLooted_52 : decode cX0_firstLooted 52 = .ok (.goto (-47), 3) := dk_167 255 209 (dk_at dksX0_firstLooted_2 4 rfl rfl)
theorem dX0_firstLooted_55 : decode cX0_firstLooted 55 = .ok (.iload_n 3, 1) := dk_29 (dk_at dksX0_firstLooted_2 7 rfl rfl)
theorem dX0_firstLooted_56 : decode cX0_firstLooted 56 = .ok (.ireturn, 1) := dk_172 (dk_at dksX0_firstLooted_2 8 rfl rfl)
abbrev cX0_lootFrom : ByteArray := prog_1_method_68_code
def yX0_lootFrom : MethodName := ⟨RX0, "lootFrom", "(III)I"⟩
def dkwX0_lootFrom_5 : List UInt8 := [132, 6, 1, 167, 255, 173, 21, 4, 172]
abbrev dktX0_lootFrom_5 : List UInt8 := dkwX0_lootFrom_5 ++ []
def dkwX0_lootFrom_4 : List UInt8 := [172, 21, 4, 42, 180, 0, 21, 180, 0, 74, 16, 10, 21, 6, 96, 46, 96, 54, 4, 132, 5, 255]
abbrev dktX0_lootFrom_4 : List UInt8 := dkwX0_lootFrom_4 ++ dktX0_lootFrom_5
def dkwX0_lootFrom_3 : List UInt8 := [167, 0, 46, 42, 180, 0, 21, 180, 0, 74, 6, 21, 6, 96, 46, 28, 184, 0, 66, 154, 0, 6, 21, 4]
abbrev dktX0_lootFrom_3 : List UInt8 := dkwX0_lootFrom_3 ++ dktX0_lootFrom_4
def dkwX0_lootFrom_2 : List UInt8 := [46, 162, 0, 75, 21, 5, 158, 0, 70, 42, 180, 0, 21, 180, 0, 74, 21, 6, 184, 0, 77, 153, 0, 6]
abbrev dktX0_lootFrom_2 : List UInt8 := dkwX0_lootFrom_2 ++ dktX0_lootFrom_3
def dkwX0_lootFrom_1 : List UInt8 := [154, 0, 5, 2, 172, 3, 54, 4, 29, 54, 5, 27, 54, 6, 21, 6, 42, 180, 0, 21, 180, 0, 59, 3]
abbrev dktX0_lootFrom_1 : List UInt8 := dkwX0_lootFrom_1 ++ dktX0_lootFrom_2
def dkwX0_lootFrom_0 : List UInt8 := [42, 27, 182, 0, 209, 153, 0, 21, 42, 180, 0, 21, 180, 0, 74, 6, 27, 96, 46, 28, 184, 0, 66]
abbrev dktX0_lootFrom_0 : List UInt8 := dkwX0_lootFrom_0 ++ dktX0_lootFrom_1
theorem dksX0_lootFrom_0 : cX0_lootFrom.data.toList.drop 0 = dktX0_lootFrom_0 := by decide +kernel
theorem dksX0_lootFrom_1 : cX0_lootFrom.data.toList.drop 23 = dktX0_lootFrom_1 := dk_seg dksX0_lootFrom_0 23 rfl rfl
theorem dksX0_lootFrom_2 : cX0_lootFrom.data.toList.drop 47 = dktX0_lootFrom_2 := dk_seg dksX0_lootFrom_1 24 rfl rfl
theorem dksX0_lootFrom_3 : cX0_lootFrom.data.toList.drop 71 = dktX0_lootFrom_3 := dk_seg dksX0_lootFrom_2 24 rfl rfl
theorem dksX0_lootFrom_4 : cX0_lootFrom.data.toList.drop 95 = dktX0_lootFrom_4 := dk_seg dksX0_lootFrom_3 24 rfl rfl
theorem dksX0_lootFrom_5 : cX0_lootFrom.data.toList.drop 117 = dktX0_lootFrom_5 := dk_seg dksX0_lootFrom_4 22 rfl rfl
theorem dX0_lootFrom_0 : decode cX0_lootFrom 0 = .ok (.aload_n 0, 1) := dk_42 (dk_at dksX0_lootFrom_0 0 rfl rfl)
theorem dX0_lootFrom_1 : decode cX0_lootFrom 1 = .ok (.iload_n 1, 1) := dk_27 (dk_at dksX0_lootFrom_0 1 rfl rfl)
theorem dX0_lootFrom_2 : decode cX0_lootFrom 2 = .ok (.invokevirtual 209, 3) := dk_182 0 209 (dk_at dksX0_lootFrom_0 2 rfl rfl)
theorem dX0_lootFrom_5 : decode cX0_lootFrom 5 = .ok (.ifCond .eq 21, 3) := dk_153 0 21 (dk_at dksX0_lootFrom_0 5 rfl rfl)
theorem dX0_lootFrom_8 : decode cX0_lootFrom 8 = .ok (.aload_n 0, 1) := dk_42 (dk_at dksX0_lootFrom_0 8 rfl rfl)
theorem dX0_lootFrom_9 : decode cX0_lootFrom 9 = .ok (.getfield 21, 3) := dk_180 0 21 (dk_at dksX0_lootFrom_0 9 rfl rfl)
theorem dX0_lootFrom_12 : decode cX0_lootFrom 12 = .ok (.getfield 74, 3) := dk_180 0 74 (dk_at dksX0_lootFrom_0 12 rfl rfl)
theorem dX0_lootFrom_15 : decode cX0_lootFrom 15 = .ok (.iconst 3, 1) := dk_6 (dk_at dksX0_lootFrom_0 15 rfl rfl)
theorem dX0_lootFrom_16 : decode cX0_lootFrom 16 = .ok (.iload_n 1, 1) := dk_27 (dk_at dksX0_lootFrom_0 16 rfl rfl)
theorem dX0_lootFrom_17 : decode cX0_lootFrom 17 = .ok (.iadd, 1) := dk_96 (dk_at dksX0_lootFrom_0 17 rfl rfl)
theorem dX0_lootFrom_18 : decode cX0_lootFrom 18 = .ok (.iaload, 1) := dk_46 (dk_at dksX0_lootFrom_0 18 rfl rfl)
theorem dX0_lootFrom_19 : decode cX0_lootFrom 19 = .ok (.iload_n 2, 1) := dk_28 (dk_at dksX0_lootFrom_0 19 rfl rfl)
theorem dX0_lootFrom_20 : decode cX0_lootFrom 20 = .ok (.invokestatic 66, 3) := dk_184 0 66 (dk_at dksX0_lootFrom_0 20 rfl rfl)
theorem dX0_lootFrom_23 : decode cX0_lootFrom 23 = .ok (.ifCond .ne 5, 3) := dk_154 0 5 (dk_at dksX0_lootFrom_1 0 rfl rfl)
theorem dX0_lootFrom_26 : decode cX0_lootFrom 26 = .ok (.iconst (-1), 1) := dk_2 (dk_at dksX0_lootFrom_1 3 rfl rfl)
theorem dX0_lootFrom_27 : decode cX0_lootFrom 27 = .ok (.ireturn, 1) := dk_172 (dk_at dksX0_lootFrom_1 4 rfl rfl)
theorem dX0_lootFrom_28 : decode cX0_lootFrom 28 = .ok (.iconst 0, 1) := dk_3 (dk_at dksX0_lootFrom_1 5 rfl rfl)
theorem dX0_lootFrom_29 : decode cX0_lootFrom 29 = .ok (.istore 4, 2) := dk_54 4 (dk_at dksX0_lootFrom_1 6 rfl rfl)
theorem dX0_lootFrom_31 : decode cX0_lootFrom 31 = .ok (.iload_n 3, 1) := dk_29 (dk_at dksX0_lootFrom_1 8 rfl rfl)
theorem dX0_lootFrom_32 : decode cX0_lootFrom 32 = .ok (.istore 5, 2) := dk_54 5 (dk_at dksX0_lootFrom_1 9 rfl rfl)
theorem dX0_lootFrom_34 : decode cX0_lootFrom 34 = .ok (.iload_n 1, 1) := dk_27 (dk_at dksX0_lootFrom_1 11 rfl rfl)
theorem dX0_lootFrom_35 : decode cX0_lootFrom 35 = .ok (.istore 6, 2) := dk_54 6 (dk_at dksX0_lootFrom_1 12 rfl rfl)
theorem dX0_lootFrom_37 : decode cX0_lootFrom 37 = .ok (.iload 6, 2) := dk_21 6 (dk_at dksX0_lootFrom_1 14 rfl rfl)
theorem dX0_lootFrom_39 : decode cX0_lootFrom 39 = .ok (.aload_n 0, 1) := dk_42 (dk_at dksX0_lootFrom_1 16 rfl rfl)
theorem dX0_lootFrom_40 : decode cX0_lootFrom 40 = .ok (.getfield 21, 3) := dk_180 0 21 (dk_at dksX0_lootFrom_1 17 rfl rfl)
theorem dX0_lootFrom_43 : decode cX0_lootFrom 43 = .ok (.getfield 59, 3) := dk_180 0 59 (dk_at dksX0_lootFrom_1 20 rfl rfl)
theorem dX0_lootFrom_46 : decode cX0_lootFrom 46 = .ok (.iconst 0, 1) := dk_3 (dk_at dksX0_lootFrom_1 23 rfl rfl)
theorem dX0_lootFrom_47 : decode cX0_lootFrom 47 = .ok (.iaload, 1) := dk_46 (dk_at dksX0_lootFrom_2 0 rfl rfl)
theorem dX0_lootFrom_48 : decode cX0_lootFrom 48 = .ok (.if_icmp .ge 75, 3) := dk_162 0 75 (dk_at dksX0_lootFrom_2 1 rfl rfl)
theorem dX0_lootFrom_51 : decode cX0_lootFrom 51 = .ok (.iload 5, 2) := dk_21 5 (dk_at dksX0_lootFrom_2 4 rfl rfl)
theorem dX0_lootFrom_53 : decode cX0_lootFrom 53 = .ok (.ifCond .le 70, 3) := dk_158 0 70 (dk_at dksX0_lootFrom_2 6 rfl rfl)
theorem dX0_lootFrom_56 : decode cX0_lootFrom 56 = .ok (.aload_n 0, 1) := dk_42 (dk_at dksX0_lootFrom_2 9 rfl rfl)
theorem dX0_lootFrom_57 : decode cX0_lootFrom 57 = .ok (.getfield 21, 3) := dk_180 0 21 (dk_at dksX0_lootFrom_2 10 rfl rfl)
theorem dX0_lootFrom_60 : decode cX0_lootFrom 60 = .ok (.getfield 74, 3) := dk_180 0 74 (dk_at dksX0_lootFrom_2 13 rfl rfl)
theorem dX0_lootFrom_63 : decode cX0_lootFrom 63 = .ok (.iload 6, 2) := dk_21 6 (dk_at dksX0_lootFrom_2 16 rfl rfl)
theorem dX0_lootFrom_65 : decode cX0_lootFrom 65 = .ok (.invokestatic 77, 3) := dk_184 0 77 (dk_at dksX0_lootFrom_2 18 rfl rfl)
theorem dX0_lootFrom_68 : decode cX0_lootFrom 68 = .ok (.ifCond .eq 6, 3) := dk_153 0 6 (dk_at dksX0_lootFrom_2 21 rfl rfl)
theorem dX0_lootFrom_71 : decode cX0_lootFrom 71 = .ok (.goto 46, 3) := dk_167 0 46 (dk_at dksX0_lootFrom_3 0 rfl rfl)
theorem dX0_lootFrom_74 : decode cX0_lootFrom 74 = .ok (.aload_n 0, 1) := dk_42 (dk_at dksX0_lootFrom_3 3 rfl rfl)
theorem dX0_lootFrom_75 : decode cX0_lootFrom 75 = .ok (.getfield 21, 3) := dk_180 0 21 (dk_at dksX0_lootFrom_3 4 rfl rfl)
theorem dX0_lootFrom_78 : decode cX0_lootFrom 78 = .ok (.getfield 74, 3) := dk_180 0 74 (dk_at dksX0_lootFrom_3 7 rfl rfl)
theorem dX0_lootFrom_81 : decode cX0_lootFrom 81 = .ok (.iconst 3, 1) := dk_6 (dk_at dksX0_lootFrom_3 10 rfl rfl)
theorem dX0_lootFrom_82 : decode cX0_lootFrom 82 = .ok (.iload 6, 2) := dk_21 6 (dk_at dksX0_lootFrom_3 11 rfl rfl)
theorem dX0_lootFrom_84 : decode cX0_lootFrom 84 = .ok (.iadd, 1) := dk_96 (dk_at dksX0_lootFrom_3 13 rfl rfl)
theorem dX0_lootFrom_85 : decode cX0_lootFrom 85 = .ok (.iaload, 1) := dk_46 (dk_at dksX0_lootFrom_3 14 rfl rfl)
theorem dX0_lootFrom_86 : decode cX0_lootFrom 86 = .ok (.iload_n 2, 1) := dk_28 (dk_at dksX0_lootFrom_3 15 rfl rfl)
theorem dX0_lootFrom_87 : decode cX0_lootFrom 87 = .ok (.invokestatic 66, 3) := dk_184 0 66 (dk_at dksX0_lootFrom_3 16 rfl rfl)
theorem dX0_lootFrom_90 : decode cX0_lootFrom 90 = .ok (.ifCond .ne 6, 3) := dk_154 0 6 (dk_at dksX0_lootFrom_3 19 rfl rfl)
theorem dX0_lootFrom_93 : decode cX0_lootFrom 93 = .ok (.iload 4, 2) := dk_21 4 (dk_at dksX0_lootFrom_3 22 rfl rfl)
theorem dX0_lootFrom_95 : decode cX0_lootFrom 95 = .ok (.ireturn, 1) := dk_172 (dk_at dksX0_lootFrom_4 0 rfl rfl)
theorem dX0_lootFrom_96 : decode cX0_lootFrom 96 = .ok (.iload 4, 2) := dk_21 4 (dk_at dksX0_lootFrom_4 1 rfl rfl)
theorem dX0_lootFrom_98 : decode cX0_lootFrom 98 = .ok (.aload_n 0, 1) := dk_42 (dk_at dksX0_lootFrom_4 3 rfl rfl)
theorem dX0_lootFrom_99 : decode cX0_lootFrom 99 = .ok (.getfield 21, 3) := dk_180 0 21 (dk_at dksX0_lootFrom_4 4 rfl rfl)
theorem dX0_lootFrom_102 : decode cX0_lootFrom 102 = .ok (.getfield 74, 3) := dk_180 0 74 (dk_at dksX0_lootFrom_4 7 rfl rfl)
theorem dX0_lootFrom_105 : decode cX0_lootFrom 105 = .ok (.bipush 10, 2) := dk_16 10 (dk_at dksX0_lootFrom_4 10 rfl rfl)
theorem dX0_lootFrom_107 : decode cX0_lootFrom 107 = .ok (.iload 6, 2) := dk_21 6 (dk_at dksX0_lootFrom_4 12 rfl rfl)
theorem dX0_lootFrom_109 : decode cX0_lootFrom 109 = .ok (.iadd, 1) := dk_96 (dk_at dksX0_lootFrom_4 14 rfl rfl)
theorem dX0_lootFrom_110 : decode cX0_lootFrom 110 = .ok (.iaload, 1) := dk_46 (dk_at dksX0_lootFrom_4 15 rfl rfl)
theorem dX0_lootFrom_111 : decode cX0_lootFrom 111 = .ok (.iadd, 1) := dk_96 (dk_at dksX0_lootFrom_4 16 rfl rfl)
theorem dX0_lootFrom_112 : decode cX0_lootFrom 112 = .ok (.istore 4, 2) := dk_54 4 (dk_at dksX0_lootFrom_4 17 rfl rfl)
theorem dX0_lootFrom_114 : decode cX0_lootFrom 114 = .ok (.iinc 5 (-1), 3) := dk_132 5 255 (dk_at dksX0_lootFrom_4 19 rfl rfl)
theorem dX0_lootFrom_117 : decode cX0_lootFrom 117 = .ok (.iinc 6 1, 3) := dk_132 6 1 (dk_at dksX0_lootFrom_5 0 rfl rfl)
theorem dX0_lootFrom_120 : decode cX0_lootFrom 120 = .ok (.goto (-83), 3) := dk_167 255 173 (dk_at dksX0_lootFrom_5 3 rfl rfl)
theorem dX0_lootFrom_123 : decode cX0_lootFrom 123 = .ok (.iload 4, 2) := dk_21 4 (dk_at dksX0_lootFrom_5 6 rfl rfl)
theorem dX0_lootFrom_125 : decode cX0_lootFrom 125 = .ok (.ireturn, 1) := dk_172 (dk_at dksX0_lootFrom_5 8 rfl rfl)
abbrev cX0_loot : ByteArray := prog_1_method_70_code
def yX0_loot : MethodName := ⟨RX0, "loot", "(II)I"⟩
def dkwX0_loot_0 : List UInt8 := [42, 27, 28, 182, 1, 87, 62, 29, 2, 160, 0, 7, 3, 167, 0, 10, 42, 29, 27, 28, 182, 1, 84, 172]
abbrev dktX0_loot_0 : List UInt8 := dkwX0_loot_0 ++ []
theorem dksX0_loot_0 : cX0_loot.data.toList.drop 0 = dktX0_loot_0 := by decide +kernel
theorem dX0_loot_0 : decode cX0_loot 0 = .ok (.aload_n 0, 1) := dk_42 (dk_at dksX0_loot_0 0 rfl rfl)
theorem dX0_loot_1 : decode cX0_loot 1 = .ok (.iload_n 1, 1) := dk_27 (dk_at dksX0_loot_0 1 rfl rfl)
theorem dX0_loot_2 : decode cX0_loot 2 = .ok (.iload_n 2, 1) := dk_28 (dk_at dksX0_loot_0 2 rfl rfl)
theorem dX0_loot_3 : decode cX0_loot 3 = .ok (.invokevirtual 343, 3) := dk_182 1 87 (dk_at dksX0_loot_0 3 rfl rfl)
theorem dX0_loot_6 : decode cX0_loot 6 = .ok (.istore_n 3, 1) := dk_62 (dk_at dksX0_loot_0 6 rfl rfl)
theorem dX0_loot_7 : decode cX0_loot 7 = .ok (.iload_n 3, 1) := dk_29 (dk_at dksX0_loot_0 7 rfl rfl)
theorem dX0_loot_8 : decode cX0_loot 8 = .ok (.iconst (-1), 1) := dk_2 (dk_at dksX0_loot_0 8 rfl rfl)
theorem dX0_loot_9 : decode cX0_loot 9 = .ok (.if_icmp .ne 7, 3) := dk_160 0 7 (dk_at dksX0_loot_0 9 rfl rfl)
theorem dX0_loot_12 : decode cX0_loot 12 = .ok (.iconst 0, 1) := dk_3 (dk_at dksX0_loot_0 12 rfl rfl)
theorem dX0_loot_13 : decode cX0_loot 13 = .ok (.goto 10, 3) := dk_167 0 10 (dk_at dksX0_loot_0 13 rfl rfl)
theorem dX0_loot_16 : decode cX0_loot 16 = .ok (.aload_n 0, 1) := dk_42 (dk_at dksX0_loot_0 16 rfl rfl)
theorem dX0_loot_17 : decode cX0_loot 17 = .ok (.iload_n 3, 1) := dk_29 (dk_at dksX0_loot_0 17 rfl rfl)
theorem dX0_loot_18 : decode cX0_loot 18 = .ok (.iload_n 1, 1) := dk_27 (dk_at dksX0_loot_0 18 rfl rfl)
theorem dX0_loot_19 : decode cX0_loot 19 = .ok (.iload_n 2, 1) := dk_28 (dk_at dksX0_loot_0 19 rfl rfl)
theorem dX0_loot_20 : decode cX0_loot 20 = .ok (.invokevirtual 340, 3) := dk_182 1 84 (dk_at dksX0_loot_0 20 rfl rfl)
theorem dX0_loot_23 : decode cX0_loot 23 = .ok (.ireturn, 1) := dk_172 (dk_at dksX0_loot_0 23 rfl rfl)
abbrev cX0_night : ByteArray := prog_1_method_72_code
def yX0_night : MethodName := ⟨RX0, "night", "(I)I"⟩
def dkwX0_night_1 : List UInt8 := [27, 182, 1, 90, 42, 28, 27, 182, 1, 90, 164, 0, 5, 29, 61, 132, 3, 1, 167, 255, 230, 28, 172]
abbrev dktX0_night_1 : List UInt8 := dkwX0_night_1 ++ []
def dkwX0_night_0 : List UInt8 := [27, 4, 16, 7, 184, 0, 62, 154, 0, 5, 2, 172, 3, 61, 4, 62, 29, 16, 20, 162, 0, 26, 42, 29]
abbrev dktX0_night_0 : List UInt8 := dkwX0_night_0 ++ dktX0_night_1
theorem dksX0_night_0 : cX0_night.data.toList.drop 0 = dktX0_night_0 := by decide +kernel
theorem dksX0_night_1 : cX0_night.data.toList.drop 24 = dktX0_night_1 := dk_seg dksX0_night_0 24 rfl rfl
theorem dX0_night_0 : decode cX0_night 0 = .ok (.iload_n 1, 1) := dk_27 (dk_at dksX0_night_0 0 rfl rfl)
theorem dX0_night_1 : decode cX0_night 1 = .ok (.iconst 1, 1) := dk_4 (dk_at dksX0_night_0 1 rfl rfl)
theorem dX0_night_2 : decode cX0_night 2 = .ok (.bipush 7, 2) := dk_16 7 (dk_at dksX0_night_0 2 rfl rfl)
theorem dX0_night_4 : decode cX0_night 4 = .ok (.invokestatic 62, 3) := dk_184 0 62 (dk_at dksX0_night_0 4 rfl rfl)
theorem dX0_night_7 : decode cX0_night 7 = .ok (.ifCond .ne 5, 3) := dk_154 0 5 (dk_at dksX0_night_0 7 rfl rfl)
theorem dX0_night_10 : decode cX0_night 10 = .ok (.iconst (-1), 1) := dk_2 (dk_at dksX0_night_0 10 rfl rfl)
theorem dX0_night_11 : decode cX0_night 11 = .ok (.ireturn, 1) := dk_172 (dk_at dksX0_night_0 11 rfl rfl)
theorem dX0_night_12 : decode cX0_night 12 = .ok (.iconst 0, 1) := dk_3 (dk_at dksX0_night_0 12 rfl rfl)
theorem dX0_night_13 : decode cX0_night 13 = .ok (.istore_n 2, 1) := dk_61 (dk_at dksX0_night_0 13 rfl rfl)
theorem dX0_night_14 : decode cX0_night 14 = .ok (.iconst 1, 1) := dk_4 (dk_at dksX0_night_0 14 rfl rfl)
theorem dX0_night_15 : decode cX0_night 15 = .ok (.istore_n 3, 1) := dk_62 (dk_at dksX0_night_0 15 rfl rfl)
theorem dX0_night_16 : decode cX0_night 16 = .ok (.iload_n 3, 1) := dk_29 (dk_at dksX0_night_0 16 rfl rfl)
theorem dX0_night_17 : decode cX0_night 17 = .ok (.bipush 20, 2) := dk_16 20 (dk_at dksX0_night_0 17 rfl rfl)
theorem dX0_night_19 : decode cX0_night 19 = .ok (.if_icmp .ge 26, 3) := dk_162 0 26 (dk_at dksX0_night_0 19 rfl rfl)
theorem dX0_night_22 : decode cX0_night 22 = .ok (.aload_n 0, 1) := dk_42 (dk_at dksX0_night_0 22 rfl rfl)
theorem dX0_night_23 : decode cX0_night 23 = .ok (.iload_n 3, 1) := dk_29 (dk_at dksX0_night_0 23 rfl rfl)
theorem dX0_night_24 : decode cX0_night 24 = .ok (.iload_n 1, 1) := dk_27 (dk_at dksX0_night_1 0 rfl rfl)
theorem dX0_night_25 : decode cX0_night 25 = .ok (.invokevirtual 346, 3) := dk_182 1 90 (dk_at dksX0_night_1 1 rfl rfl)
theorem dX0_night_28 : decode cX0_night 28 = .ok (.aload_n 0, 1) := dk_42 (dk_at dksX0_night_1 4 rfl rfl)
theorem dX0_night_29 : decode cX0_night 29 = .ok (.iload_n 2, 1) := dk_28 (dk_at dksX0_night_1 5 rfl rfl)
theorem dX0_night_30 : decode cX0_night 30 = .ok (.iload_n 1, 1) := dk_27 (dk_at dksX0_night_1 6 rfl rfl)
theorem dX0_night_31 : decode cX0_night 31 = .ok (.invokevirtual 346, 3) := dk_182 1 90 (dk_at dksX0_night_1 7 rfl rfl)
theorem dX0_night_34 : decode cX0_night 34 = .ok (.if_icmp .le 5, 3) := dk_164 0 5 (dk_at dksX0_night_1 10 rfl rfl)
theorem dX0_night_37 : decode cX0_night 37 = .ok (.iload_n 3, 1) := dk_29 (dk_at dksX0_night_1 13 rfl rfl)
theorem dX0_night_38 : decode cX0_night 38 = .ok (.istore_n 2, 1) := dk_61 (dk_at dksX0_night_1 14 rfl rfl)
theorem dX0_night_39 : decode cX0_night 39 = .ok (.iinc 3 1, 3) := dk_132 3 1 (dk_at dksX0_night_1 15 rfl rfl)
theorem dX0_night_42 : decode cX0_night 42 = .ok (.goto (-26), 3) := dk_167 255 230 (dk_at dksX0_night_1 18 rfl rfl)
theorem dX0_night_45 : decode cX0_night 45 = .ok (.iload_n 2, 1) := dk_28 (dk_at dksX0_night_1 21 rfl rfl)
theorem dX0_night_46 : decode cX0_night 46 = .ok (.ireturn, 1) := dk_172 (dk_at dksX0_night_1 22 rfl rfl)
abbrev cX0_appointments : ByteArray := prog_1_method_74_code
def yX0_appointments : MethodName := ⟨RX0, "appointments", "(II)I"⟩
def dkwX0_appointments_3 : List UInt8 := [160, 0, 7, 29, 167, 0, 9, 42, 180, 0, 46, 28, 46, 172]
abbrev dktX0_appointments_3 : List UInt8 := dkwX0_appointments_3 ++ []
def dkwX0_appointments_2 : List UInt8 := [184, 0, 126, 62, 42, 27, 3, 29, 182, 1, 93, 154, 0, 9, 132, 3, 1, 167, 255, 243, 28, 2]
abbrev dktX0_appointments_2 : List UInt8 := dkwX0_appointments_2 ++ dktX0_appointments_3
def dkwX0_appointments_1 : List UInt8 := [2, 159, 0, 22, 42, 28, 182, 0, 70, 153, 0, 11, 27, 28, 184, 0, 66, 154, 0, 6, 16, 254, 172, 27]
abbrev dktX0_appointments_1 : List UInt8 := dkwX0_appointments_1 ++ dktX0_appointments_2
def dkwX0_appointments_0 : List UInt8 := [27, 158, 0, 43, 27, 42, 182, 1, 96, 2, 130, 126, 154, 0, 32, 27, 184, 0, 126, 8, 163, 0, 24, 28]
abbrev dktX0_appointments_0 : List UInt8 := dkwX0_appointments_0 ++ dktX0_appointments_1
theorem dksX0_appointments_0 : cX0_appointments.data.toList.drop 0 = dktX0_appointments_0 := by decide +kernel
theorem dksX0_appointments_1 : cX0_appointments.data.toList.drop 24 = dktX0_appointments_1 := dk_seg dksX0_appointments_0 24 rfl rfl
theorem dksX0_appointments_2 : cX0_appointments.data.toList.drop 48 = dktX0_appointments_2 := dk_seg dksX0_appointments_1 24 rfl rfl
theorem dksX0_appointments_3 : cX0_appointments.data.toList.drop 70 = dktX0_appointments_3 := dk_seg dksX0_appointments_2 22 rfl rfl
theorem dX0_appointments_0 : decode cX0_appointments 0 = .ok (.iload_n 1, 1) := dk_27 (dk_at dksX0_appointments_0 0 rfl rfl)
theorem dX0_appointments_1 : decode cX0_appointments 1 = .ok (.ifCond .le 43, 3) := dk_158 0 43 (dk_at dksX0_appointments_0 1 rfl rfl)
theorem dX0_appointments_4 : decode cX0_appointments 4 = .ok (.iload_n 1, 1) := dk_27 (dk_at dksX0_appointments_0 4 rfl rfl)
theorem dX0_appointments_5 : decode cX0_appointments 5 = .ok (.aload_n 0, 1) := dk_42 (dk_at dksX0_appointments_0 5 rfl rfl)
theorem dX0_appointments_6 : decode cX0_appointments 6 = .ok (.invokevirtual 352, 3) := dk_182 1 96 (dk_at dksX0_appointments_0 6 rfl rfl)
theorem dX0_appointments_9 : decode cX0_appointments 9 = .ok (.iconst (-1), 1) := dk_2 (dk_at dksX0_appointments_0 9 rfl rfl)
theorem dX0_appointments_10 : decode cX0_appointments 10 = .ok (.ixor, 1) := dk_130 (dk_at dksX0_appointments_0 10 rfl rfl)
theorem dX0_appointments_11 : decode cX0_appointments 11 = .ok (.iand, 1) := dk_126 (dk_at dksX0_appointments_0 11 rfl rfl)
theorem dX0_appointments_12 : decode cX0_appointments 12 = .ok (.ifCond .ne 32, 3) := dk_154 0 32 (dk_at dksX0_appointments_0 12 rfl rfl)
theorem dX0_appointments_15 : decode cX0_appointments 15 = .ok (.iload_n 1, 1) := dk_27 (dk_at dksX0_appointments_0 15 rfl rfl)
theorem dX0_appointments_16 : decode cX0_appointments 16 = .ok (.invokestatic 126, 3) := dk_184 0 126 (dk_at dksX0_appointments_0 16 rfl rfl)
theorem dX0_appointments_19 : decode cX0_appointments 19 = .ok (.iconst 5, 1) := dk_8 (dk_at dksX0_appointments_0 19 rfl rfl)
theorem dX0_appointments_20 : decode cX0_appointments 20 = .ok (.if_icmp .gt 24, 3) := dk_163 0 24 (dk_at dksX0_appointments_0 20 rfl rfl)
theorem dX0_appointments_23 : decode cX0_appointments 23 = .ok (.iload_n 2, 1) := dk_28 (dk_at dksX0_appointments_0 23 rfl rfl)
theorem dX0_appointments_24 : decode cX0_appointments 24 = .ok (.iconst (-1), 1) := dk_2 (dk_at dksX0_appointments_1 0 rfl rfl)
theorem dX0_appointments_25 : decode cX0_appointments 25 = .ok (.if_icmp .eq 22, 3) := dk_159 0 22 (dk_at dksX0_appointments_1 1 rfl rfl)
theorem dX0_appointments_28 : decode cX0_appointments 28 = .ok (.aload_n 0, 1) := dk_42 (dk_at dksX0_appointments_1 4 rfl rfl)
theorem dX0_appointments_29 : decode cX0_appointments 29 = .ok (.iload_n 2, 1) := dk_28 (dk_at dksX0_appointments_1 5 rfl rfl)
theorem dX0_appointments_30 : decode cX0_appointments 30 = .ok (.invokevirtual 70, 3) := dk_182 0 70 (dk_at dksX0_appointments_1 6 rfl rfl)
theorem dX0_appointments_33 : decode cX0_appointments 33 = .ok (.ifCond .eq 11, 3) := dk_153 0 11 (dk_at dksX0_appointments_1 9 rfl rfl)
theorem dX0_appointments_36 : decode cX0_appointments 36 = .ok (.iload_n 1, 1) := dk_27 (dk_at dksX0_appointments_1 12 rfl rfl)
theorem dX0_appointments_37 : decode cX0_appointments 37 = .ok (.iload_n 2, 1) := dk_28 (dk_at dksX0_appointments_1 13 rfl rfl)
theorem dX0_appointments_38 : decode cX0_appointments 38 = .ok (.invokestatic 66, 3) := dk_184 0 66 (dk_at dksX0_appointments_1 14 rfl rfl)
theorem dX0_appointments_41 : decode cX0_appointments 41 = .ok (.ifCond .ne 6, 3) := dk_154 0 6 (dk_at dksX0_appointments_1 17 rfl rfl)
theorem dX0_appointments_44 : decode cX0_appointments 44 = .ok (.bipush (-2), 2) := dk_16 254 (dk_at dksX0_appointments_1 20 rfl rfl)
theorem dX0_appointments_46 : decode cX0_appointments 46 = .ok (.ireturn, 1) := dk_172 (dk_at dksX0_appointments_1 22 rfl rfl)
theorem dX0_appointments_47 : decode cX0_appointments 47 = .ok (.iload_n 1, 1) := dk_27 (dk_at dksX0_appointments_1 23 rfl rfl)
theorem dX0_appointments_48 : decode cX0_appointments 48 = .ok (.invokestatic 126, 3) := dk_184 0 126 (dk_at dksX0_appointments_2 0 rfl rfl)
theorem dX0_appointments_51 : decode cX0_appointments 51 = .ok (.istore_n 3, 1) := dk_62 (dk_at dksX0_appointments_2 3 rfl rfl)
theorem dX0_appointments_52 : decode cX0_appointments 52 = .ok (.aload_n 0, 1) := dk_42 (dk_at dksX0_appointments_2 4 rfl rfl)
theorem dX0_appointments_53 : decode cX0_appointments 53 = .ok (.iload_n 1, 1) := dk_27 (dk_at dksX0_appointments_2 5 rfl rfl)
theorem dX0_appointments_54 : decode cX0_appointments 54 = .ok (.iconst 0, 1) := dk_3 (dk_at dksX0_appointments_2 6 rfl rfl)
theorem dX0_appointments_55 : decode cX0_appointments 55 = .ok (.iload_n 3, 1) := dk_29 (dk_at dksX0_appointments_2 7 rfl rfl)
theorem dX0_appointments_56 : decode cX0_appointments 56 = .ok (.invokevirtual 349, 3) := dk_182 1 93 (dk_at dksX0_appointments_2 8 rfl rfl)
theorem dX0_appointments_59 : decode cX0_appointments 59 = .ok (.ifCond .ne 9, 3) := dk_154 0 9 (dk_at dksX0_appointments_2 11 rfl rfl)
theorem dX0_appointments_62 : decode cX0_appointments 62 = .ok (.iinc 3 1, 3) := dk_132 3 1 (dk_at dksX0_appointments_2 14 rfl rfl)
theorem dX0_appointments_65 : decode cX0_appointments 65 = .ok (.goto (-13), 3) := dk_167 255 243 (dk_at dksX0_appointments_2 17 rfl rfl)
theorem dX0_appointments_68 : decode cX0_appointments 68 = .ok (.iload_n 2, 1) := dk_28 (dk_at dksX0_appointments_2 20 rfl rfl)
theorem dX0_appointments_69 : decode cX0_appointments 69 = .ok (.iconst (-1), 1) := dk_2 (dk_at dksX0_appointments_2 21 rfl rfl)
theorem dX0_appointments_70 : decode cX0_appointments 70 = .ok (.if_icmp .ne 7, 3) := dk_160 0 7 (dk_at dksX0_appointments_3 0 rfl rfl)
theorem dX0_appointments_73 : decode cX0_appointments 73 = .ok (.iload_n 3, 1) := dk_29 (dk_at dksX0_appointments_3 3 rfl rfl)
theorem dX0_appointments_74 : decode cX0_appointments 74 = .ok (.goto 9, 3) := dk_167 0 9 (dk_at dksX0_appointments_3 4 rfl rfl)
theorem dX0_appointments_77 : decode cX0_appointments 77 = .ok (.aload_n 0, 1) := dk_42 (dk_at dksX0_appointments_3 7 rfl rfl)
theorem dX0_appointments_78 : decode cX0_appointments 78 = .ok (.getfield 46, 3) := dk_180 0 46 (dk_at dksX0_appointments_3 8 rfl rfl)
theorem dX0_appointments_81 : decode cX0_appointments 81 = .ok (.iload_n 2, 1) := dk_28 (dk_at dksX0_appointments_3 11 rfl rfl)
theorem dX0_appointments_82 : decode cX0_appointments 82 = .ok (.iaload, 1) := dk_46 (dk_at dksX0_appointments_3 12 rfl rfl)
theorem dX0_appointments_83 : decode cX0_appointments 83 = .ok (.ireturn, 1) := dk_172 (dk_at dksX0_appointments_3 13 rfl rfl)
abbrev cX0_there : ByteArray := prog_1_method_9_code
def yX0_there : MethodName := ⟨RX0, "there", "()I"⟩
def dkwX0_there_1 : List UInt8 := [126, 172]
abbrev dktX0_there_1 : List UInt8 := dkwX0_there_1 ++ []
def dkwX0_there_0 : List UInt8 := [4, 42, 180, 0, 21, 180, 0, 59, 3, 46, 120, 4, 100, 42, 180, 0, 21, 180, 0, 74, 5, 46, 2, 130]
abbrev dktX0_there_0 : List UInt8 := dkwX0_there_0 ++ dktX0_there_1
theorem dksX0_there_0 : cX0_there.data.toList.drop 0 = dktX0_there_0 := by decide +kernel
theorem dksX0_there_1 : cX0_there.data.toList.drop 24 = dktX0_there_1 := dk_seg dksX0_there_0 24 rfl rfl
theorem dX0_there_0 : decode cX0_there 0 = .ok (.iconst 1, 1) := dk_4 (dk_at dksX0_there_0 0 rfl rfl)
theorem dX0_there_1 : decode cX0_there 1 = .ok (.aload_n 0, 1) := dk_42 (dk_at dksX0_there_0 1 rfl rfl)
theorem dX0_there_2 : decode cX0_there 2 = .ok (.getfield 21, 3) := dk_180 0 21 (dk_at dksX0_there_0 2 rfl rfl)
theorem dX0_there_5 : decode cX0_there 5 = .ok (.getfield 59, 3) := dk_180 0 59 (dk_at dksX0_there_0 5 rfl rfl)
theorem dX0_there_8 : decode cX0_there 8 = .ok (.iconst 0, 1) := dk_3 (dk_at dksX0_there_0 8 rfl rfl)
theorem dX0_there_9 : decode cX0_there 9 = .ok (.iaload, 1) := dk_46 (dk_at dksX0_there_0 9 rfl rfl)
theorem dX0_there_10 : decode cX0_there 10 = .ok (.ishl, 1) := dk_120 (dk_at dksX0_there_0 10 rfl rfl)
theorem dX0_there_11 : decode cX0_there 11 = .ok (.iconst 1, 1) := dk_4 (dk_at dksX0_there_0 11 rfl rfl)
theorem dX0_there_12 : decode cX0_there 12 = .ok (.isub, 1) := dk_100 (dk_at dksX0_there_0 12 rfl rfl)
theorem dX0_there_13 : decode cX0_there 13 = .ok (.aload_n 0, 1) := dk_42 (dk_at dksX0_there_0 13 rfl rfl)
theorem dX0_there_14 : decode cX0_there 14 = .ok (.getfield 21, 3) := dk_180 0 21 (dk_at dksX0_there_0 14 rfl rfl)
theorem dX0_there_17 : decode cX0_there 17 = .ok (.getfield 74, 3) := dk_180 0 74 (dk_at dksX0_there_0 17 rfl rfl)
theorem dX0_there_20 : decode cX0_there 20 = .ok (.iconst 2, 1) := dk_5 (dk_at dksX0_there_0 20 rfl rfl)
theorem dX0_there_21 : decode cX0_there 21 = .ok (.iaload, 1) := dk_46 (dk_at dksX0_there_0 21 rfl rfl)
theorem dX0_there_22 : decode cX0_there 22 = .ok (.iconst (-1), 1) := dk_2 (dk_at dksX0_there_0 22 rfl rfl)
theorem dX0_there_23 : decode cX0_there 23 = .ok (.ixor, 1) := dk_130 (dk_at dksX0_there_0 23 rfl rfl)
theorem dX0_there_24 : decode cX0_there 24 = .ok (.iand, 1) := dk_126 (dk_at dksX0_there_1 0 rfl rfl)
theorem dX0_there_25 : decode cX0_there 25 = .ok (.ireturn, 1) := dk_172 (dk_at dksX0_there_1 1 rfl rfl)
abbrev cX0_visits : ByteArray := prog_1_method_73_code
def yX0_visits : MethodName := ⟨RX0, "visits", "(III)Z"⟩
def dkwX0_visits_5 : List UInt8 := [42, 27, 28, 4, 96, 29, 182, 1, 93, 172]
abbrev dktX0_visits_5 : List UInt8 := dkwX0_visits_5 ++ []
def dkwX0_visits_4 : List UInt8 := [21, 5, 120, 2, 130, 126, 28, 4, 96, 29, 182, 1, 93, 153, 0, 5, 4, 172, 132, 5, 1, 167, 255, 178]
abbrev dktX0_visits_4 : List UInt8 := dkwX0_visits_4 ++ dktX0_visits_5
def dkwX0_visits_3 : List UInt8 := [96, 46, 21, 4, 184, 0, 66, 153, 0, 6, 167, 0, 32, 42, 180, 0, 46, 21, 5, 28, 79, 42, 27, 4]
abbrev dktX0_visits_3 : List UInt8 := dkwX0_visits_3 ++ dktX0_visits_4
def dkwX0_visits_2 : List UInt8 := [3, 46, 162, 0, 70, 27, 21, 5, 184, 0, 66, 153, 0, 55, 42, 180, 0, 21, 180, 0, 74, 6, 21, 5]
abbrev dktX0_visits_2 : List UInt8 := dkwX0_visits_2 ++ dktX0_visits_3
def dkwX0_visits_1 : List UInt8 := [180, 0, 74, 3, 46, 28, 96, 16, 20, 112, 54, 4, 3, 54, 5, 21, 5, 42, 180, 0, 21, 180, 0, 59]
abbrev dktX0_visits_1 : List UInt8 := dkwX0_visits_1 ++ dktX0_visits_2
def dkwX0_visits_0 : List UInt8 := [27, 154, 0, 5, 4, 172, 29, 28, 100, 27, 184, 0, 126, 162, 0, 5, 3, 172, 42, 180, 0, 21]
abbrev dktX0_visits_0 : List UInt8 := dkwX0_visits_0 ++ dktX0_visits_1
theorem dksX0_visits_0 : cX0_visits.data.toList.drop 0 = dktX0_visits_0 := by decide +kernel
theorem dksX0_visits_1 : cX0_visits.data.toList.drop 22 = dktX0_visits_1 := dk_seg dksX0_visits_0 22 rfl rfl
theorem dksX0_visits_2 : cX0_visits.data.toList.drop 46 = dktX0_visits_2 := dk_seg dksX0_visits_1 24 rfl rfl
theorem dksX0_visits_3 : cX0_visits.data.toList.drop 70 = dktX0_visits_3 := dk_seg dksX0_visits_2 24 rfl rfl
theorem dksX0_visits_4 : cX0_visits.data.toList.drop 94 = dktX0_visits_4 := dk_seg dksX0_visits_3 24 rfl rfl
theorem dksX0_visits_5 : cX0_visits.data.toList.drop 118 = dktX0_visits_5 := dk_seg dksX0_visits_4 24 rfl rfl
theorem dX0_visits_0 : decode cX0_visits 0 = .ok (.iload_n 1, 1) := dk_27 (dk_at dksX0_visits_0 0 rfl rfl)
theorem dX0_visits_1 : decode cX0_visits 1 = .ok (.ifCond .ne 5, 3) := dk_154 0 5 (dk_at dksX0_visits_0 1 rfl rfl)
theorem dX0_visits_4 : decode cX0_visits 4 = .ok (.iconst 1, 1) := dk_4 (dk_at dksX0_visits_0 4 rfl rfl)
theorem dX0_visits_5 : decode cX0_visits 5 = .ok (.ireturn, 1) := dk_172 (dk_at dksX0_visits_0 5 rfl rfl)
theorem dX0_visits_6 : decode cX0_visits 6 = .ok (.iload_n 3, 1) := dk_29 (dk_at dksX0_visits_0 6 rfl rfl)
theorem dX0_visits_7 : decode cX0_visits 7 = .ok (.iload_n 2, 1) := dk_28 (dk_at dksX0_visits_0 7 rfl rfl)
theorem dX0_visits_8 : decode cX0_visits 8 = .ok (.isub, 1) := dk_100 (dk_at dksX0_visits_0 8 rfl rfl)
theorem dX0_visits_9 : decode cX0_visits 9 = .ok (.iload_n 1, 1) := dk_27 (dk_at dksX0_visits_0 9 rfl rfl)
theorem dX0_visits_10 : decode cX0_visits 10 = .ok (.invokestatic 126, 3) := dk_184 0 126 (dk_at dksX0_visits_0 10 rfl rfl)
theorem dX0_visits_13 : decode cX0_visits 13 = .ok (.if_icmp .ge 5, 3) := dk_162 0 5 (dk_at dksX0_visits_0 13 rfl rfl)
theorem dX0_visits_16 : decode cX0_visits 16 = .ok (.iconst 0, 1) := dk_3 (dk_at dksX0_visits_0 16 rfl rfl)
theorem dX0_visits_17 : decode cX0_visits 17 = .ok (.ireturn, 1) := dk_172 (dk_at dksX0_visits_0 17 rfl rfl)
theorem dX0_visits_18 : decode cX0_visits 18 = .ok (.aload_n 0, 1) := dk_42 (dk_at dksX0_visits_0 18 rfl rfl)
theorem dX0_visits_19 : decode cX0_visits 19 = .ok (.getfield 21, 3) := dk_180 0 21 (dk_at dksX0_visits_0 19 rfl rfl)
theorem dX0_visits_22 : decode cX0_visits 22 = .ok (.getfield 74, 3) := dk_180 0 74 (dk_at dksX0_visits_1 0 rfl rfl)
theorem dX0_visits_25 : decode cX0_visits 25 = .ok (.iconst 0, 1) := dk_3 (dk_at dksX0_visits_1 3 rfl rfl)
theorem dX0_visits_26 : decode cX0_visits 26 = .ok (.iaload, 1) := dk_46 (dk_at dksX0_visits_1 4 rfl rfl)
theorem dX0_visits_27 : decode cX0_visits 27 = .ok (.iload_n 2, 1) := dk_28 (dk_at dksX0_visits_1 5 rfl rfl)
theorem dX0_visits_28 : decode cX0_visits 28 = .ok (.iadd, 1) := dk_96 (dk_at dksX0_visits_1 6 rfl rfl)
theorem dX0_visits_29 : decode cX0_visits 29 = .ok (.bipush 20, 2) := dk_16 20 (dk_at dksX0_visits_1 7 rfl rfl)
theorem dX0_visits_31 : decode cX0_visits 31 = .ok (.irem, 1) := dk_112 (dk_at dksX0_visits_1 9 rfl rfl)
theorem dX0_visits_32 : decode cX0_visits 32 = .ok (.istore 4, 2) := dk_54 4 (dk_at dksX0_visits_1 10 rfl rfl)
theorem dX0_visits_34 : decode cX0_visits 34 = .ok (.iconst 0, 1) := dk_3 (dk_at dksX0_visits_1 12 rfl rfl)
theorem dX0_visits_35 : decode cX0_visits 35 = .ok (.istore 5, 2) := dk_54 5 (dk_at dksX0_visits_1 13 rfl rfl)
theorem dX0_visits_37 : decode cX0_visits 37 = .ok (.iload 5, 2) := dk_21 5 (dk_at dksX0_visits_1 15 rfl rfl)
theorem dX0_visits_39 : decode cX0_visits 39 = .ok (.aload_n 0, 1) := dk_42 (dk_at dksX0_visits_1 17 rfl rfl)
theorem dX0_visits_40 : decode cX0_visits 40 = .ok (.getfield 21, 3) := dk_180 0 21 (dk_at dksX0_visits_1 18 rfl rfl)
theorem dX0_visits_43 : decode cX0_visits 43 = .ok (.getfield 59, 3) := dk_180 0 59 (dk_at dksX0_visits_1 21 rfl rfl)
theorem dX0_visits_46 : decode cX0_visits 46 = .ok (.iconst 0, 1) := dk_3 (dk_at dksX0_visits_2 0 rfl rfl)
theorem dX0_visits_47 : decode cX0_visits 47 = .ok (.iaload, 1) := dk_46 (dk_at dksX0_visits_2 1 rfl rfl)
theorem dX0_visits_48 : decode cX0_visits 48 = .ok (.if_icmp .ge 70, 3) := dk_162 0 70 (dk_at dksX0_visits_2 2 rfl rfl)
theorem dX0_visits_51 : decode cX0_visits 51 = .ok (.iload_n 1, 1) := dk_27 (dk_at dksX0_visits_2 5 rfl rfl)
theorem dX0_visits_52 : decode cX0_visits 52 = .ok (.iload 5, 2) := dk_21 5 (dk_at dksX0_visits_2 6 rfl rfl)
theorem dX0_visits_54 : decode cX0_visits 54 = .ok (.invokestatic 66, 3) := dk_184 0 66 (dk_at dksX0_visits_2 8 rfl rfl)
theorem dX0_visits_57 : decode cX0_visits 57 = .ok (.ifCond .eq 55, 3) := dk_153 0 55 (dk_at dksX0_visits_2 11 rfl rfl)
theorem dX0_visits_60 : decode cX0_visits 60 = .ok (.aload_n 0, 1) := dk_42 (dk_at dksX0_visits_2 14 rfl rfl)
theorem dX0_visits_61 : decode cX0_visits 61 = .ok (.getfield 21, 3) := dk_180 0 21 (dk_at dksX0_visits_2 15 rfl rfl)
theorem dX0_visits_64 : decode cX0_visits 64 = .ok (.getfield 74, 3) := dk_180 0 74 (dk_at dksX0_visits_2 18 rfl rfl)
theorem dX0_visits_67 : decode cX0_visits 67 = .ok (.iconst 3, 1) := dk_6 (dk_at dksX0_visits_2 21 rfl rfl)
theorem dX0_visits_68 : decode cX0_visits 68 = .ok (.iload 5, 2) := dk_21 5 (dk_at dksX0_visits_2 22 rfl rfl)
theorem dX0_visits_70 : decode cX0_visits 70 = .ok (.iadd, 1) := dk_96 (dk_at dksX0_visits_3 0 rfl rfl)
theorem dX0_visits_71 : decode cX0_visits 71 = .ok (.iaload, 1) := dk_46 (dk_at dksX0_visits_3 1 rfl rfl)
theorem dX0_visits_72 : decode cX0_visits 72 = .ok (.iload 4, 2) := dk_21 4 (dk_at dksX0_visits_3 2 rfl rfl)
theorem dX0_visits_74 : decode cX0_visits 74 = .ok (.invokestatic 66, 3) := dk_184 0 66 (dk_at dksX0_visits_3 4 rfl rfl)
theorem dX0_visits_77 : decode cX0_visits 77 = .ok (.ifCond .eq 6, 3) := dk_153 0 6 (dk_at dksX0_visits_3 7 rfl rfl)
theorem dX0_visits_80 : decode cX0_visits 80 = .ok (.goto 32, 3) := dk_167 0 32 (dk_at dksX0_visits_3 10 rfl rfl)
theorem dX0_visits_83 : decode cX0_visits 83 = .ok (.aload_n 0, 1) := dk_42 (dk_at dksX0_visits_3 13 rfl rfl)
theorem dX0_visits_84 : decode cX0_visits 84 = .ok (.getfield 46, 3) := dk_180 0 46 (dk_at dksX0_visits_3 14 rfl rfl)
theorem dX0_visits_87 : decode cX0_visits 87 = .ok (.iload 5, 2) := dk_21 5 (dk_at dksX0_visits_3 17 rfl rfl)
theorem dX0_visits_89 : decode cX0_visits 89 = .ok (.iload_n 2, 1) := dk_28 (dk_at dksX0_visits_3 19 rfl rfl)
theorem dX0_visits_90 : decode cX0_visits 90 = .ok (.iastore, 1) := dk_79 (dk_at dksX0_visits_3 20 rfl rfl)
theorem dX0_visits_91 : decode cX0_visits 91 = .ok (.aload_n 0, 1) := dk_42 (dk_at dksX0_visits_3 21 rfl rfl)
theorem dX0_visits_92 : decode cX0_visits 92 = .ok (.iload_n 1, 1) := dk_27 (dk_at dksX0_visits_3 22 rfl rfl)
theorem dX0_visits_93 : decode cX0_visits 93 = .ok (.iconst 1, 1) := dk_4 (dk_at dksX0_visits_3 23 rfl rfl)
theorem dX0_visits_94 : decode cX0_visits 94 = .ok (.iload 5, 2) := dk_21 5 (dk_at dksX0_visits_4 0 rfl rfl)
theorem dX0_visits_96 : decode cX0_visits 96 = .ok (.ishl, 1) := dk_120 (dk_at dksX0_visits_4 2 rfl rfl)
theorem dX0_visits_97 : decode cX0_visits 97 = .ok (.iconst (-1), 1) := dk_2 (dk_at dksX0_visits_4 3 rfl rfl)
theorem dX0_visits_98 : decode cX0_visits 98 = .ok (.ixor, 1) := dk_130 (dk_at dksX0_visits_4 4 rfl rfl)
theorem dX0_visits_99 : decode cX0_visits 99 = .ok (.iand, 1) := dk_126 (dk_at dksX0_visits_4 5 rfl rfl)
theorem dX0_visits_100 : decode cX0_visits 100 = .ok (.iload_n 2, 1) := dk_28 (dk_at dksX0_visits_4 6 rfl rfl)
theorem dX0_visits_101 : decode cX0_visits 101 = .ok (.iconst 1, 1) := dk_4 (dk_at dksX0_visits_4 7 rfl rfl)
theorem dX0_visits_102 : decode cX0_visits 102 = .ok (.iadd, 1) := dk_96 (dk_at dksX0_visits_4 8 rfl rfl)
theorem dX0_visits_103 : decode cX0_visits 103 = .ok (.iload_n 3, 1) := dk_29 (dk_at dksX0_visits_4 9 rfl rfl)
theorem dX0_visits_104 : decode cX0_visits 104 = .ok (.invokevirtual 349, 3) := dk_182 1 93 (dk_at dksX0_visits_4 10 rfl rfl)
theorem dX0_visits_107 : decode cX0_visits 107 = .ok (.ifCond .eq 5, 3) := dk_153 0 5 (dk_at dksX0_visits_4 13 rfl rfl)
theorem dX0_visits_110 : decode cX0_visits 110 = .ok (.iconst 1, 1) := dk_4 (dk_at dksX0_visits_4 16 rfl rfl)
theorem dX0_visits_111 : decode cX0_visits 111 = .ok (.ireturn, 1) := dk_172 (dk_at dksX0_visits_4 17 rfl rfl)
theorem dX0_visits_112 : decode cX0_visits 112 = .ok (.iinc 5 1, 3) := dk_132 5 1 (dk_at dksX0_visits_4 18 rfl rfl)
theorem dX0_visits_115 : decode cX0_visits 115 = .ok (.goto (-78), 3) := dk_167 255 178 (dk_at dksX0_visits_4 21 rfl rfl)
theorem dX0_visits_118 : decode cX0_visits 118 = .ok (.aload_n 0, 1) := dk_42 (dk_at dksX0_visits_5 0 rfl rfl)
theorem dX0_visits_119 : decode cX0_visits 119 = .ok (.iload_n 1, 1) := dk_27 (dk_at dksX0_visits_5 1 rfl rfl)
theorem dX0_visits_120 : decode cX0_visits 120 = .ok (.iload_n 2, 1) := dk_28 (dk_at dksX0_visits_5 2 rfl rfl)
theorem dX0_visits_121 : decode cX0_visits 121 = .ok (.iconst 1, 1) := dk_4 (dk_at dksX0_visits_5 3 rfl rfl)
theorem dX0_visits_122 : decode cX0_visits 122 = .ok (.iadd, 1) := dk_96 (dk_at dksX0_visits_5 4 rfl rfl)
theorem dX0_visits_123 : decode cX0_visits 123 = .ok (.iload_n 3, 1) := dk_29 (dk_at dksX0_visits_5 5 rfl rfl)
theorem dX0_visits_124 : decode cX0_visits 124 = .ok (.invokevirtual 349, 3) := dk_182 1 93 (dk_at dksX0_visits_5 6 rfl rfl)
theorem dX0_visits_127 : decode cX0_visits 127 = .ok (.ireturn, 1) := dk_172 (dk_at dksX0_visits_5 9 rfl rfl)
abbrev cX0_rounds : ByteArray := prog_1_method_77_code
def yX0_rounds : MethodName := ⟨RX0, "rounds", "()I"⟩
def dkwX0_rounds_2 : List UInt8 := [132, 1, 1, 167, 255, 217, 16, 15, 172]
abbrev dktX0_rounds_2 : List UInt8 := dkwX0_rounds_2 ++ []
def dkwX0_rounds_1 : List UInt8 := [19, 1, 99, 162, 0, 21, 42, 28, 182, 1, 100, 153, 0, 5, 28, 172, 28, 184, 1, 103, 61, 167, 255, 234]
abbrev dktX0_rounds_1 : List UInt8 := dkwX0_rounds_1 ++ dktX0_rounds_2
def dkwX0_rounds_0 : List UInt8 := [42, 182, 1, 96, 154, 0, 5, 3, 172, 4, 60, 27, 6, 163, 0, 40, 4, 27, 120, 4, 100, 61, 28]
abbrev dktX0_rounds_0 : List UInt8 := dkwX0_rounds_0 ++ dktX0_rounds_1
theorem dksX0_rounds_0 : cX0_rounds.data.toList.drop 0 = dktX0_rounds_0 := by decide +kernel
theorem dksX0_rounds_1 : cX0_rounds.data.toList.drop 23 = dktX0_rounds_1 := dk_seg dksX0_rounds_0 23 rfl rfl
theorem dksX0_rounds_2 : cX0_rounds.data.toList.drop 47 = dktX0_rounds_2 := dk_seg dksX0_rounds_1 24 rfl rfl
theorem dX0_rounds_0 : decode cX0_rounds 0 = .ok (.aload_n 0, 1) := dk_42 (dk_at dksX0_rounds_0 0 rfl rfl)
theorem dX0_rounds_1 : decode cX0_rounds 1 = .ok (.invokevirtual 352, 3) := dk_182 1 96 (dk_at dksX0_rounds_0 1 rfl rfl)
theorem dX0_rounds_4 : decode cX0_rounds 4 = .ok (.ifCond .ne 5, 3) := dk_154 0 5 (dk_at dksX0_rounds_0 4 rfl rfl)
theorem dX0_rounds_7 : decode cX0_rounds 7 = .ok (.iconst 0, 1) := dk_3 (dk_at dksX0_rounds_0 7 rfl rfl)
theorem dX0_rounds_8 : decode cX0_rounds 8 = .ok (.ireturn, 1) := dk_172 (dk_at dksX0_rounds_0 8 rfl rfl)
theorem dX0_rounds_9 : decode cX0_rounds 9 = .ok (.iconst 1, 1) := dk_4 (dk_at dksX0_rounds_0 9 rfl rfl)
theorem dX0_rounds_10 : decode cX0_rounds 10 = .ok (.istore_n 1, 1) := dk_60 (dk_at dksX0_rounds_0 10 rfl rfl)
theorem dX0_rounds_11 : decode cX0_rounds 11 = .ok (.iload_n 1, 1) := dk_27 (dk_at dksX0_rounds_0 11 rfl rfl)
theorem dX0_rounds_12 : decode cX0_rounds 12 = .ok (.iconst 3, 1) := dk_6 (dk_at dksX0_rounds_0 12 rfl rfl)
theorem dX0_rounds_13 : decode cX0_rounds 13 = .ok (.if_icmp .gt 40, 3) := dk_163 0 40 (dk_at dksX0_rounds_0 13 rfl rfl)
theorem dX0_rounds_16 : decode cX0_rounds 16 = .ok (.iconst 1, 1) := dk_4 (dk_at dksX0_rounds_0 16 rfl rfl)
theorem dX0_rounds_17 : decode cX0_rounds 17 = .ok (.iload_n 1, 1) := dk_27 (dk_at dksX0_rounds_0 17 rfl rfl)
theorem dX0_rounds_18 : decode cX0_rounds 18 = .ok (.ishl, 1) := dk_120 (dk_at dksX0_rounds_0 18 rfl rfl)
theorem dX0_rounds_19 : decode cX0_rounds 19 = .ok (.iconst 1, 1) := dk_4 (dk_at dksX0_rounds_0 19 rfl rfl)
theorem dX0_rounds_20 : decode cX0_rounds 20 = .ok (.isub, 1) := dk_100 (dk_at dksX0_rounds_0 20 rfl rfl)
theorem dX0_rounds_21 : decode cX0_rounds 21 = .ok (.istore_n 2, 1) := dk_61 (dk_at dksX0_rounds_0 21 rfl rfl)
theorem dX0_rounds_22 : decode cX0_rounds 22 = .ok (.iload_n 2, 1) := dk_28 (dk_at dksX0_rounds_0 22 rfl rfl)
theorem dX0_rounds_23 : decode cX0_rounds 23 = .ok (.ldc_w 355, 3) := dk_19 1 99 (dk_at dksX0_rounds_1 0 rfl rfl)
theorem dX0_rounds_26 : decode cX0_rounds 26 = .ok (.if_icmp .ge 21, 3) := dk_162 0 21 (dk_at dksX0_rounds_1 3 rfl rfl)
theorem dX0_rounds_29 : decode cX0_rounds 29 = .ok (.aload_n 0, 1) := dk_42 (dk_at dksX0_rounds_1 6 rfl rfl)
theorem dX0_rounds_30 : decode cX0_rounds 30 = .ok (.iload_n 2, 1) := dk_28 (dk_at dksX0_rounds_1 7 rfl rfl)
theorem dX0_rounds_31 : decode cX0_rounds 31 = .ok (.invokevirtual 356, 3) := dk_182 1 100 (dk_at dksX0_rounds_1 8 rfl rfl)
theorem dX0_rounds_34 : decode cX0_rounds 34 = .ok (.ifCond .eq 5, 3) := dk_153 0 5 (dk_at dksX0_rounds_1 11 rfl rfl)
theorem dX0_rounds_37 : decode cX0_rounds 37 = .ok (.iload_n 2, 1) := dk_28 (dk_at dksX0_rounds_1 14 rfl rfl)
theorem dX0_rounds_38 : decode cX0_rounds 38 = .ok (.ireturn, 1) := dk_172 (dk_at dksX0_rounds_1 15 rfl rfl)
theorem dX0_rounds_39 : decode cX0_rounds 39 = .ok (.iload_n 2, 1) := dk_28 (dk_at dksX0_rounds_1 16 rfl rfl)
theorem dX0_rounds_40 : decode cX0_rounds 40 = .ok (.invokestatic 359, 3) := dk_184 1 103 (dk_at dksX0_rounds_1 17 rfl rfl)
theorem dX0_rounds_43 : decode cX0_rounds 43 = .ok (.istore_n 2, 1) := dk_61 (dk_at dksX0_rounds_1 20 rfl rfl)
theorem dX0_rounds_44 : decode cX0_rounds 44 = .ok (.goto (-22), 3) := dk_167 255 234 (dk_at dksX0_rounds_1 21 rfl rfl)
theorem dX0_rounds_47 : decode cX0_rounds 47 = .ok (.iinc 1 1, 3) := dk_132 1 1 (dk_at dksX0_rounds_2 0 rfl rfl)
theorem dX0_rounds_50 : decode cX0_rounds 50 = .ok (.goto (-39), 3) := dk_167 255 217 (dk_at dksX0_rounds_2 3 rfl rfl)
theorem dX0_rounds_53 : decode cX0_rounds 53 = .ok (.bipush 15, 2) := dk_16 15 (dk_at dksX0_rounds_2 6 rfl rfl)
theorem dX0_rounds_55 : decode cX0_rounds 55 = .ok (.ireturn, 1) := dk_172 (dk_at dksX0_rounds_2 8 rfl rfl)
abbrev cX0_isRound : ByteArray := prog_1_method_75_code
def yX0_isRound : MethodName := ⟨RX0, "isRound", "(I)Z"⟩
def dkwX0_isRound_2 : List UInt8 := [167, 255, 212, 4, 172]
abbrev dktX0_isRound_2 : List UInt8 := dkwX0_isRound_2 ++ []
def dkwX0_isRound_1 : List UInt8 := [42, 180, 0, 21, 180, 0, 74, 6, 28, 96, 46, 2, 130, 126, 154, 0, 5, 3, 172, 132, 2, 1]
abbrev dktX0_isRound_1 : List UInt8 := dkwX0_isRound_1 ++ dktX0_isRound_2
def dkwX0_isRound_0 : List UInt8 := [3, 61, 28, 42, 180, 0, 21, 180, 0, 59, 3, 46, 162, 0, 37, 42, 28, 182, 0, 209, 153, 0, 23, 27]
abbrev dktX0_isRound_0 : List UInt8 := dkwX0_isRound_0 ++ dktX0_isRound_1
theorem dksX0_isRound_0 : cX0_isRound.data.toList.drop 0 = dktX0_isRound_0 := by decide +kernel
theorem dksX0_isRound_1 : cX0_isRound.data.toList.drop 24 = dktX0_isRound_1 := dk_seg dksX0_isRound_0 24 rfl rfl
theorem dksX0_isRound_2 : cX0_isRound.data.toList.drop 46 = dktX0_isRound_2 := dk_seg dksX0_isRound_1 22 rfl rfl
theorem dX0_isRound_0 : decode cX0_isRound 0 = .ok (.iconst 0, 1) := dk_3 (dk_at dksX0_isRound_0 0 rfl rfl)
theorem dX0_isRound_1 : decode cX0_isRound 1 = .ok (.istore_n 2, 1) := dk_61 (dk_at dksX0_isRound_0 1 rfl rfl)
theorem dX0_isRound_2 : decode cX0_isRound 2 = .ok (.iload_n 2, 1) := dk_28 (dk_at dksX0_isRound_0 2 rfl rfl)
theorem dX0_isRound_3 : decode cX0_isRound 3 = .ok (.aload_n 0, 1) := dk_42 (dk_at dksX0_isRound_0 3 rfl rfl)
theorem dX0_isRound_4 : decode cX0_isRound 4 = .ok (.getfield 21, 3) := dk_180 0 21 (dk_at dksX0_isRound_0 4 rfl rfl)
theorem dX0_isRound_7 : decode cX0_isRound 7 = .ok (.getfield 59, 3) := dk_180 0 59 (dk_at dksX0_isRound_0 7 rfl rfl)
theorem dX0_isRound_10 : decode cX0_isRound 10 = .ok (.iconst 0, 1) := dk_3 (dk_at dksX0_isRound_0 10 rfl rfl)
theorem dX0_isRound_11 : decode cX0_isRound 11 = .ok (.iaload, 1) := dk_46 (dk_at dksX0_isRound_0 11 rfl rfl)
theorem dX0_isRound_12 : decode cX0_isRound 12 = .ok (.if_icmp .ge 37, 3) := dk_162 0 37 (dk_at dksX0_isRound_0 12 rfl rfl)
theorem dX0_isRound_15 : decode cX0_isRound 15 = .ok (.aload_n 0, 1) := dk_42 (dk_at dksX0_isRound_0 15 rfl rfl)
theorem dX0_isRound_16 : decode cX0_isRound 16 = .ok (.iload_n 2, 1) := dk_28 (dk_at dksX0_isRound_0 16 rfl rfl)
theorem dX0_isRound_17 : decode cX0_isRound 17 = .ok (.invokevirtual 209, 3) := dk_182 0 209 (dk_at dksX0_isRound_0 17 rfl rfl)
theorem dX0_isRound_20 : decode cX0_isRound 20 = .ok (.ifCond .eq 23, 3) := dk_153 0 23 (dk_at dksX0_isRound_0 20 rfl rfl)
theorem dX0_isRound_23 : decode cX0_isRound 23 = .ok (.iload_n 1, 1) := dk_27 (dk_at dksX0_isRound_0 23 rfl rfl)
theorem dX0_isRound_24 : decode cX0_isRound 24 = .ok (.aload_n 0, 1) := dk_42 (dk_at dksX0_isRound_1 0 rfl rfl)
theorem dX0_isRound_25 : decode cX0_isRound 25 = .ok (.getfield 21, 3) := dk_180 0 21 (dk_at dksX0_isRound_1 1 rfl rfl)
theorem dX0_isRound_28 : decode cX0_isRound 28 = .ok (.getfield 74, 3) := dk_180 0 74 (dk_at dksX0_isRound_1 4 rfl rfl)
theorem dX0_isRound_31 : decode cX0_isRound 31 = .ok (.iconst 3, 1) := dk_6 (dk_at dksX0_isRound_1 7 rfl rfl)
theorem dX0_isRound_32 : decode cX0_isRound 32 = .ok (.iload_n 2, 1) := dk_28 (dk_at dksX0_isRound_1 8 rfl rfl)
theorem dX0_isRound_33 : decode cX0_isRound 33 = .ok (.iadd, 1) := dk_96 (dk_at dksX0_isRound_1 9 rfl rfl)
theorem dX0_isRound_34 : decode cX0_isRound 34 = .ok (.iaload, 1) := dk_46 (dk_at dksX0_isRound_1 10 rfl rfl)
theorem dX0_isRound_35 : decode cX0_isRound 35 = .ok (.iconst (-1), 1) := dk_2 (dk_at dksX0_isRound_1 11 rfl rfl)
theorem dX0_isRound_36 : decode cX0_isRound 36 = .ok (.ixor, 1) := dk_130 (dk_at dksX0_isRound_1 12 rfl rfl)
theorem dX0_isRound_37 : decode cX0_isRound 37 = .ok (.iand, 1) := dk_126 (dk_at dksX0_isRound_1 13 rfl rfl)
theorem dX0_isRound_38 : decode cX0_isRound 38 = .ok (.ifCond .ne 5, 3) := dk_154 0 5 (dk_at dksX0_isRound_1 14 rfl rfl)
theorem dX0_isRound_41 : decode cX0_isRound 41 = .ok (.iconst 0, 1) := dk_3 (dk_at dksX0_isRound_1 17 rfl rfl)
theorem dX0_isRound_42 : decode cX0_isRound 42 = .ok (.ireturn, 1) := dk_172 (dk_at dksX0_isRound_1 18 rfl rfl)
theorem dX0_isRound_43 : decode cX0_isRound 43 = .ok (.iinc 2 1, 3) := dk_132 2 1 (dk_at dksX0_isRound_1 19 rfl rfl)
theorem dX0_isRound_46 : decode cX0_isRound 46 = .ok (.goto (-44), 3) := dk_167 255 212 (dk_at dksX0_isRound_2 0 rfl rfl)
theorem dX0_isRound_49 : decode cX0_isRound 49 = .ok (.iconst 1, 1) := dk_4 (dk_at dksX0_isRound_2 3 rfl rfl)
theorem dX0_isRound_50 : decode cX0_isRound 50 = .ok (.ireturn, 1) := dk_172 (dk_at dksX0_isRound_2 4 rfl rfl)
abbrev cX0_nextLike : ByteArray := prog_1_method_76_code
def yX0_nextLike : MethodName := ⟨RX0, "nextLike", "(I)I"⟩
def dkwX0_nextLike_0 : List UInt8 := [26, 26, 116, 126, 60, 26, 27, 96, 61, 28, 26, 28, 130, 27, 108, 5, 122, 128, 172]
abbrev dktX0_nextLike_0 : List UInt8 := dkwX0_nextLike_0 ++ []
theorem dksX0_nextLike_0 : cX0_nextLike.data.toList.drop 0 = dktX0_nextLike_0 := by decide +kernel
theorem dX0_nextLike_0 : decode cX0_nextLike 0 = .ok (.iload_n 0, 1) := dk_26 (dk_at dksX0_nextLike_0 0 rfl rfl)
theorem dX0_nextLike_1 : decode cX0_nextLike 1 = .ok (.iload_n 0, 1) := dk_26 (dk_at dksX0_nextLike_0 1 rfl rfl)
theorem dX0_nextLike_2 : decode cX0_nextLike 2 = .ok (.ineg, 1) := dk_116 (dk_at dksX0_nextLike_0 2 rfl rfl)
theorem dX0_nextLike_3 : decode cX0_nextLike 3 = .ok (.iand, 1) := dk_126 (dk_at dksX0_nextLike_0 3 rfl rfl)
theorem dX0_nextLike_4 : decode cX0_nextLike 4 = .ok (.istore_n 1, 1) := dk_60 (dk_at dksX0_nextLike_0 4 rfl rfl)
theorem dX0_nextLike_5 : decode cX0_nextLike 5 = .ok (.iload_n 0, 1) := dk_26 (dk_at dksX0_nextLike_0 5 rfl rfl)
theorem dX0_nextLike_6 : decode cX0_nextLike 6 = .ok (.iload_n 1, 1) := dk_27 (dk_at dksX0_nextLike_0 6 rfl rfl)
theorem dX0_nextLike_7 : decode cX0_nextLike 7 = .ok (.iadd, 1) := dk_96 (dk_at dksX0_nextLike_0 7 rfl rfl)
theorem dX0_nextLike_8 : decode cX0_nextLike 8 = .ok (.istore_n 2, 1) := dk_61 (dk_at dksX0_nextLike_0 8 rfl rfl)
theorem dX0_nextLike_9 : decode cX0_nextLike 9 = .ok (.iload_n 2, 1) := dk_28 (dk_at dksX0_nextLike_0 9 rfl rfl)
theorem dX0_nextLike_10 : decode cX0_nextLike 10 = .ok (.iload_n 0, 1) := dk_26 (dk_at dksX0_nextLike_0 10 rfl rfl)
theorem dX0_nextLike_11 : decode cX0_nextLike 11 = .ok (.iload_n 2, 1) := dk_28 (dk_at dksX0_nextLike_0 11 rfl rfl)
theorem dX0_nextLike_12 : decode cX0_nextLike 12 = .ok (.ixor, 1) := dk_130 (dk_at dksX0_nextLike_0 12 rfl rfl)
theorem dX0_nextLike_13 : decode cX0_nextLike 13 = .ok (.iload_n 1, 1) := dk_27 (dk_at dksX0_nextLike_0 13 rfl rfl)
theorem dX0_nextLike_14 : decode cX0_nextLike 14 = .ok (.idiv, 1) := dk_108 (dk_at dksX0_nextLike_0 14 rfl rfl)
theorem dX0_nextLike_15 : decode cX0_nextLike 15 = .ok (.iconst 2, 1) := dk_5 (dk_at dksX0_nextLike_0 15 rfl rfl)
theorem dX0_nextLike_16 : decode cX0_nextLike 16 = .ok (.ishr, 1) := dk_122 (dk_at dksX0_nextLike_0 16 rfl rfl)
theorem dX0_nextLike_17 : decode cX0_nextLike 17 = .ok (.ior, 1) := dk_128 (dk_at dksX0_nextLike_0 17 rfl rfl)
theorem dX0_nextLike_18 : decode cX0_nextLike 18 = .ok (.ireturn, 1) := dk_172 (dk_at dksX0_nextLike_0 18 rfl rfl)
abbrev cX0_weddings : ByteArray := prog_1_method_79_code
def yX0_weddings : MethodName := ⟨RX0, "weddings", "(I)I"⟩
def dkwX0_weddings_3 : List UInt8 := [172]
abbrev dktX0_weddings_3 : List UInt8 := dkwX0_weddings_3 ++ []
def dkwX0_weddings_2 : List UInt8 := [180, 1, 106, 167, 0, 21, 42, 27, 182, 0, 209, 153, 0, 12, 42, 180, 0, 52, 27, 46, 167, 0, 4, 2]
abbrev dktX0_weddings_2 : List UInt8 := dkwX0_weddings_2 ++ dktX0_weddings_3
def dkwX0_weddings_1 : List UInt8 := [180, 0, 49, 2, 184, 1, 115, 42, 42, 182, 1, 96, 3, 182, 1, 112, 27, 2, 160, 0, 10, 42]
abbrev dktX0_weddings_1 : List UInt8 := dkwX0_weddings_1 ++ dktX0_weddings_2
def dkwX0_weddings_0 : List UInt8 := [27, 2, 159, 0, 14, 42, 27, 182, 0, 70, 154, 0, 6, 16, 254, 172, 42, 2, 181, 1, 106, 42]
abbrev dktX0_weddings_0 : List UInt8 := dkwX0_weddings_0 ++ dktX0_weddings_1
theorem dksX0_weddings_0 : cX0_weddings.data.toList.drop 0 = dktX0_weddings_0 := by decide +kernel
theorem dksX0_weddings_1 : cX0_weddings.data.toList.drop 22 = dktX0_weddings_1 := dk_seg dksX0_weddings_0 22 rfl rfl
theorem dksX0_weddings_2 : cX0_weddings.data.toList.drop 44 = dktX0_weddings_2 := dk_seg dksX0_weddings_1 22 rfl rfl
theorem dksX0_weddings_3 : cX0_weddings.data.toList.drop 68 = dktX0_weddings_3 := dk_seg dksX0_weddings_2 24 rfl rfl
theorem dX0_weddings_0 : decode cX0_weddings 0 = .ok (.iload_n 1, 1) := dk_27 (dk_at dksX0_weddings_0 0 rfl rfl)
theorem dX0_weddings_1 : decode cX0_weddings 1 = .ok (.iconst (-1), 1) := dk_2 (dk_at dksX0_weddings_0 1 rfl rfl)
theorem dX0_weddings_2 : decode cX0_weddings 2 = .ok (.if_icmp .eq 14, 3) := dk_159 0 14 (dk_at dksX0_weddings_0 2 rfl rfl)
theorem dX0_weddings_5 : decode cX0_weddings 5 = .ok (.aload_n 0, 1) := dk_42 (dk_at dksX0_weddings_0 5 rfl rfl)
theorem dX0_weddings_6 : decode cX0_weddings 6 = .ok (.iload_n 1, 1) := dk_27 (dk_at dksX0_weddings_0 6 rfl rfl)
theorem dX0_weddings_7 : decode cX0_weddings 7 = .ok (.invokevirtual 70, 3) := dk_182 0 70 (dk_at dksX0_weddings_0 7 rfl rfl)
theorem dX0_weddings_10 : decode cX0_weddings 10 = .ok (.ifCond .ne 6, 3) := dk_154 0 6 (dk_at dksX0_weddings_0 10 rfl rfl)
theorem dX0_weddings_13 : decode cX0_weddings 13 = .ok (.bipush (-2), 2) := dk_16 254 (dk_at dksX0_weddings_0 13 rfl rfl)
theorem dX0_weddings_15 : decode cX0_weddings 15 = .ok (.ireturn, 1) := dk_172 (dk_at dksX0_weddings_0 15 rfl rfl)
theorem dX0_weddings_16 : decode cX0_weddings 16 = .ok (.aload_n 0, 1) := dk_42 (dk_at dksX0_weddings_0 16 rfl rfl)
theorem dX0_weddings_17 : decode cX0_weddings 17 = .ok (.iconst (-1), 1) := dk_2 (dk_at dksX0_weddings_0 17 rfl rfl)
theorem dX0_weddings_18 : decode cX0_weddings 18 = .ok (.putfield 362, 3) := dk_181 1 106 (dk_at dksX0_weddings_0 18 rfl rfl)
theorem dX0_weddings_21 : decode cX0_weddings 21 = .ok (.aload_n 0, 1) := dk_42 (dk_at dksX0_weddings_0 21 rfl rfl)
theorem dX0_weddings_22 : decode cX0_weddings 22 = .ok (.getfield 49, 3) := dk_180 0 49 (dk_at dksX0_weddings_1 0 rfl rfl)
theorem dX0_weddings_25 : decode cX0_weddings 25 = .ok (.iconst (-1), 1) := dk_2 (dk_at dksX0_weddings_1 3 rfl rfl)
theorem dX0_weddings_26 : decode cX0_weddings 26 = .ok (.invokestatic 371, 3) := dk_184 1 115 (dk_at dksX0_weddings_1 4 rfl rfl)
theorem dX0_weddings_29 : decode cX0_weddings 29 = .ok (.aload_n 0, 1) := dk_42 (dk_at dksX0_weddings_1 7 rfl rfl)
theorem dX0_weddings_30 : decode cX0_weddings 30 = .ok (.aload_n 0, 1) := dk_42 (dk_at dksX0_weddings_1 8 rfl rfl)
theorem dX0_weddings_31 : decode cX0_weddings 31 = .ok (.invokevirtual 352, 3) := dk_182 1 96 (dk_at dksX0_weddings_1 9 rfl rfl)
theorem dX0_weddings_34 : decode cX0_weddings 34 = .ok (.iconst 0, 1) := dk_3 (dk_at dksX0_weddings_1 12 rfl rfl)
theorem dX0_weddings_35 : decode cX0_weddings 35 = .ok (.invokevirtual 368, 3) := dk_182 1 112 (dk_at dksX0_weddings_1 13 rfl rfl)
theorem dX0_weddings_38 : decode cX0_weddings 38 = .ok (.iload_n 1, 1) := dk_27 (dk_at dksX0_weddings_1 16 rfl rfl)
theorem dX0_weddings_39 : decode cX0_weddings 39 = .ok (.iconst (-1), 1) := dk_2 (dk_at dksX0_weddings_1 17 rfl rfl)
theorem dX0_weddings_40 : decode cX0_weddings 40 = .ok (.if_icmp .ne 10, 3) := dk_160 0 10 (dk_at dksX0_weddings_1 18 rfl rfl)
theorem dX0_weddings_43 : decode cX0_weddings 43 = .ok (.aload_n 0, 1) := dk_42 (dk_at dksX0_weddings_1 21 rfl rfl)
theorem dX0_weddings_44 : decode cX0_weddings 44 = .ok (.getfield 362, 3) := dk_180 1 106 (dk_at dksX0_weddings_2 0 rfl rfl)
theorem dX0_weddings_47 : decode cX0_weddings 47 = .ok (.goto 21, 3) := dk_167 0 21 (dk_at dksX0_weddings_2 3 rfl rfl)
theorem dX0_weddings_50 : decode cX0_weddings 50 = .ok (.aload_n 0, 1) := dk_42 (dk_at dksX0_weddings_2 6 rfl rfl)
theorem dX0_weddings_51 : decode cX0_weddings 51 = .ok (.iload_n 1, 1) := dk_27 (dk_at dksX0_weddings_2 7 rfl rfl)
theorem dX0_weddings_52 : decode cX0_weddings 52 = .ok (.invokevirtual 209, 3) := dk_182 0 209 (dk_at dksX0_weddings_2 8 rfl rfl)
theorem dX0_weddings_55 : decode cX0_weddings 55 = .ok (.ifCond .eq 12, 3) := dk_153 0 12 (dk_at dksX0_weddings_2 11 rfl rfl)
theorem dX0_weddings_58 : decode cX0_weddings 58 = .ok (.aload_n 0, 1) := dk_42 (dk_at dksX0_weddings_2 14 rfl rfl)
theorem dX0_weddings_59 : decode cX0_weddings 59 = .ok (.getfield 52, 3) := dk_180 0 52 (dk_at dksX0_weddings_2 15 rfl rfl)
theorem dX0_weddings_62 : decode cX0_weddings 62 = .ok (.iload_n 1, 1) := dk_27 (dk_at dksX0_weddings_2 18 rfl rfl)
theorem dX0_weddings_63 : decode cX0_weddings 63 = .ok (.iaload, 1) := dk_46 (dk_at dksX0_weddings_2 19 rfl rfl)
theorem dX0_weddings_64 : decode cX0_weddings 64 = .ok (.goto 4, 3) := dk_167 0 4 (dk_at dksX0_weddings_2 20 rfl rfl)
theorem dX0_weddings_67 : decode cX0_weddings 67 = .ok (.iconst (-1), 1) := dk_2 (dk_at dksX0_weddings_2 23 rfl rfl)
theorem dX0_weddings_68 : decode cX0_weddings 68 = .ok (.ireturn, 1) := dk_172 (dk_at dksX0_weddings_3 0 rfl rfl)
abbrev cX0_weds : ByteArray := prog_1_method_78_code
def yX0_weds : MethodName := ⟨RX0, "weds", "(II)V"⟩
def dkwX0_weds_6 : List UInt8 := [182, 1, 112, 132, 5, 1, 167, 255, 168, 177]
abbrev dktX0_weds_6 : List UInt8 := dkwX0_weds_6 ++ []
def dkwX0_weds_5 : List UInt8 := [180, 0, 74, 6, 29, 96, 46, 42, 180, 0, 21, 180, 0, 74, 6, 21, 5, 96, 46, 126, 184, 0, 126, 96]
abbrev dktX0_weds_5 : List UInt8 := dkwX0_weds_5 ++ dktX0_weds_6
def dkwX0_weds_4 : List UInt8 := [79, 42, 180, 0, 49, 21, 5, 29, 79, 42, 21, 4, 4, 21, 5, 120, 2, 130, 126, 28, 42, 180, 0, 21]
abbrev dktX0_weds_4 : List UInt8 := dkwX0_weds_4 ++ dktX0_weds_5
def dkwX0_weds_3 : List UInt8 := [46, 162, 0, 80, 21, 4, 21, 5, 184, 0, 66, 154, 0, 6, 167, 0, 61, 42, 180, 0, 49, 29, 21, 5]
abbrev dktX0_weds_3 : List UInt8 := dkwX0_weds_3 ++ dktX0_weds_4
def dkwX0_weds_2 : List UInt8 := [2, 79, 42, 21, 4, 28, 182, 1, 112, 29, 4, 96, 54, 5, 21, 5, 42, 180, 0, 21, 180, 0, 59, 3]
abbrev dktX0_weds_2 : List UInt8 := dkwX0_weds_2 ++ dktX0_weds_3
def dkwX0_weds_1 : List UInt8 := [180, 0, 52, 184, 1, 44, 177, 27, 184, 1, 109, 62, 27, 27, 4, 100, 126, 54, 4, 42, 180, 0, 49, 29]
abbrev dktX0_weds_1 : List UInt8 := dkwX0_weds_1 ++ dktX0_weds_2
def dkwX0_weds_0 : List UInt8 := [27, 154, 0, 29, 28, 42, 180, 1, 106, 163, 0, 4, 177, 42, 28, 181, 1, 106, 42, 180, 0, 49, 42]
abbrev dktX0_weds_0 : List UInt8 := dkwX0_weds_0 ++ dktX0_weds_1
theorem dksX0_weds_0 : cX0_weds.data.toList.drop 0 = dktX0_weds_0 := by decide +kernel
theorem dksX0_weds_1 : cX0_weds.data.toList.drop 23 = dktX0_weds_1 := dk_seg dksX0_weds_0 23 rfl rfl
theorem dksX0_weds_2 : cX0_weds.data.toList.drop 47 = dktX0_weds_2 := dk_seg dksX0_weds_1 24 rfl rfl
theorem dksX0_weds_3 : cX0_weds.data.toList.drop 71 = dktX0_weds_3 := dk_seg dksX0_weds_2 24 rfl rfl
theorem dksX0_weds_4 : cX0_weds.data.toList.drop 95 = dktX0_weds_4 := dk_seg dksX0_weds_3 24 rfl rfl
theorem dksX0_weds_5 : cX0_weds.data.toList.drop 119 = dktX0_weds_5 := dk_seg dksX0_weds_4 24 rfl rfl
theorem dksX0_weds_6 : cX0_weds.data.toList.drop 143 = dktX0_weds_6 := dk_seg dksX0_weds_5 24 rfl rfl
theorem dX0_weds_0 : decode cX0_weds 0 = .ok (.iload_n 1, 1) := dk_27 (dk_at dksX0_weds_0 0 rfl rfl)
theorem dX0_weds_1 : decode cX0_weds 1 = .ok (.ifCond .ne 29, 3) := dk_154 0 29 (dk_at dksX0_weds_0 1 rfl rfl)
theorem dX0_weds_4 : decode cX0_weds 4 = .ok (.iload_n 2, 1) := dk_28 (dk_at dksX0_weds_0 4 rfl rfl)
theorem dX0_weds_5 : decode cX0_weds 5 = .ok (.aload_n 0, 1) := dk_42 (dk_at dksX0_weds_0 5 rfl rfl)
theorem dX0_weds_6 : decode cX0_weds 6 = .ok (.getfield 362, 3) := dk_180 1 106 (dk_at dksX0_weds_0 6 rfl rfl)
theorem dX0_weds_9 : decode cX0_weds 9 = .ok (.if_icmp .gt 4, 3) := dk_163 0 4 (dk_at dksX0_weds_0 9 rfl rfl)
theorem dX0_weds_12 : decode cX0_weds 12 = .ok (.return_, 1) := dk_177 (dk_at dksX0_weds_0 12 rfl rfl)
theorem dX0_weds_13 : decode cX0_weds 13 = .ok (.aload_n 0, 1) := dk_42 (dk_at dksX0_weds_0 13 rfl rfl)
theorem dX0_weds_14 : decode cX0_weds 14 = .ok (.iload_n 2, 1) := dk_28 (dk_at dksX0_weds_0 14 rfl rfl)
theorem dX0_weds_15 : decode cX0_weds 15 = .ok (.putfield 362, 3) := dk_181 1 106 (dk_at dksX0_weds_0 15 rfl rfl)
theorem dX0_weds_18 : decode cX0_weds 18 = .ok (.aload_n 0, 1) := dk_42 (dk_at dksX0_weds_0 18 rfl rfl)
theorem dX0_weds_19 : decode cX0_weds 19 = .ok (.getfield 49, 3) := dk_180 0 49 (dk_at dksX0_weds_0 19 rfl rfl)
theorem dX0_weds_22 : decode cX0_weds 22 = .ok (.aload_n 0, 1) := dk_42 (dk_at dksX0_weds_0 22 rfl rfl)
theorem dX0_weds_23 : decode cX0_weds 23 = .ok (.getfield 52, 3) := dk_180 0 52 (dk_at dksX0_weds_1 0 rfl rfl)
theorem dX0_weds_26 : decode cX0_weds 26 = .ok (.invokestatic 300, 3) := dk_184 1 44 (dk_at dksX0_weds_1 3 rfl rfl)
theorem dX0_weds_29 : decode cX0_weds 29 = .ok (.return_, 1) := dk_177 (dk_at dksX0_weds_1 6 rfl rfl)
theorem dX0_weds_30 : decode cX0_weds 30 = .ok (.iload_n 1, 1) := dk_27 (dk_at dksX0_weds_1 7 rfl rfl)
theorem dX0_weds_31 : decode cX0_weds 31 = .ok (.invokestatic 365, 3) := dk_184 1 109 (dk_at dksX0_weds_1 8 rfl rfl)
theorem dX0_weds_34 : decode cX0_weds 34 = .ok (.istore_n 3, 1) := dk_62 (dk_at dksX0_weds_1 11 rfl rfl)
theorem dX0_weds_35 : decode cX0_weds 35 = .ok (.iload_n 1, 1) := dk_27 (dk_at dksX0_weds_1 12 rfl rfl)
theorem dX0_weds_36 : decode cX0_weds 36 = .ok (.iload_n 1, 1) := dk_27 (dk_at dksX0_weds_1 13 rfl rfl)
theorem dX0_weds_37 : decode cX0_weds 37 = .ok (.iconst 1, 1) := dk_4 (dk_at dksX0_weds_1 14 rfl rfl)
theorem dX0_weds_38 : decode cX0_weds 38 = .ok (.isub, 1) := dk_100 (dk_at dksX0_weds_1 15 rfl rfl)
theorem dX0_weds_39 : decode cX0_weds 39 = .ok (.iand, 1) := dk_126 (dk_at dksX0_weds_1 16 rfl rfl)
theorem dX0_weds_40 : decode cX0_weds 40 = .ok (.istore 4, 2) := dk_54 4 (dk_at dksX0_weds_1 17 rfl rfl)
theorem dX0_weds_42 : decode cX0_weds 42 = .ok (.aload_n 0, 1) := dk_42 (dk_at dksX0_weds_1 19 rfl rfl)
theorem dX0_weds_43 : decode cX0_weds 43 = .ok (.getfield 49, 3) := dk_180 0 49 (dk_at dksX0_weds_1 20 rfl rfl)
theorem dX0_weds_46 : decode cX0_weds 46 = .ok (.iload_n 3, 1) := dk_29 (dk_at dksX0_weds_1 23 rfl rfl)
theorem dX0_weds_47 : decode cX0_weds 47 = .ok (.iconst (-1), 1) := dk_2 (dk_at dksX0_weds_2 0 rfl rfl)
theorem dX0_weds_48 : decode cX0_weds 48 = .ok (.iastore, 1) := dk_79 (dk_at dksX0_weds_2 1 rfl rfl)
theorem dX0_weds_49 : decode cX0_weds 49 = .ok (.aload_n 0, 1) := dk_42 (dk_at dksX0_weds_2 2 rfl rfl)
theorem dX0_weds_50 : decode cX0_weds 50 = .ok (.iload 4, 2) := dk_21 4 (dk_at dksX0_weds_2 3 rfl rfl)
theorem dX0_weds_52 : decode cX0_weds 52 = .ok (.iload_n 2, 1) := dk_28 (dk_at dksX0_weds_2 5 rfl rfl)
theorem dX0_weds_53 : decode cX0_weds 53 = .ok (.invokevirtual 368, 3) := dk_182 1 112 (dk_at dksX0_weds_2 6 rfl rfl)
theorem dX0_weds_56 : decode cX0_weds 56 = .ok (.iload_n 3, 1) := dk_29 (dk_at dksX0_weds_2 9 rfl rfl)
theorem dX0_weds_57 : decode cX0_weds 57 = .ok (.iconst 1, 1) := dk_4 (dk_at dksX0_weds_2 10 rfl rfl)
theorem dX0_weds_58 : decode cX0_weds 58 = .ok (.iadd, 1) := dk_96 (dk_at dksX0_weds_2 11 rfl rfl)
theorem dX0_weds_59 : decode cX0_weds 59 = .ok (.istore 5, 2) := dk_54 5 (dk_at dksX0_weds_2 12 rfl rfl)
theorem dX0_weds_61 : decode cX0_weds 61 = .ok (.iload 5, 2) := dk_21 5 (dk_at dksX0_weds_2 14 rfl rfl)
theorem dX0_weds_63 : decode cX0_weds 63 = .ok (.aload_n 0, 1) := dk_42 (dk_at dksX0_weds_2 16 rfl rfl)
theorem dX0_weds_64 : decode cX0_weds 64 = .ok (.getfield 21, 3) := dk_180 0 21 (dk_at dksX0_weds_2 17 rfl rfl)
theorem dX0_weds_67 : decode cX0_weds 67 = .ok (.getfield 59, 3) := dk_180 0 59 (dk_at dksX0_weds_2 20 rfl rfl)
theorem dX0_weds_70 : decode cX0_weds 70 = .ok (.iconst 0, 1) := dk_3 (dk_at dksX0_weds_2 23 rfl rfl)
theorem dX0_weds_71 : decode cX0_weds 71 = .ok (.iaload, 1) := dk_46 (dk_at dksX0_weds_3 0 rfl rfl)
theorem dX0_weds_72 : decode cX0_weds 72 = .ok (.if_icmp .ge 80, 3) := dk_162 0 80 (dk_at dksX0_weds_3 1 rfl rfl)
theorem dX0_weds_75 : decode cX0_weds 75 = .ok (.iload 4, 2) := dk_21 4 (dk_at dksX0_weds_3 4 rfl rfl)
theorem dX0_weds_77 : decode cX0_weds 77 = .ok (.iload 5, 2) := dk_21 5 (dk_at dksX0_weds_3 6 rfl rfl)
theorem dX0_weds_79 : decode cX0_weds 79 = .ok (.invokestatic 66, 3) := dk_184 0 66 (dk_at dksX0_weds_3 8 rfl rfl)
theorem dX0_weds_82 : decode cX0_weds 82 = .ok (.ifCond .ne 6, 3) := dk_154 0 6 (dk_at dksX0_weds_3 11 rfl rfl)
theorem dX0_weds_85 : decode cX0_weds 85 = .ok (.goto 61, 3) := dk_167 0 61 (dk_at dksX0_weds_3 14 rfl rfl)
theorem dX0_weds_88 : decode cX0_weds 88 = .ok (.aload_n 0, 1) := dk_42 (dk_at dksX0_weds_3 17 rfl rfl)
theorem dX0_weds_89 : decode cX0_weds 89 = .ok (.getfield 49, 3) := dk_180 0 49 (dk_at dksX0_weds_3 18 rfl rfl)
theorem dX0_weds_92 : decode cX0_weds 92 = .ok (.iload_n 3, 1) := dk_29 (dk_at dksX0_weds_3 21 rfl rfl)
theorem dX0_weds_93 : decode cX0_weds 93 = .ok (.iload 5, 2) := dk_21 5 (dk_at dksX0_weds_3 22 rfl rfl)
theorem dX0_weds_95 : decode cX0_weds 95 = .ok (.iastore, 1) := dk_79 (dk_at dksX0_weds_4 0 rfl rfl)
theorem dX0_weds_96 : decode cX0_weds 96 = .ok (.aload_n 0, 1) := dk_42 (dk_at dksX0_weds_4 1 rfl rfl)
theorem dX0_weds_97 : decode cX0_weds 97 = .ok (.getfield 49, 3) := dk_180 0 49 (dk_at dksX0_weds_4 2 rfl rfl)
theorem dX0_weds_100 : decode cX0_weds 100 = .ok (.iload 5, 2) := dk_21 5 (dk_at dksX0_weds_4 5 rfl rfl)
theorem dX0_weds_102 : decode cX0_weds 102 = .ok (.iload_n 3, 1) := dk_29 (dk_at dksX0_weds_4 7 rfl rfl)
theorem dX0_weds_103 : decode cX0_weds 103 = .ok (.iastore, 1) := dk_79 (dk_at dksX0_weds_4 8 rfl rfl)
theorem dX0_weds_104 : decode cX0_weds 104 = .ok (.aload_n 0, 1) := dk_42 (dk_at dksX0_weds_4 9 rfl rfl)
theorem dX0_weds_105 : decode cX0_weds 105 = .ok (.iload 4, 2) := dk_21 4 (dk_at dksX0_weds_4 10 rfl rfl)
theorem dX0_weds_107 : decode cX0_weds 107 = .ok (.iconst 1, 1) := dk_4 (dk_at dksX0_weds_4 12 rfl rfl)
theorem dX0_weds_108 : decode cX0_weds 108 = .ok (.iload 5, 2) := dk_21 5 (dk_at dksX0_weds_4 13 rfl rfl)
theorem dX0_weds_110 : decode cX0_weds 110 = .ok (.ishl, 1) := dk_120 (dk_at dksX0_weds_4 15 rfl rfl)
theorem dX0_weds_111 : decode cX0_weds 111 = .ok (.iconst (-1), 1) := dk_2 (dk_at dksX0_weds_4 16 rfl rfl)
theorem dX0_weds_112 : decode cX0_weds 112 = .ok (.ixor, 1) := dk_130 (dk_at dksX0_weds_4 17 rfl rfl)
theorem dX0_weds_113 : decode cX0_weds 113 = .ok (.iand, 1) := dk_126 (dk_at dksX0_weds_4 18 rfl rfl)
theorem dX0_weds_114 : decode cX0_weds 114 = .ok (.iload_n 2, 1) := dk_28 (dk_at dksX0_weds_4 19 rfl rfl)
theorem dX0_weds_115 : decode cX0_weds 115 = .ok (.aload_n 0, 1) := dk_42 (dk_at dksX0_weds_4 20 rfl rfl)
theorem dX0_weds_116 : decode cX0_weds 116 = .ok (.getfield 21, 3) := dk_180 0 21 (dk_at dksX0_weds_4 21 rfl rfl)
theorem dX0_weds_119 : decode cX0_weds 119 = .ok (.getfield 74, 3) := dk_180 0 74 (dk_at dksX0_weds_5 0 rfl rfl)
theorem dX0_weds_122 : decode cX0_weds 122 = .ok (.iconst 3, 1) := dk_6 (dk_at dksX0_weds_5 3 rfl rfl)
theorem dX0_weds_123 : decode cX0_weds 123 = .ok (.iload_n 3, 1) := dk_29 (dk_at dksX0_weds_5 4 rfl rfl)
theorem dX0_weds_124 : decode cX0_weds 124 = .ok (.iadd, 1) := dk_96 (dk_at dksX0_weds_5 5 rfl rfl)
theorem dX0_weds_125 : decode cX0_weds 125 = .ok (.iaload, 1) := dk_46 (dk_at dksX0_weds_5 6 rfl rfl)
theorem dX0_weds_126 : decode cX0_weds 126 = .ok (.aload_n 0, 1) := dk_42 (dk_at dksX0_weds_5 7 rfl rfl)
theorem dX0_weds_127 : decode cX0_weds 127 = .ok (.getfield 21, 3) := dk_180 0 21 (dk_at dksX0_weds_5 8 rfl rfl)
theorem dX0_weds_130 : decode cX0_weds 130 = .ok (.getfield 74, 3) := dk_180 0 74 (dk_at dksX0_weds_5 11 rfl rfl)
theorem dX0_weds_133 : decode cX0_weds 133 = .ok (.iconst 3, 1) := dk_6 (dk_at dksX0_weds_5 14 rfl rfl)
theorem dX0_weds_134 : decode cX0_weds 134 = .ok (.iload 5, 2) := dk_21 5 (dk_at dksX0_weds_5 15 rfl rfl)
theorem dX0_weds_136 : decode cX0_weds 136 = .ok (.iadd, 1) := dk_96 (dk_at dksX0_weds_5 17 rfl rfl)
theorem dX0_weds_137 : decode cX0_weds 137 = .ok (.iaload, 1) := dk_46 (dk_at dksX0_weds_5 18 rfl rfl)
theorem dX0_weds_138 : decode cX0_weds 138 = .ok (.iand, 1) := dk_126 (dk_at dksX0_weds_5 19 rfl rfl)
theorem dX0_weds_139 : decode cX0_weds 139 = .ok (.invokestatic 126, 3) := dk_184 0 126 (dk_at dksX0_weds_5 20 rfl rfl)
theorem dX0_weds_142 : decode cX0_weds 142 = .ok (.iadd, 1) := dk_96 (dk_at dksX0_weds_5 23 rfl rfl)
theorem dX0_weds_143 : decode cX0_weds 143 = .ok (.invokevirtual 368, 3) := dk_182 1 112 (dk_at dksX0_weds_6 0 rfl rfl)
theorem dX0_weds_146 : decode cX0_weds 146 = .ok (.iinc 5 1, 3) := dk_132 5 1 (dk_at dksX0_weds_6 3 rfl rfl)
theorem dX0_weds_149 : decode cX0_weds 149 = .ok (.goto (-88), 3) := dk_167 255 168 (dk_at dksX0_weds_6 6 rfl rfl)
theorem dX0_weds_152 : decode cX0_weds 152 = .ok (.return_, 1) := dk_177 (dk_at dksX0_weds_6 9 rfl rfl)
abbrev cX0_twins : ByteArray := prog_1_method_80_code
def yX0_twins : MethodName := ⟨RX0, "twins", "()I"⟩
def dkwX0_twins_3 : List UInt8 := [60, 132, 3, 1, 167, 255, 199, 132, 2, 1, 167, 255, 178, 27, 172]
abbrev dktX0_twins_3 : List UInt8 := dkwX0_twins_3 ++ []
def dkwX0_twins_2 : List UInt8 := [6, 28, 96, 46, 42, 180, 0, 21, 180, 0, 74, 6, 29, 96, 46, 160, 0, 7, 4, 167, 0, 4, 3, 96]
abbrev dktX0_twins_2 : List UInt8 := dkwX0_twins_2 ++ dktX0_twins_3
def dkwX0_twins_1 : List UInt8 := [27, 42, 28, 182, 0, 209, 153, 0, 40, 42, 29, 182, 0, 209, 153, 0, 32, 42, 180, 0, 21, 180, 0, 74]
abbrev dktX0_twins_1 : List UInt8 := dkwX0_twins_1 ++ dktX0_twins_2
def dkwX0_twins_0 : List UInt8 := [3, 60, 3, 61, 28, 42, 180, 0, 21, 180, 0, 59, 3, 46, 162, 0, 71, 3, 62, 29, 28, 162, 0, 58]
abbrev dktX0_twins_0 : List UInt8 := dkwX0_twins_0 ++ dktX0_twins_1
theorem dksX0_twins_0 : cX0_twins.data.toList.drop 0 = dktX0_twins_0 := by decide +kernel
theorem dksX0_twins_1 : cX0_twins.data.toList.drop 24 = dktX0_twins_1 := dk_seg dksX0_twins_0 24 rfl rfl
theorem dksX0_twins_2 : cX0_twins.data.toList.drop 48 = dktX0_twins_2 := dk_seg dksX0_twins_1 24 rfl rfl
theorem dksX0_twins_3 : cX0_twins.data.toList.drop 72 = dktX0_twins_3 := dk_seg dksX0_twins_2 24 rfl rfl
theorem dX0_twins_0 : decode cX0_twins 0 = .ok (.iconst 0, 1) := dk_3 (dk_at dksX0_twins_0 0 rfl rfl)
theorem dX0_twins_1 : decode cX0_twins 1 = .ok (.istore_n 1, 1) := dk_60 (dk_at dksX0_twins_0 1 rfl rfl)
theorem dX0_twins_2 : decode cX0_twins 2 = .ok (.iconst 0, 1) := dk_3 (dk_at dksX0_twins_0 2 rfl rfl)
theorem dX0_twins_3 : decode cX0_twins 3 = .ok (.istore_n 2, 1) := dk_61 (dk_at dksX0_twins_0 3 rfl rfl)
theorem dX0_twins_4 : decode cX0_twins 4 = .ok (.iload_n 2, 1) := dk_28 (dk_at dksX0_twins_0 4 rfl rfl)
theorem dX0_twins_5 : decode cX0_twins 5 = .ok (.aload_n 0, 1) := dk_42 (dk_at dksX0_twins_0 5 rfl rfl)
theorem dX0_twins_6 : decode cX0_twins 6 = .ok (.getfield 21, 3) := dk_180 0 21 (dk_at dksX0_twins_0 6 rfl rfl)
theorem dX0_twins_9 : decode cX0_twins 9 = .ok (.getfield 59, 3) := dk_180 0 59 (dk_at dksX0_twins_0 9 rfl rfl)
theorem dX0_twins_12 : decode cX0_twins 12 = .ok (.iconst 0, 1) := dk_3 (dk_at dksX0_twins_0 12 rfl rfl)
theorem dX0_twins_13 : decode cX0_twins 13 = .ok (.iaload, 1) := dk_46 (dk_at dksX0_twins_0 13 rfl rfl)
theorem dX0_twins_14 : decode cX0_twins 14 = .ok (.if_icmp .ge 71, 3) := dk_162 0 71 (dk_at dksX0_twins_0 14 rfl rfl)
theorem dX0_twins_17 : decode cX0_twins 17 = .ok (.iconst 0, 1) := dk_3 (dk_at dksX0_twins_0 17 rfl rfl)
theorem dX0_twins_18 : decode cX0_twins 18 = .ok (.istore_n 3, 1) := dk_62 (dk_at dksX0_twins_0 18 rfl rfl)
theorem dX0_twins_19 : decode cX0_twins 19 = .ok (.iload_n 3, 1) := dk_29 (dk_at dksX0_twins_0 19 rfl rfl)
theorem dX0_twins_20 : decode cX0_twins 20 = .ok (.iload_n 2, 1) := dk_28 (dk_at dksX0_twins_0 20 rfl rfl)
theorem dX0_twins_21 : decode cX0_twins 21 = .ok (.if_icmp .ge 58, 3) := dk_162 0 58 (dk_at dksX0_twins_0 21 rfl rfl)
theorem dX0_twins_24 : decode cX0_twins 24 = .ok (.iload_n 1, 1) := dk_27 (dk_at dksX0_twins_1 0 rfl rfl)
theorem dX0_twins_25 : decode cX0_twins 25 = .ok (.aload_n 0, 1) := dk_42 (dk_at dksX0_twins_1 1 rfl rfl)
theorem dX0_twins_26 : decode cX0_twins 26 = .ok (.iload_n 2, 1) := dk_28 (dk_at dksX0_twins_1 2 rfl rfl)
theorem dX0_twins_27 : decode cX0_twins 27 = .ok (.invokevirtual 209, 3) := dk_182 0 209 (dk_at dksX0_twins_1 3 rfl rfl)
theorem dX0_twins_30 : decode cX0_twins 30 = .ok (.ifCond .eq 40, 3) := dk_153 0 40 (dk_at dksX0_twins_1 6 rfl rfl)
theorem dX0_twins_33 : decode cX0_twins 33 = .ok (.aload_n 0, 1) := dk_42 (dk_at dksX0_twins_1 9 rfl rfl)
theorem dX0_twins_34 : decode cX0_twins 34 = .ok (.iload_n 3, 1) := dk_29 (dk_at dksX0_twins_1 10 rfl rfl)
theorem dX0_twins_35 : decode cX0_twins 35 = .ok (.invokevirtual 209, 3) := dk_182 0 209 (dk_at dksX0_twins_1 11 rfl rfl)
theorem dX0_twins_38 : decode cX0_twins 38 = .ok (.ifCond .eq 32, 3) := dk_153 0 32 (dk_at dksX0_twins_1 14 rfl rfl)
theorem dX0_twins_41 : decode cX0_twins 41 = .ok (.aload_n 0, 1) := dk_42 (dk_at dksX0_twins_1 17 rfl rfl)
theorem dX0_twins_42 : decode cX0_twins 42 = .ok (.getfield 21, 3) := dk_180 0 21 (dk_at dksX0_twins_1 18 rfl rfl)
theorem dX0_twins_45 : decode cX0_twins 45 = .ok (.getfield 74, 3) := dk_180 0 74 (dk_at dksX0_twins_1 21 rfl rfl)
theorem dX0_twins_48 : decode cX0_twins 48 = .ok (.iconst 3, 1) := dk_6 (dk_at dksX0_twins_2 0 rfl rfl)
theorem dX0_twins_49 : decode cX0_twins 49 = .ok (.iload_n 2, 1) := dk_28 (dk_at dksX0_twins_2 1 rfl rfl)
theorem dX0_twins_50 : decode cX0_twins 50 = .ok (.iadd, 1) := dk_96 (dk_at dksX0_twins_2 2 rfl rfl)
theorem dX0_twins_51 : decode cX0_twins 51 = .ok (.iaload, 1) := dk_46 (dk_at dksX0_twins_2 3 rfl rfl)
theorem dX0_twins_52 : decode cX0_twins 52 = .ok (.aload_n 0, 1) := dk_42 (dk_at dksX0_twins_2 4 rfl rfl)
theorem dX0_twins_53 : decode cX0_twins 53 = .ok (.getfield 21, 3) := dk_180 0 21 (dk_at dksX0_twins_2 5 rfl rfl)
theorem dX0_twins_56 : decode cX0_twins 56 = .ok (.getfield 74, 3) := dk_180 0 74 (dk_at dksX0_twins_2 8 rfl rfl)
theorem dX0_twins_59 : decode cX0_twins 59 = .ok (.iconst 3, 1) := dk_6 (dk_at dksX0_twins_2 11 rfl rfl)
theorem dX0_twins_60 : decode cX0_twins 60 = .ok (.iload_n 3, 1) := dk_29 (dk_at dksX0_twins_2 12 rfl rfl)
theorem dX0_twins_61 : decode cX0_twins 61 = .ok (.iadd, 1) := dk_96 (dk_at dksX0_twins_2 13 rfl rfl)
theorem dX0_twins_62 : decode cX0_twins 62 = .ok (.iaload, 1) := dk_46 (dk_at dksX0_twins_2 14 rfl rfl)
theorem dX0_twins_63 : decode cX0_twins 63 = .ok (.if_icmp .ne 7, 3) := dk_160 0 7 (dk_at dksX0_twins_2 15 rfl rfl)
theorem dX0_twins_66 : decode cX0_twins 66 = .ok (.iconst 1, 1) := dk_4 (dk_at dksX0_twins_2 18 rfl rfl)
theorem dX0_twins_67 : decode cX0_twins 67 = .ok (.goto 4, 3) := dk_167 0 4 (dk_at dksX0_twins_2 19 rfl rfl)
theorem dX0_twins_70 : decode cX0_twins 70 = .ok (.iconst 0, 1) := dk_3 (dk_at dksX0_twins_2 22 rfl rfl)
theorem dX0_twins_71 : decode cX0_twins 71 = .ok (.iadd, 1) := dk_96 (dk_at dksX0_twins_2 23 rfl rfl)
theorem dX0_twins_72 : decode cX0_twins 72 = .ok (.istore_n 1, 1) := dk_60 (dk_at dksX0_twins_3 0 rfl rfl)
theorem dX0_twins_73 : decode cX0_twins 73 = .ok (.iinc 3 1, 3) := dk_132 3 1 (dk_at dksX0_twins_3 1 rfl rfl)
theorem dX0_twins_76 : decode cX0_twins 76 = .ok (.goto (-57), 3) := dk_167 255 199 (dk_at dksX0_twins_3 4 rfl rfl)
theorem dX0_twins_79 : decode cX0_twins 79 = .ok (.iinc 2 1, 3) := dk_132 2 1 (dk_at dksX0_twins_3 7 rfl rfl)
theorem dX0_twins_82 : decode cX0_twins 82 = .ok (.goto (-78), 3) := dk_167 255 178 (dk_at dksX0_twins_3 10 rfl rfl)
theorem dX0_twins_85 : decode cX0_twins 85 = .ok (.iload_n 1, 1) := dk_27 (dk_at dksX0_twins_3 13 rfl rfl)
theorem dX0_twins_86 : decode cX0_twins 86 = .ok (.ireturn, 1) := dk_172 (dk_at dksX0_twins_3 14 rfl rfl)
abbrev cX0_gossip : ByteArray := prog_1_method_81_code
def yX0_gossip : MethodName := ⟨RX0, "gossip", "(II)I"⟩
def dkwX0_gossip_3 : List UInt8 := [180, 0, 21, 180, 1, 121, 8, 45, 182, 1, 64, 172]
abbrev dktX0_gossip_3 : List UInt8 := dkwX0_gossip_3 ++ []
def dkwX0_gossip_2 : List UInt8 := [160, 0, 6, 16, 254, 172, 5, 188, 10, 89, 3, 27, 79, 89, 4, 28, 79, 78, 42, 180, 0, 21, 42]
abbrev dktX0_gossip_2 : List UInt8 := dkwX0_gossip_2 ++ dktX0_gossip_3
def dkwX0_gossip_1 : List UInt8 := [182, 0, 70, 153, 0, 22, 27, 28, 159, 0, 17, 42, 180, 0, 21, 180, 0, 59, 8, 46, 16, 8]
abbrev dktX0_gossip_1 : List UInt8 := dkwX0_gossip_1 ++ dktX0_gossip_2
def dkwX0_gossip_0 : List UInt8 := [27, 2, 160, 0, 12, 42, 180, 0, 21, 8, 182, 1, 58, 172, 42, 27, 182, 0, 70, 153, 0, 30, 42, 28]
abbrev dktX0_gossip_0 : List UInt8 := dkwX0_gossip_0 ++ dktX0_gossip_1
theorem dksX0_gossip_0 : cX0_gossip.data.toList.drop 0 = dktX0_gossip_0 := by decide +kernel
theorem dksX0_gossip_1 : cX0_gossip.data.toList.drop 24 = dktX0_gossip_1 := dk_seg dksX0_gossip_0 24 rfl rfl
theorem dksX0_gossip_2 : cX0_gossip.data.toList.drop 46 = dktX0_gossip_2 := dk_seg dksX0_gossip_1 22 rfl rfl
theorem dksX0_gossip_3 : cX0_gossip.data.toList.drop 69 = dktX0_gossip_3 := dk_seg dksX0_gossip_2 23 rfl rfl
theorem dX0_gossip_0 : decode cX0_gossip 0 = .ok (.iload_n 1, 1) := dk_27 (dk_at dksX0_gossip_0 0 rfl rfl)
theorem dX0_gossip_1 : decode cX0_gossip 1 = .ok (.iconst (-1), 1) := dk_2 (dk_at dksX0_gossip_0 1 rfl rfl)
theorem dX0_gossip_2 : decode cX0_gossip 2 = .ok (.if_icmp .ne 12, 3) := dk_160 0 12 (dk_at dksX0_gossip_0 2 rfl rfl)
theorem dX0_gossip_5 : decode cX0_gossip 5 = .ok (.aload_n 0, 1) := dk_42 (dk_at dksX0_gossip_0 5 rfl rfl)
theorem dX0_gossip_6 : decode cX0_gossip 6 = .ok (.getfield 21, 3) := dk_180 0 21 (dk_at dksX0_gossip_0 6 rfl rfl)
theorem dX0_gossip_9 : decode cX0_gossip 9 = .ok (.iconst 5, 1) := dk_8 (dk_at dksX0_gossip_0 9 rfl rfl)
theorem dX0_gossip_10 : decode cX0_gossip 10 = .ok (.invokevirtual 314, 3) := dk_182 1 58 (dk_at dksX0_gossip_0 10 rfl rfl)
theorem dX0_gossip_13 : decode cX0_gossip 13 = .ok (.ireturn, 1) := dk_172 (dk_at dksX0_gossip_0 13 rfl rfl)
theorem dX0_gossip_14 : decode cX0_gossip 14 = .ok (.aload_n 0, 1) := dk_42 (dk_at dksX0_gossip_0 14 rfl rfl)
theorem dX0_gossip_15 : decode cX0_gossip 15 = .ok (.iload_n 1, 1) := dk_27 (dk_at dksX0_gossip_0 15 rfl rfl)
theorem dX0_gossip_16 : decode cX0_gossip 16 = .ok (.invokevirtual 70, 3) := dk_182 0 70 (dk_at dksX0_gossip_0 16 rfl rfl)
theorem dX0_gossip_19 : decode cX0_gossip 19 = .ok (.ifCond .eq 30, 3) := dk_153 0 30 (dk_at dksX0_gossip_0 19 rfl rfl)
theorem dX0_gossip_22 : decode cX0_gossip 22 = .ok (.aload_n 0, 1) := dk_42 (dk_at dksX0_gossip_0 22 rfl rfl)
theorem dX0_gossip_23 : decode cX0_gossip 23 = .ok (.iload_n 2, 1) := dk_28 (dk_at dksX0_gossip_0 23 rfl rfl)
theorem dX0_gossip_24 : decode cX0_gossip 24 = .ok (.invokevirtual 70, 3) := dk_182 0 70 (dk_at dksX0_gossip_1 0 rfl rfl)
theorem dX0_gossip_27 : decode cX0_gossip 27 = .ok (.ifCond .eq 22, 3) := dk_153 0 22 (dk_at dksX0_gossip_1 3 rfl rfl)
theorem dX0_gossip_30 : decode cX0_gossip 30 = .ok (.iload_n 1, 1) := dk_27 (dk_at dksX0_gossip_1 6 rfl rfl)
theorem dX0_gossip_31 : decode cX0_gossip 31 = .ok (.iload_n 2, 1) := dk_28 (dk_at dksX0_gossip_1 7 rfl rfl)
theorem dX0_gossip_32 : decode cX0_gossip 32 = .ok (.if_icmp .eq 17, 3) := dk_159 0 17 (dk_at dksX0_gossip_1 8 rfl rfl)
theorem dX0_gossip_35 : decode cX0_gossip 35 = .ok (.aload_n 0, 1) := dk_42 (dk_at dksX0_gossip_1 11 rfl rfl)
theorem dX0_gossip_36 : decode cX0_gossip 36 = .ok (.getfield 21, 3) := dk_180 0 21 (dk_at dksX0_gossip_1 12 rfl rfl)
theorem dX0_gossip_39 : decode cX0_gossip 39 = .ok (.getfield 59, 3) := dk_180 0 59 (dk_at dksX0_gossip_1 15 rfl rfl)
theorem dX0_gossip_42 : decode cX0_gossip 42 = .ok (.iconst 5, 1) := dk_8 (dk_at dksX0_gossip_1 18 rfl rfl)
theorem dX0_gossip_43 : decode cX0_gossip 43 = .ok (.iaload, 1) := dk_46 (dk_at dksX0_gossip_1 19 rfl rfl)
theorem dX0_gossip_44 : decode cX0_gossip 44 = .ok (.bipush 8, 2) := dk_16 8 (dk_at dksX0_gossip_1 20 rfl rfl)
theorem dX0_gossip_46 : decode cX0_gossip 46 = .ok (.if_icmp .ne 6, 3) := dk_160 0 6 (dk_at dksX0_gossip_2 0 rfl rfl)
theorem dX0_gossip_49 : decode cX0_gossip 49 = .ok (.bipush (-2), 2) := dk_16 254 (dk_at dksX0_gossip_2 3 rfl rfl)
theorem dX0_gossip_51 : decode cX0_gossip 51 = .ok (.ireturn, 1) := dk_172 (dk_at dksX0_gossip_2 5 rfl rfl)
theorem dX0_gossip_52 : decode cX0_gossip 52 = .ok (.iconst 2, 1) := dk_5 (dk_at dksX0_gossip_2 6 rfl rfl)
theorem dX0_gossip_53 : decode cX0_gossip 53 = .ok (.newarray .int, 2) := dk_188_10 (dk_at dksX0_gossip_2 7 rfl rfl)
theorem dX0_gossip_55 : decode cX0_gossip 55 = .ok (.dup, 1) := dk_89 (dk_at dksX0_gossip_2 9 rfl rfl)
theorem dX0_gossip_56 : decode cX0_gossip 56 = .ok (.iconst 0, 1) := dk_3 (dk_at dksX0_gossip_2 10 rfl rfl)
theorem dX0_gossip_57 : decode cX0_gossip 57 = .ok (.iload_n 1, 1) := dk_27 (dk_at dksX0_gossip_2 11 rfl rfl)
theorem dX0_gossip_58 : decode cX0_gossip 58 = .ok (.iastore, 1) := dk_79 (dk_at dksX0_gossip_2 12 rfl rfl)
theorem dX0_gossip_59 : decode cX0_gossip 59 = .ok (.dup, 1) := dk_89 (dk_at dksX0_gossip_2 13 rfl rfl)
theorem dX0_gossip_60 : decode cX0_gossip 60 = .ok (.iconst 1, 1) := dk_4 (dk_at dksX0_gossip_2 14 rfl rfl)
theorem dX0_gossip_61 : decode cX0_gossip 61 = .ok (.iload_n 2, 1) := dk_28 (dk_at dksX0_gossip_2 15 rfl rfl)
theorem dX0_gossip_62 : decode cX0_gossip 62 = .ok (.iastore, 1) := dk_79 (dk_at dksX0_gossip_2 16 rfl rfl)
theorem dX0_gossip_63 : decode cX0_gossip 63 = .ok (.astore_n 3, 1) := dk_78 (dk_at dksX0_gossip_2 17 rfl rfl)
theorem dX0_gossip_64 : decode cX0_gossip 64 = .ok (.aload_n 0, 1) := dk_42 (dk_at dksX0_gossip_2 18 rfl rfl)
theorem dX0_gossip_65 : decode cX0_gossip 65 = .ok (.getfield 21, 3) := dk_180 0 21 (dk_at dksX0_gossip_2 19 rfl rfl)
theorem dX0_gossip_68 : decode cX0_gossip 68 = .ok (.aload_n 0, 1) := dk_42 (dk_at dksX0_gossip_2 22 rfl rfl)
theorem dX0_gossip_69 : decode cX0_gossip 69 = .ok (.getfield 21, 3) := dk_180 0 21 (dk_at dksX0_gossip_3 0 rfl rfl)
theorem dX0_gossip_72 : decode cX0_gossip 72 = .ok (.getfield 377, 3) := dk_180 1 121 (dk_at dksX0_gossip_3 3 rfl rfl)
theorem dX0_gossip_75 : decode cX0_gossip 75 = .ok (.iconst 5, 1) := dk_8 (dk_at dksX0_gossip_3 6 rfl rfl)
theorem dX0_gossip_76 : decode cX0_gossip 76 = .ok (.aload_n 3, 1) := dk_45 (dk_at dksX0_gossip_3 7 rfl rfl)
theorem dX0_gossip_77 : decode cX0_gossip 77 = .ok (.invokevirtual 320, 3) := dk_182 1 64 (dk_at dksX0_gossip_3 8 rfl rfl)
theorem dX0_gossip_80 : decode cX0_gossip 80 = .ok (.ireturn, 1) := dk_172 (dk_at dksX0_gossip_3 11 rfl rfl)
abbrev cX0_knows : ByteArray := prog_1_method_83_code
def yX0_knows : MethodName := ⟨RX0, "knows", "(II)I"⟩
def dkwX0_knows_2 : List UInt8 := [182, 1, 124, 62, 132, 4, 1, 167, 255, 229, 2, 172]
abbrev dktX0_knows_2 : List UInt8 := dkwX0_knows_2 ++ []
def dkwX0_knows_1 : List UInt8 := [54, 4, 21, 4, 16, 7, 162, 0, 26, 29, 27, 184, 0, 66, 153, 0, 6, 21, 4, 172, 42, 29]
abbrev dktX0_knows_1 : List UInt8 := dkwX0_knows_1 ++ dktX0_knows_2
def dkwX0_knows_0 : List UInt8 := [42, 27, 182, 0, 70, 153, 0, 11, 42, 28, 182, 0, 70, 154, 0, 5, 2, 172, 4, 28, 120, 62, 3]
abbrev dktX0_knows_0 : List UInt8 := dkwX0_knows_0 ++ dktX0_knows_1
theorem dksX0_knows_0 : cX0_knows.data.toList.drop 0 = dktX0_knows_0 := by decide +kernel
theorem dksX0_knows_1 : cX0_knows.data.toList.drop 23 = dktX0_knows_1 := dk_seg dksX0_knows_0 23 rfl rfl
theorem dksX0_knows_2 : cX0_knows.data.toList.drop 45 = dktX0_knows_2 := dk_seg dksX0_knows_1 22 rfl rfl
theorem dX0_knows_0 : decode cX0_knows 0 = .ok (.aload_n 0, 1) := dk_42 (dk_at dksX0_knows_0 0 rfl rfl)
theorem dX0_knows_1 : decode cX0_knows 1 = .ok (.iload_n 1, 1) := dk_27 (dk_at dksX0_knows_0 1 rfl rfl)
theorem dX0_knows_2 : decode cX0_knows 2 = .ok (.invokevirtual 70, 3) := dk_182 0 70 (dk_at dksX0_knows_0 2 rfl rfl)
theorem dX0_knows_5 : decode cX0_knows 5 = .ok (.ifCond .eq 11, 3) := dk_153 0 11 (dk_at dksX0_knows_0 5 rfl rfl)
theorem dX0_knows_8 : decode cX0_knows 8 = .ok (.aload_n 0, 1) := dk_42 (dk_at dksX0_knows_0 8 rfl rfl)
theorem dX0_knows_9 : decode cX0_knows 9 = .ok (.iload_n 2, 1) := dk_28 (dk_at dksX0_knows_0 9 rfl rfl)
theorem dX0_knows_10 : decode cX0_knows 10 = .ok (.invokevirtual 70, 3) := dk_182 0 70 (dk_at dksX0_knows_0 10 rfl rfl)
theorem dX0_knows_13 : decode cX0_knows 13 = .ok (.ifCond .ne 5, 3) := dk_154 0 5 (dk_at dksX0_knows_0 13 rfl rfl)
theorem dX0_knows_16 : decode cX0_knows 16 = .ok (.iconst (-1), 1) := dk_2 (dk_at dksX0_knows_0 16 rfl rfl)
theorem dX0_knows_17 : decode cX0_knows 17 = .ok (.ireturn, 1) := dk_172 (dk_at dksX0_knows_0 17 rfl rfl)
theorem dX0_knows_18 : decode cX0_knows 18 = .ok (.iconst 1, 1) := dk_4 (dk_at dksX0_knows_0 18 rfl rfl)
theorem dX0_knows_19 : decode cX0_knows 19 = .ok (.iload_n 2, 1) := dk_28 (dk_at dksX0_knows_0 19 rfl rfl)
theorem dX0_knows_20 : decode cX0_knows 20 = .ok (.ishl, 1) := dk_120 (dk_at dksX0_knows_0 20 rfl rfl)
theorem dX0_knows_21 : decode cX0_knows 21 = .ok (.istore_n 3, 1) := dk_62 (dk_at dksX0_knows_0 21 rfl rfl)
theorem dX0_knows_22 : decode cX0_knows 22 = .ok (.iconst 0, 1) := dk_3 (dk_at dksX0_knows_0 22 rfl rfl)
theorem dX0_knows_23 : decode cX0_knows 23 = .ok (.istore 4, 2) := dk_54 4 (dk_at dksX0_knows_1 0 rfl rfl)
theorem dX0_knows_25 : decode cX0_knows 25 = .ok (.iload 4, 2) := dk_21 4 (dk_at dksX0_knows_1 2 rfl rfl)
theorem dX0_knows_27 : decode cX0_knows 27 = .ok (.bipush 7, 2) := dk_16 7 (dk_at dksX0_knows_1 4 rfl rfl)
theorem dX0_knows_29 : decode cX0_knows 29 = .ok (.if_icmp .ge 26, 3) := dk_162 0 26 (dk_at dksX0_knows_1 6 rfl rfl)
theorem dX0_knows_32 : decode cX0_knows 32 = .ok (.iload_n 3, 1) := dk_29 (dk_at dksX0_knows_1 9 rfl rfl)
theorem dX0_knows_33 : decode cX0_knows 33 = .ok (.iload_n 1, 1) := dk_27 (dk_at dksX0_knows_1 10 rfl rfl)
theorem dX0_knows_34 : decode cX0_knows 34 = .ok (.invokestatic 66, 3) := dk_184 0 66 (dk_at dksX0_knows_1 11 rfl rfl)
theorem dX0_knows_37 : decode cX0_knows 37 = .ok (.ifCond .eq 6, 3) := dk_153 0 6 (dk_at dksX0_knows_1 14 rfl rfl)
theorem dX0_knows_40 : decode cX0_knows 40 = .ok (.iload 4, 2) := dk_21 4 (dk_at dksX0_knows_1 17 rfl rfl)
theorem dX0_knows_42 : decode cX0_knows 42 = .ok (.ireturn, 1) := dk_172 (dk_at dksX0_knows_1 19 rfl rfl)
theorem dX0_knows_43 : decode cX0_knows 43 = .ok (.aload_n 0, 1) := dk_42 (dk_at dksX0_knows_1 20 rfl rfl)
theorem dX0_knows_44 : decode cX0_knows 44 = .ok (.iload_n 3, 1) := dk_29 (dk_at dksX0_knows_1 21 rfl rfl)
theorem dX0_knows_45 : decode cX0_knows 45 = .ok (.invokevirtual 380, 3) := dk_182 1 124 (dk_at dksX0_knows_2 0 rfl rfl)
theorem dX0_knows_48 : decode cX0_knows 48 = .ok (.istore_n 3, 1) := dk_62 (dk_at dksX0_knows_2 3 rfl rfl)
theorem dX0_knows_49 : decode cX0_knows 49 = .ok (.iinc 4 1, 3) := dk_132 4 1 (dk_at dksX0_knows_2 4 rfl rfl)
theorem dX0_knows_52 : decode cX0_knows 52 = .ok (.goto (-27), 3) := dk_167 255 229 (dk_at dksX0_knows_2 7 rfl rfl)
theorem dX0_knows_55 : decode cX0_knows 55 = .ok (.iconst (-1), 1) := dk_2 (dk_at dksX0_knows_2 10 rfl rfl)
theorem dX0_knows_56 : decode cX0_knows 56 = .ok (.ireturn, 1) := dk_172 (dk_at dksX0_knows_2 11 rfl rfl)
abbrev cX0_knowing : ByteArray := prog_1_method_82_code
def yX0_knowing : MethodName := ⟨RX0, "knowing", "(I)I"⟩
def dkwX0_knowing_2 : List UInt8 := [46, 120, 167, 0, 4, 3, 128, 61, 132, 3, 1, 167, 255, 202, 28, 172]
abbrev dktX0_knowing_2 : List UInt8 := dkwX0_knowing_2 ++ []
def dkwX0_knowing_1 : List UInt8 := [180, 1, 121, 29, 50, 3, 46, 184, 0, 66, 153, 0, 19, 4, 42, 180, 0, 21, 180, 1, 121, 29, 50, 4]
abbrev dktX0_knowing_1 : List UInt8 := dkwX0_knowing_1 ++ dktX0_knowing_2
def dkwX0_knowing_0 : List UInt8 := [27, 61, 3, 62, 29, 42, 180, 0, 21, 180, 0, 59, 8, 46, 162, 0, 47, 28, 27, 42, 180, 0, 21]
abbrev dktX0_knowing_0 : List UInt8 := dkwX0_knowing_0 ++ dktX0_knowing_1
theorem dksX0_knowing_0 : cX0_knowing.data.toList.drop 0 = dktX0_knowing_0 := by decide +kernel
theorem dksX0_knowing_1 : cX0_knowing.data.toList.drop 23 = dktX0_knowing_1 := dk_seg dksX0_knowing_0 23 rfl rfl
theorem dksX0_knowing_2 : cX0_knowing.data.toList.drop 47 = dktX0_knowing_2 := dk_seg dksX0_knowing_1 24 rfl rfl
theorem dX0_knowing_0 : decode cX0_knowing 0 = .ok (.iload_n 1, 1) := dk_27 (dk_at dksX0_knowing_0 0 rfl rfl)
theorem dX0_knowing_1 : decode cX0_knowing 1 = .ok (.istore_n 2, 1) := dk_61 (dk_at dksX0_knowing_0 1 rfl rfl)
theorem dX0_knowing_2 : decode cX0_knowing 2 = .ok (.iconst 0, 1) := dk_3 (dk_at dksX0_knowing_0 2 rfl rfl)
theorem dX0_knowing_3 : decode cX0_knowing 3 = .ok (.istore_n 3, 1) := dk_62 (dk_at dksX0_knowing_0 3 rfl rfl)
theorem dX0_knowing_4 : decode cX0_knowing 4 = .ok (.iload_n 3, 1) := dk_29 (dk_at dksX0_knowing_0 4 rfl rfl)
theorem dX0_knowing_5 : decode cX0_knowing 5 = .ok (.aload_n 0, 1) := dk_42 (dk_at dksX0_knowing_0 5 rfl rfl)
theorem dX0_knowing_6 : decode cX0_knowing 6 = .ok (.getfield 21, 3) := dk_180 0 21 (dk_at dksX0_knowing_0 6 rfl rfl)
theorem dX0_knowing_9 : decode cX0_knowing 9 = .ok (.getfield 59, 3) := dk_180 0 59 (dk_at dksX0_knowing_0 9 rfl rfl)
theorem dX0_knowing_12 : decode cX0_knowing 12 = .ok (.iconst 5, 1) := dk_8 (dk_at dksX0_knowing_0 12 rfl rfl)
theorem dX0_knowing_13 : decode cX0_knowing 13 = .ok (.iaload, 1) := dk_46 (dk_at dksX0_knowing_0 13 rfl rfl)
theorem dX0_knowing_14 : decode cX0_knowing 14 = .ok (.if_icmp .ge 47, 3) := dk_162 0 47 (dk_at dksX0_knowing_0 14 rfl rfl)
theorem dX0_knowing_17 : decode cX0_knowing 17 = .ok (.iload_n 2, 1) := dk_28 (dk_at dksX0_knowing_0 17 rfl rfl)
theorem dX0_knowing_18 : decode cX0_knowing 18 = .ok (.iload_n 1, 1) := dk_27 (dk_at dksX0_knowing_0 18 rfl rfl)
theorem dX0_knowing_19 : decode cX0_knowing 19 = .ok (.aload_n 0, 1) := dk_42 (dk_at dksX0_knowing_0 19 rfl rfl)
theorem dX0_knowing_20 : decode cX0_knowing 20 = .ok (.getfield 21, 3) := dk_180 0 21 (dk_at dksX0_knowing_0 20 rfl rfl)
theorem dX0_knowing_23 : decode cX0_knowing 23 = .ok (.getfield 377, 3) := dk_180 1 121 (dk_at dksX0_knowing_1 0 rfl rfl)
theorem dX0_knowing_26 : decode cX0_knowing 26 = .ok (.iload_n 3, 1) := dk_29 (dk_at dksX0_knowing_1 3 rfl rfl)
theorem dX0_knowing_27 : decode cX0_knowing 27 = .ok (.aaload, 1) := dk_50 (dk_at dksX0_knowing_1 4 rfl rfl)
theorem dX0_knowing_28 : decode cX0_knowing 28 = .ok (.iconst 0, 1) := dk_3 (dk_at dksX0_knowing_1 5 rfl rfl)
theorem dX0_knowing_29 : decode cX0_knowing 29 = .ok (.iaload, 1) := dk_46 (dk_at dksX0_knowing_1 6 rfl rfl)
theorem dX0_knowing_30 : decode cX0_knowing 30 = .ok (.invokestatic 66, 3) := dk_184 0 66 (dk_at dksX0_knowing_1 7 rfl rfl)
theorem dX0_knowing_33 : decode cX0_knowing 33 = .ok (.ifCond .eq 19, 3) := dk_153 0 19 (dk_at dksX0_knowing_1 10 rfl rfl)
theorem dX0_knowing_36 : decode cX0_knowing 36 = .ok (.iconst 1, 1) := dk_4 (dk_at dksX0_knowing_1 13 rfl rfl)
theorem dX0_knowing_37 : decode cX0_knowing 37 = .ok (.aload_n 0, 1) := dk_42 (dk_at dksX0_knowing_1 14 rfl rfl)
theorem dX0_knowing_38 : decode cX0_knowing 38 = .ok (.getfield 21, 3) := dk_180 0 21 (dk_at dksX0_knowing_1 15 rfl rfl)
theorem dX0_knowing_41 : decode cX0_knowing 41 = .ok (.getfield 377, 3) := dk_180 1 121 (dk_at dksX0_knowing_1 18 rfl rfl)
theorem dX0_knowing_44 : decode cX0_knowing 44 = .ok (.iload_n 3, 1) := dk_29 (dk_at dksX0_knowing_1 21 rfl rfl)
theorem dX0_knowing_45 : decode cX0_knowing 45 = .ok (.aaload, 1) := dk_50 (dk_at dksX0_knowing_1 22 rfl rfl)
theorem dX0_knowing_46 : decode cX0_knowing 46 = .ok (.iconst 1, 1) := dk_4 (dk_at dksX0_knowing_1 23 rfl rfl)
theorem dX0_knowing_47 : decode cX0_knowing 47 = .ok (.iaload, 1) := dk_46 (dk_at dksX0_knowing_2 0 rfl rfl)
theorem dX0_knowing_48 : decode cX0_knowing 48 = .ok (.ishl, 1) := dk_120 (dk_at dksX0_knowing_2 1 rfl rfl)
theorem dX0_knowing_49 : decode cX0_knowing 49 = .ok (.goto 4, 3) := dk_167 0 4 (dk_at dksX0_knowing_2 2 rfl rfl)
theorem dX0_knowing_52 : decode cX0_knowing 52 = .ok (.iconst 0, 1) := dk_3 (dk_at dksX0_knowing_2 5 rfl rfl)
theorem dX0_knowing_53 : decode cX0_knowing 53 = .ok (.ior, 1) := dk_128 (dk_at dksX0_knowing_2 6 rfl rfl)
theorem dX0_knowing_54 : decode cX0_knowing 54 = .ok (.istore_n 2, 1) := dk_61 (dk_at dksX0_knowing_2 7 rfl rfl)
theorem dX0_knowing_55 : decode cX0_knowing 55 = .ok (.iinc 3 1, 3) := dk_132 3 1 (dk_at dksX0_knowing_2 8 rfl rfl)
theorem dX0_knowing_58 : decode cX0_knowing 58 = .ok (.goto (-54), 3) := dk_167 255 202 (dk_at dksX0_knowing_2 11 rfl rfl)
theorem dX0_knowing_61 : decode cX0_knowing 61 = .ok (.iload_n 2, 1) := dk_28 (dk_at dksX0_knowing_2 14 rfl rfl)
theorem dX0_knowing_62 : decode cX0_knowing 62 = .ok (.ireturn, 1) := dk_172 (dk_at dksX0_knowing_2 15 rfl rfl)
abbrev cX0_never : ByteArray := prog_1_method_84_code
def yX0_never : MethodName := ⟨RX0, "never", "(I)I"⟩
def dkwX0_never_2 : List UInt8 := [2, 130, 126, 172]
abbrev dktX0_never_2 : List UInt8 := dkwX0_never_2 ++ []
def dkwX0_never_1 : List UInt8 := [182, 1, 124, 61, 132, 3, 1, 167, 255, 241, 4, 42, 180, 0, 21, 180, 0, 59, 3, 46, 120, 4, 100, 28]
abbrev dktX0_never_1 : List UInt8 := dkwX0_never_1 ++ dktX0_never_2
def dkwX0_never_0 : List UInt8 := [42, 27, 182, 0, 70, 154, 0, 5, 2, 172, 4, 27, 120, 61, 3, 62, 29, 16, 7, 162, 0, 15, 42, 28]
abbrev dktX0_never_0 : List UInt8 := dkwX0_never_0 ++ dktX0_never_1
theorem dksX0_never_0 : cX0_never.data.toList.drop 0 = dktX0_never_0 := by decide +kernel
theorem dksX0_never_1 : cX0_never.data.toList.drop 24 = dktX0_never_1 := dk_seg dksX0_never_0 24 rfl rfl
theorem dksX0_never_2 : cX0_never.data.toList.drop 48 = dktX0_never_2 := dk_seg dksX0_never_1 24 rfl rfl
theorem dX0_never_0 : decode cX0_never 0 = .ok (.aload_n 0, 1) := dk_42 (dk_at dksX0_never_0 0 rfl rfl)
theorem dX0_never_1 : decode cX0_never 1 = .ok (.iload_n 1, 1) := dk_27 (dk_at dksX0_never_0 1 rfl rfl)
theorem dX0_never_2 : decode cX0_never 2 = .ok (.invokevirtual 70, 3) := dk_182 0 70 (dk_at dksX0_never_0 2 rfl rfl)
theorem dX0_never_5 : decode cX0_never 5 = .ok (.ifCond .ne 5, 3) := dk_154 0 5 (dk_at dksX0_never_0 5 rfl rfl)
theorem dX0_never_8 : decode cX0_never 8 = .ok (.iconst (-1), 1) := dk_2 (dk_at dksX0_never_0 8 rfl rfl)
theorem dX0_never_9 : decode cX0_never 9 = .ok (.ireturn, 1) := dk_172 (dk_at dksX0_never_0 9 rfl rfl)
theorem dX0_never_10 : decode cX0_never 10 = .ok (.iconst 1, 1) := dk_4 (dk_at dksX0_never_0 10 rfl rfl)
theorem dX0_never_11 : decode cX0_never 11 = .ok (.iload_n 1, 1) := dk_27 (dk_at dksX0_never_0 11 rfl rfl)
theorem dX0_never_12 : decode cX0_never 12 = .ok (.ishl, 1) := dk_120 (dk_at dksX0_never_0 12 rfl rfl)
theorem dX0_never_13 : decode cX0_never 13 = .ok (.istore_n 2, 1) := dk_61 (dk_at dksX0_never_0 13 rfl rfl)
theorem dX0_never_14 : decode cX0_never 14 = .ok (.iconst 0, 1) := dk_3 (dk_at dksX0_never_0 14 rfl rfl)
theorem dX0_never_15 : decode cX0_never 15 = .ok (.istore_n 3, 1) := dk_62 (dk_at dksX0_never_0 15 rfl rfl)
theorem dX0_never_16 : decode cX0_never 16 = .ok (.iload_n 3, 1) := dk_29 (dk_at dksX0_never_0 16 rfl rfl)
theorem dX0_never_17 : decode cX0_never 17 = .ok (.bipush 7, 2) := dk_16 7 (dk_at dksX0_never_0 17 rfl rfl)
theorem dX0_never_19 : decode cX0_never 19 = .ok (.if_icmp .ge 15, 3) := dk_162 0 15 (dk_at dksX0_never_0 19 rfl rfl)
theorem dX0_never_22 : decode cX0_never 22 = .ok (.aload_n 0, 1) := dk_42 (dk_at dksX0_never_0 22 rfl rfl)
theorem dX0_never_23 : decode cX0_never 23 = .ok (.iload_n 2, 1) := dk_28 (dk_at dksX0_never_0 23 rfl rfl)
theorem dX0_never_24 : decode cX0_never 24 = .ok (.invokevirtual 380, 3) := dk_182 1 124 (dk_at dksX0_never_1 0 rfl rfl)
theorem dX0_never_27 : decode cX0_never 27 = .ok (.istore_n 2, 1) := dk_61 (dk_at dksX0_never_1 3 rfl rfl)
theorem dX0_never_28 : decode cX0_never 28 = .ok (.iinc 3 1, 3) := dk_132 3 1 (dk_at dksX0_never_1 4 rfl rfl)
theorem dX0_never_31 : decode cX0_never 31 = .ok (.goto (-15), 3) := dk_167 255 241 (dk_at dksX0_never_1 7 rfl rfl)
theorem dX0_never_34 : decode cX0_never 34 = .ok (.iconst 1, 1) := dk_4 (dk_at dksX0_never_1 10 rfl rfl)
theorem dX0_never_35 : decode cX0_never 35 = .ok (.aload_n 0, 1) := dk_42 (dk_at dksX0_never_1 11 rfl rfl)
theorem dX0_never_36 : decode cX0_never 36 = .ok (.getfield 21, 3) := dk_180 0 21 (dk_at dksX0_never_1 12 rfl rfl)
theorem dX0_never_39 : decode cX0_never 39 = .ok (.getfield 59, 3) := dk_180 0 59 (dk_at dksX0_never_1 15 rfl rfl)
theorem dX0_never_42 : decode cX0_never 42 = .ok (.iconst 0, 1) := dk_3 (dk_at dksX0_never_1 18 rfl rfl)
theorem dX0_never_43 : decode cX0_never 43 = .ok (.iaload, 1) := dk_46 (dk_at dksX0_never_1 19 rfl rfl)
theorem dX0_never_44 : decode cX0_never 44 = .ok (.ishl, 1) := dk_120 (dk_at dksX0_never_1 20 rfl rfl)
theorem dX0_never_45 : decode cX0_never 45 = .ok (.iconst 1, 1) := dk_4 (dk_at dksX0_never_1 21 rfl rfl)
theorem dX0_never_46 : decode cX0_never 46 = .ok (.isub, 1) := dk_100 (dk_at dksX0_never_1 22 rfl rfl)
theorem dX0_never_47 : decode cX0_never 47 = .ok (.iload_n 2, 1) := dk_28 (dk_at dksX0_never_1 23 rfl rfl)
theorem dX0_never_48 : decode cX0_never 48 = .ok (.iconst (-1), 1) := dk_2 (dk_at dksX0_never_2 0 rfl rfl)
theorem dX0_never_49 : decode cX0_never 49 = .ok (.ixor, 1) := dk_130 (dk_at dksX0_never_2 1 rfl rfl)
theorem dX0_never_50 : decode cX0_never 50 = .ok (.iand, 1) := dk_126 (dk_at dksX0_never_2 2 rfl rfl)
theorem dX0_never_51 : decode cX0_never 51 = .ok (.ireturn, 1) := dk_172 (dk_at dksX0_never_2 3 rfl rfl)
abbrev cX0_richest : ByteArray := prog_1_method_86_code
def yX0_richest : MethodName := ⟨RX0, "richest", "(Z)I"⟩
def dkwX0_richest_1 : List UInt8 := [61, 132, 3, 1, 167, 255, 232, 27, 153, 0, 11, 42, 28, 182, 1, 127, 167, 0, 4, 28, 172]
abbrev dktX0_richest_1 : List UInt8 := dkwX0_richest_1 ++ []
def dkwX0_richest_0 : List UInt8 := [3, 61, 4, 62, 29, 16, 20, 162, 0, 24, 42, 29, 182, 1, 127, 42, 28, 182, 1, 127, 164, 0, 5, 29]
abbrev dktX0_richest_0 : List UInt8 := dkwX0_richest_0 ++ dktX0_richest_1
theorem dksX0_richest_0 : cX0_richest.data.toList.drop 0 = dktX0_richest_0 := by decide +kernel
theorem dksX0_richest_1 : cX0_richest.data.toList.drop 24 = dktX0_richest_1 := dk_seg dksX0_richest_0 24 rfl rfl
theorem dX0_richest_0 : decode cX0_richest 0 = .ok (.iconst 0, 1) := dk_3 (dk_at dksX0_richest_0 0 rfl rfl)
theorem dX0_richest_1 : decode cX0_richest 1 = .ok (.istore_n 2, 1) := dk_61 (dk_at dksX0_richest_0 1 rfl rfl)
theorem dX0_richest_2 : decode cX0_richest 2 = .ok (.iconst 1, 1) := dk_4 (dk_at dksX0_richest_0 2 rfl rfl)
theorem dX0_richest_3 : decode cX0_richest 3 = .ok (.istore_n 3, 1) := dk_62 (dk_at dksX0_richest_0 3 rfl rfl)
theorem dX0_richest_4 : decode cX0_richest 4 = .ok (.iload_n 3, 1) := dk_29 (dk_at dksX0_richest_0 4 rfl rfl)
theorem dX0_richest_5 : decode cX0_richest 5 = .ok (.bipush 20, 2) := dk_16 20 (dk_at dksX0_richest_0 5 rfl rfl)
theorem dX0_richest_7 : decode cX0_richest 7 = .ok (.if_icmp .ge 24, 3) := dk_162 0 24 (dk_at dksX0_richest_0 7 rfl rfl)
theorem dX0_richest_10 : decode cX0_richest 10 = .ok (.aload_n 0, 1) := dk_42 (dk_at dksX0_richest_0 10 rfl rfl)
theorem dX0_richest_11 : decode cX0_richest 11 = .ok (.iload_n 3, 1) := dk_29 (dk_at dksX0_richest_0 11 rfl rfl)
theorem dX0_richest_12 : decode cX0_richest 12 = .ok (.invokevirtual 383, 3) := dk_182 1 127 (dk_at dksX0_richest_0 12 rfl rfl)
theorem dX0_richest_15 : decode cX0_richest 15 = .ok (.aload_n 0, 1) := dk_42 (dk_at dksX0_richest_0 15 rfl rfl)
theorem dX0_richest_16 : decode cX0_richest 16 = .ok (.iload_n 2, 1) := dk_28 (dk_at dksX0_richest_0 16 rfl rfl)
theorem dX0_richest_17 : decode cX0_richest 17 = .ok (.invokevirtual 383, 3) := dk_182 1 127 (dk_at dksX0_richest_0 17 rfl rfl)
theorem dX0_richest_20 : decode cX0_richest 20 = .ok (.if_icmp .le 5, 3) := dk_164 0 5 (dk_at dksX0_richest_0 20 rfl rfl)
theorem dX0_richest_23 : decode cX0_richest 23 = .ok (.iload_n 3, 1) := dk_29 (dk_at dksX0_richest_0 23 rfl rfl)
theorem dX0_richest_24 : decode cX0_richest 24 = .ok (.istore_n 2, 1) := dk_61 (dk_at dksX0_richest_1 0 rfl rfl)
theorem dX0_richest_25 : decode cX0_richest 25 = .ok (.iinc 3 1, 3) := dk_132 3 1 (dk_at dksX0_richest_1 1 rfl rfl)
theorem dX0_richest_28 : decode cX0_richest 28 = .ok (.goto (-24), 3) := dk_167 255 232 (dk_at dksX0_richest_1 4 rfl rfl)
theorem dX0_richest_31 : decode cX0_richest 31 = .ok (.iload_n 1, 1) := dk_27 (dk_at dksX0_richest_1 7 rfl rfl)
theorem dX0_richest_32 : decode cX0_richest 32 = .ok (.ifCond .eq 11, 3) := dk_153 0 11 (dk_at dksX0_richest_1 8 rfl rfl)
theorem dX0_richest_35 : decode cX0_richest 35 = .ok (.aload_n 0, 1) := dk_42 (dk_at dksX0_richest_1 11 rfl rfl)
theorem dX0_richest_36 : decode cX0_richest 36 = .ok (.iload_n 2, 1) := dk_28 (dk_at dksX0_richest_1 12 rfl rfl)
theorem dX0_richest_37 : decode cX0_richest 37 = .ok (.invokevirtual 383, 3) := dk_182 1 127 (dk_at dksX0_richest_1 13 rfl rfl)
theorem dX0_richest_40 : decode cX0_richest 40 = .ok (.goto 4, 3) := dk_167 0 4 (dk_at dksX0_richest_1 16 rfl rfl)
theorem dX0_richest_43 : decode cX0_richest 43 = .ok (.iload_n 2, 1) := dk_28 (dk_at dksX0_richest_1 19 rfl rfl)
theorem dX0_richest_44 : decode cX0_richest 44 = .ok (.ireturn, 1) := dk_172 (dk_at dksX0_richest_1 20 rfl rfl)
abbrev cX0_earnedOn : ByteArray := prog_1_method_85_code
def yX0_earnedOn : MethodName := ⟨RX0, "earnedOn", "(I)I"⟩
def dkwX0_earnedOn_4 : List UInt8 := [29, 172]
abbrev dktX0_earnedOn_4 : List UInt8 := dkwX0_earnedOn_4 ++ []
def dkwX0_earnedOn_3 : List UInt8 := [180, 0, 21, 180, 0, 74, 21, 4, 28, 182, 0, 184, 167, 0, 4, 3, 96, 62, 132, 4, 1, 167, 255, 197]
abbrev dktX0_earnedOn_3 : List UInt8 := dkwX0_earnedOn_3 ++ dktX0_earnedOn_4
def dkwX0_earnedOn_2 : List UInt8 := [29, 42, 42, 180, 0, 21, 180, 0, 74, 21, 4, 27, 182, 0, 122, 153, 0, 24, 42, 42, 182, 0, 192, 42]
abbrev dktX0_earnedOn_2 : List UInt8 := dkwX0_earnedOn_2 ++ dktX0_earnedOn_3
def dkwX0_earnedOn_1 : List UInt8 := [16, 20, 112, 96, 61, 3, 62, 3, 54, 4, 21, 4, 42, 180, 0, 21, 180, 0, 59, 3, 46, 162, 0, 51]
abbrev dktX0_earnedOn_1 : List UInt8 := dkwX0_earnedOn_1 ++ dktX0_earnedOn_2
def dkwX0_earnedOn_0 : List UInt8 := [42, 180, 0, 21, 180, 0, 74, 3, 46, 27, 42, 180, 0, 21, 180, 0, 74, 184, 0, 173, 100, 16, 20, 96]
abbrev dktX0_earnedOn_0 : List UInt8 := dkwX0_earnedOn_0 ++ dktX0_earnedOn_1
theorem dksX0_earnedOn_0 : cX0_earnedOn.data.toList.drop 0 = dktX0_earnedOn_0 := by decide +kernel
theorem dksX0_earnedOn_1 : cX0_earnedOn.data.toList.drop 24 = dktX0_earnedOn_1 := dk_seg dksX0_earnedOn_0 24 rfl rfl
theorem dksX0_earnedOn_2 : cX0_earnedOn.data.toList.drop 48 = dktX0_earnedOn_2 := dk_seg dksX0_earnedOn_1 24 rfl rfl
theorem dksX0_earnedOn_3 : cX0_earnedOn.data.toList.drop 72 = dktX0_earnedOn_3 := dk_seg dksX0_earnedOn_2 24 rfl rfl
theorem dksX0_earnedOn_4 : cX0_earnedOn.data.toList.drop 96 = dktX0_earnedOn_4 := dk_seg dksX0_earnedOn_3 24 rfl rfl
theorem dX0_earnedOn_0 : decode cX0_earnedOn 0 = .ok (.aload_n 0, 1) := dk_42 (dk_at dksX0_earnedOn_0 0 rfl rfl)
theorem dX0_earnedOn_1 : decode cX0_earnedOn 1 = .ok (.getfield 21, 3) := dk_180 0 21 (dk_at dksX0_earnedOn_0 1 rfl rfl)
theorem dX0_earnedOn_4 : decode cX0_earnedOn 4 = .ok (.getfield 74, 3) := dk_180 0 74 (dk_at dksX0_earnedOn_0 4 rfl rfl)
theorem dX0_earnedOn_7 : decode cX0_earnedOn 7 = .ok (.iconst 0, 1) := dk_3 (dk_at dksX0_earnedOn_0 7 rfl rfl)
theorem dX0_earnedOn_8 : decode cX0_earnedOn 8 = .ok (.iaload, 1) := dk_46 (dk_at dksX0_earnedOn_0 8 rfl rfl)
theorem dX0_earnedOn_9 : decode cX0_earnedOn 9 = .ok (.iload_n 1, 1) := dk_27 (dk_at dksX0_earnedOn_0 9 rfl rfl)
theorem dX0_earnedOn_10 : decode cX0_earnedOn 10 = .ok (.aload_n 0, 1) := dk_42 (dk_at dksX0_earnedOn_0 10 rfl rfl)
theorem dX0_earnedOn_11 : decode cX0_earnedOn 11 = .ok (.getfield 21, 3) := dk_180 0 21 (dk_at dksX0_earnedOn_0 11 rfl rfl)
theorem dX0_earnedOn_14 : decode cX0_earnedOn 14 = .ok (.getfield 74, 3) := dk_180 0 74 (dk_at dksX0_earnedOn_0 14 rfl rfl)
theorem dX0_earnedOn_17 : decode cX0_earnedOn 17 = .ok (.invokestatic 173, 3) := dk_184 0 173 (dk_at dksX0_earnedOn_0 17 rfl rfl)
theorem dX0_earnedOn_20 : decode cX0_earnedOn 20 = .ok (.isub, 1) := dk_100 (dk_at dksX0_earnedOn_0 20 rfl rfl)
theorem dX0_earnedOn_21 : decode cX0_earnedOn 21 = .ok (.bipush 20, 2) := dk_16 20 (dk_at dksX0_earnedOn_0 21 rfl rfl)
theorem dX0_earnedOn_23 : decode cX0_earnedOn 23 = .ok (.iadd, 1) := dk_96 (dk_at dksX0_earnedOn_0 23 rfl rfl)
theorem dX0_earnedOn_24 : decode cX0_earnedOn 24 = .ok (.bipush 20, 2) := dk_16 20 (dk_at dksX0_earnedOn_1 0 rfl rfl)
theorem dX0_earnedOn_26 : decode cX0_earnedOn 26 = .ok (.irem, 1) := dk_112 (dk_at dksX0_earnedOn_1 2 rfl rfl)
theorem dX0_earnedOn_27 : decode cX0_earnedOn 27 = .ok (.iadd, 1) := dk_96 (dk_at dksX0_earnedOn_1 3 rfl rfl)
theorem dX0_earnedOn_28 : decode cX0_earnedOn 28 = .ok (.istore_n 2, 1) := dk_61 (dk_at dksX0_earnedOn_1 4 rfl rfl)
theorem dX0_earnedOn_29 : decode cX0_earnedOn 29 = .ok (.iconst 0, 1) := dk_3 (dk_at dksX0_earnedOn_1 5 rfl rfl)
theorem dX0_earnedOn_30 : decode cX0_earnedOn 30 = .ok (.istore_n 3, 1) := dk_62 (dk_at dksX0_earnedOn_1 6 rfl rfl)
theorem dX0_earnedOn_31 : decode cX0_earnedOn 31 = .ok (.iconst 0, 1) := dk_3 (dk_at dksX0_earnedOn_1 7 rfl rfl)
theorem dX0_earnedOn_32 : decode cX0_earnedOn 32 = .ok (.istore 4, 2) := dk_54 4 (dk_at dksX0_earnedOn_1 8 rfl rfl)
theorem dX0_earnedOn_34 : decode cX0_earnedOn 34 = .ok (.iload 4, 2) := dk_21 4 (dk_at dksX0_earnedOn_1 10 rfl rfl)
theorem dX0_earnedOn_36 : decode cX0_earnedOn 36 = .ok (.aload_n 0, 1) := dk_42 (dk_at dksX0_earnedOn_1 12 rfl rfl)
theorem dX0_earnedOn_37 : decode cX0_earnedOn 37 = .ok (.getfield 21, 3) := dk_180 0 21 (dk_at dksX0_earnedOn_1 13 rfl rfl)
theorem dX0_earnedOn_40 : decode cX0_earnedOn 40 = .ok (.getfield 59, 3) := dk_180 0 59 (dk_at dksX0_earnedOn_1 16 rfl rfl)
theorem dX0_earnedOn_43 : decode cX0_earnedOn 43 = .ok (.iconst 0, 1) := dk_3 (dk_at dksX0_earnedOn_1 19 rfl rfl)
theorem dX0_earnedOn_44 : decode cX0_earnedOn 44 = .ok (.iaload, 1) := dk_46 (dk_at dksX0_earnedOn_1 20 rfl rfl)
theorem dX0_earnedOn_45 : decode cX0_earnedOn 45 = .ok (.if_icmp .ge 51, 3) := dk_162 0 51 (dk_at dksX0_earnedOn_1 21 rfl rfl)
theorem dX0_earnedOn_48 : decode cX0_earnedOn 48 = .ok (.iload_n 3, 1) := dk_29 (dk_at dksX0_earnedOn_2 0 rfl rfl)
theorem dX0_earnedOn_49 : decode cX0_earnedOn 49 = .ok (.aload_n 0, 1) := dk_42 (dk_at dksX0_earnedOn_2 1 rfl rfl)
theorem dX0_earnedOn_50 : decode cX0_earnedOn 50 = .ok (.aload_n 0, 1) := dk_42 (dk_at dksX0_earnedOn_2 2 rfl rfl)
theorem dX0_earnedOn_51 : decode cX0_earnedOn 51 = .ok (.getfield 21, 3) := dk_180 0 21 (dk_at dksX0_earnedOn_2 3 rfl rfl)
theorem dX0_earnedOn_54 : decode cX0_earnedOn 54 = .ok (.getfield 74, 3) := dk_180 0 74 (dk_at dksX0_earnedOn_2 6 rfl rfl)
theorem dX0_earnedOn_57 : decode cX0_earnedOn 57 = .ok (.iload 4, 2) := dk_21 4 (dk_at dksX0_earnedOn_2 9 rfl rfl)
theorem dX0_earnedOn_59 : decode cX0_earnedOn 59 = .ok (.iload_n 1, 1) := dk_27 (dk_at dksX0_earnedOn_2 11 rfl rfl)
theorem dX0_earnedOn_60 : decode cX0_earnedOn 60 = .ok (.invokevirtual 122, 3) := dk_182 0 122 (dk_at dksX0_earnedOn_2 12 rfl rfl)
theorem dX0_earnedOn_63 : decode cX0_earnedOn 63 = .ok (.ifCond .eq 24, 3) := dk_153 0 24 (dk_at dksX0_earnedOn_2 15 rfl rfl)
theorem dX0_earnedOn_66 : decode cX0_earnedOn 66 = .ok (.aload_n 0, 1) := dk_42 (dk_at dksX0_earnedOn_2 18 rfl rfl)
theorem dX0_earnedOn_67 : decode cX0_earnedOn 67 = .ok (.aload_n 0, 1) := dk_42 (dk_at dksX0_earnedOn_2 19 rfl rfl)
theorem dX0_earnedOn_68 : decode cX0_earnedOn 68 = .ok (.invokevirtual 192, 3) := dk_182 0 192 (dk_at dksX0_earnedOn_2 20 rfl rfl)
theorem dX0_earnedOn_71 : decode cX0_earnedOn 71 = .ok (.aload_n 0, 1) := dk_42 (dk_at dksX0_earnedOn_2 23 rfl rfl)
theorem dX0_earnedOn_72 : decode cX0_earnedOn 72 = .ok (.getfield 21, 3) := dk_180 0 21 (dk_at dksX0_earnedOn_3 0 rfl rfl)
theorem dX0_earnedOn_75 : decode cX0_earnedOn 75 = .ok (.getfield 74, 3) := dk_180 0 74 (dk_at dksX0_earnedOn_3 3 rfl rfl)
theorem dX0_earnedOn_78 : decode cX0_earnedOn 78 = .ok (.iload 4, 2) := dk_21 4 (dk_at dksX0_earnedOn_3 6 rfl rfl)
theorem dX0_earnedOn_80 : decode cX0_earnedOn 80 = .ok (.iload_n 2, 1) := dk_28 (dk_at dksX0_earnedOn_3 8 rfl rfl)
theorem dX0_earnedOn_81 : decode cX0_earnedOn 81 = .ok (.invokevirtual 184, 3) := dk_182 0 184 (dk_at dksX0_earnedOn_3 9 rfl rfl)
theorem dX0_earnedOn_84 : decode cX0_earnedOn 84 = .ok (.goto 4, 3) := dk_167 0 4 (dk_at dksX0_earnedOn_3 12 rfl rfl)
theorem dX0_earnedOn_87 : decode cX0_earnedOn 87 = .ok (.iconst 0, 1) := dk_3 (dk_at dksX0_earnedOn_3 15 rfl rfl)
theorem dX0_earnedOn_88 : decode cX0_earnedOn 88 = .ok (.iadd, 1) := dk_96 (dk_at dksX0_earnedOn_3 16 rfl rfl)
theorem dX0_earnedOn_89 : decode cX0_earnedOn 89 = .ok (.istore_n 3, 1) := dk_62 (dk_at dksX0_earnedOn_3 17 rfl rfl)
theorem dX0_earnedOn_90 : decode cX0_earnedOn 90 = .ok (.iinc 4 1, 3) := dk_132 4 1 (dk_at dksX0_earnedOn_3 18 rfl rfl)
theorem dX0_earnedOn_93 : decode cX0_earnedOn 93 = .ok (.goto (-59), 3) := dk_167 255 197 (dk_at dksX0_earnedOn_3 21 rfl rfl)
theorem dX0_earnedOn_96 : decode cX0_earnedOn 96 = .ok (.iload_n 3, 1) := dk_29 (dk_at dksX0_earnedOn_4 0 rfl rfl)
theorem dX0_earnedOn_97 : decode cX0_earnedOn 97 = .ok (.ireturn, 1) := dk_172 (dk_at dksX0_earnedOn_4 1 rfl rfl)
abbrev cX0_whose : ByteArray := prog_1_method_88_code
def yX0_whose : MethodName := ⟨RX0, "whose", "(I)I"⟩
def dkwX0_whose_3 : List UInt8 := [167, 255, 207, 28, 172]
abbrev dktX0_whose_3 : List UInt8 := dkwX0_whose_3 ++ []
def dkwX0_whose_2 : List UInt8 := [182, 1, 130, 54, 5, 21, 5, 29, 163, 0, 6, 167, 0, 9, 21, 4, 61, 21, 5, 62, 132, 4, 1]
abbrev dktX0_whose_2 : List UInt8 := dkwX0_whose_2 ++ dktX0_whose_3
def dkwX0_whose_1 : List UInt8 := [180, 0, 21, 180, 0, 59, 4, 46, 162, 0, 41, 42, 42, 180, 0, 21, 180, 0, 96, 21, 4, 50, 27]
abbrev dktX0_whose_1 : List UInt8 := dkwX0_whose_1 ++ dktX0_whose_2
def dkwX0_whose_0 : List UInt8 := [27, 4, 16, 60, 184, 0, 62, 154, 0, 5, 2, 172, 2, 61, 2, 62, 3, 54, 4, 21, 4, 42]
abbrev dktX0_whose_0 : List UInt8 := dkwX0_whose_0 ++ dktX0_whose_1
theorem dksX0_whose_0 : cX0_whose.data.toList.drop 0 = dktX0_whose_0 := by decide +kernel
theorem dksX0_whose_1 : cX0_whose.data.toList.drop 22 = dktX0_whose_1 := dk_seg dksX0_whose_0 22 rfl rfl
theorem dksX0_whose_2 : cX0_whose.data.toList.drop 45 = dktX0_whose_2 := dk_seg dksX0_whose_1 23 rfl rfl
theorem dksX0_whose_3 : cX0_whose.data.toList.drop 68 = dktX0_whose_3 := dk_seg dksX0_whose_2 23 rfl rfl
theorem dX0_whose_0 : decode cX0_whose 0 = .ok (.iload_n 1, 1) := dk_27 (dk_at dksX0_whose_0 0 rfl rfl)
theorem dX0_whose_1 : decode cX0_whose 1 = .ok (.iconst 1, 1) := dk_4 (dk_at dksX0_whose_0 1 rfl rfl)
theorem dX0_whose_2 : decode cX0_whose 2 = .ok (.bipush 60, 2) := dk_16 60 (dk_at dksX0_whose_0 2 rfl rfl)
theorem dX0_whose_4 : decode cX0_whose 4 = .ok (.invokestatic 62, 3) := dk_184 0 62 (dk_at dksX0_whose_0 4 rfl rfl)
theorem dX0_whose_7 : decode cX0_whose 7 = .ok (.ifCond .ne 5, 3) := dk_154 0 5 (dk_at dksX0_whose_0 7 rfl rfl)
theorem dX0_whose_10 : decode cX0_whose 10 = .ok (.iconst (-1), 1) := dk_2 (dk_at dksX0_whose_0 10 rfl rfl)
theorem dX0_whose_11 : decode cX0_whose 11 = .ok (.ireturn, 1) := dk_172 (dk_at dksX0_whose_0 11 rfl rfl)
theorem dX0_whose_12 : decode cX0_whose 12 = .ok (.iconst (-1), 1) := dk_2 (dk_at dksX0_whose_0 12 rfl rfl)
theorem dX0_whose_13 : decode cX0_whose 13 = .ok (.istore_n 2, 1) := dk_61 (dk_at dksX0_whose_0 13 rfl rfl)
theorem dX0_whose_14 : decode cX0_whose 14 = .ok (.iconst (-1), 1) := dk_2 (dk_at dksX0_whose_0 14 rfl rfl)
theorem dX0_whose_15 : decode cX0_whose 15 = .ok (.istore_n 3, 1) := dk_62 (dk_at dksX0_whose_0 15 rfl rfl)
theorem dX0_whose_16 : decode cX0_whose 16 = .ok (.iconst 0, 1) := dk_3 (dk_at dksX0_whose_0 16 rfl rfl)
theorem dX0_whose_17 : decode cX0_whose 17 = .ok (.istore 4, 2) := dk_54 4 (dk_at dksX0_whose_0 17 rfl rfl)
theorem dX0_whose_19 : decode cX0_whose 19 = .ok (.iload 4, 2) := dk_21 4 (dk_at dksX0_whose_0 19 rfl rfl)
theorem dX0_whose_21 : decode cX0_whose 21 = .ok (.aload_n 0, 1) := dk_42 (dk_at dksX0_whose_0 21 rfl rfl)
theorem dX0_whose_22 : decode cX0_whose 22 = .ok (.getfield 21, 3) := dk_180 0 21 (dk_at dksX0_whose_1 0 rfl rfl)
theorem dX0_whose_25 : decode cX0_whose 25 = .ok (.getfield 59, 3) := dk_180 0 59 (dk_at dksX0_whose_1 3 rfl rfl)
theorem dX0_whose_28 : decode cX0_whose 28 = .ok (.iconst 1, 1) := dk_4 (dk_at dksX0_whose_1 6 rfl rfl)
theorem dX0_whose_29 : decode cX0_whose 29 = .ok (.iaload, 1) := dk_46 (dk_at dksX0_whose_1 7 rfl rfl)
theorem dX0_whose_30 : decode cX0_whose 30 = .ok (.if_icmp .ge 41, 3) := dk_162 0 41 (dk_at dksX0_whose_1 8 rfl rfl)
theorem dX0_whose_33 : decode cX0_whose 33 = .ok (.aload_n 0, 1) := dk_42 (dk_at dksX0_whose_1 11 rfl rfl)
theorem dX0_whose_34 : decode cX0_whose 34 = .ok (.aload_n 0, 1) := dk_42 (dk_at dksX0_whose_1 12 rfl rfl)
theorem dX0_whose_35 : decode cX0_whose 35 = .ok (.getfield 21, 3) := dk_180 0 21 (dk_at dksX0_whose_1 13 rfl rfl)
theorem dX0_whose_38 : decode cX0_whose 38 = .ok (.getfield 96, 3) := dk_180 0 96 (dk_at dksX0_whose_1 16 rfl rfl)
theorem dX0_whose_41 : decode cX0_whose 41 = .ok (.iload 4, 2) := dk_21 4 (dk_at dksX0_whose_1 19 rfl rfl)
theorem dX0_whose_43 : decode cX0_whose 43 = .ok (.aaload, 1) := dk_50 (dk_at dksX0_whose_1 21 rfl rfl)
theorem dX0_whose_44 : decode cX0_whose 44 = .ok (.iload_n 1, 1) := dk_27 (dk_at dksX0_whose_1 22 rfl rfl)
theorem dX0_whose_45 : decode cX0_whose 45 = .ok (.invokevirtual 386, 3) := dk_182 1 130 (dk_at dksX0_whose_2 0 rfl rfl)
theorem dX0_whose_48 : decode cX0_whose 48 = .ok (.istore 5, 2) := dk_54 5 (dk_at dksX0_whose_2 3 rfl rfl)
theorem dX0_whose_50 : decode cX0_whose 50 = .ok (.iload 5, 2) := dk_21 5 (dk_at dksX0_whose_2 5 rfl rfl)
theorem dX0_whose_52 : decode cX0_whose 52 = .ok (.iload_n 3, 1) := dk_29 (dk_at dksX0_whose_2 7 rfl rfl)
theorem dX0_whose_53 : decode cX0_whose 53 = .ok (.if_icmp .gt 6, 3) := dk_163 0 6 (dk_at dksX0_whose_2 8 rfl rfl)
theorem dX0_whose_56 : decode cX0_whose 56 = .ok (.goto 9, 3) := dk_167 0 9 (dk_at dksX0_whose_2 11 rfl rfl)
theorem dX0_whose_59 : decode cX0_whose 59 = .ok (.iload 4, 2) := dk_21 4 (dk_at dksX0_whose_2 14 rfl rfl)
theorem dX0_whose_61 : decode cX0_whose 61 = .ok (.istore_n 2, 1) := dk_61 (dk_at dksX0_whose_2 16 rfl rfl)
theorem dX0_whose_62 : decode cX0_whose 62 = .ok (.iload 5, 2) := dk_21 5 (dk_at dksX0_whose_2 17 rfl rfl)
theorem dX0_whose_64 : decode cX0_whose 64 = .ok (.istore_n 3, 1) := dk_62 (dk_at dksX0_whose_2 19 rfl rfl)
theorem dX0_whose_65 : decode cX0_whose 65 = .ok (.iinc 4 1, 3) := dk_132 4 1 (dk_at dksX0_whose_2 20 rfl rfl)
theorem dX0_whose_68 : decode cX0_whose 68 = .ok (.goto (-49), 3) := dk_167 255 207 (dk_at dksX0_whose_3 0 rfl rfl)
theorem dX0_whose_71 : decode cX0_whose 71 = .ok (.iload_n 2, 1) := dk_28 (dk_at dksX0_whose_3 3 rfl rfl)
theorem dX0_whose_72 : decode cX0_whose 72 = .ok (.ireturn, 1) := dk_172 (dk_at dksX0_whose_3 4 rfl rfl)
abbrev cX0_pursesBy : ByteArray := prog_1_method_87_code
def yX0_pursesBy : MethodName := ⟨RX0, "pursesBy", "(LShutDays$Text;I)I"⟩
def dkwX0_pursesBy_2 : List UInt8 := [167, 0, 4, 3, 96, 62, 132, 4, 1, 167, 255, 213, 29, 172]
abbrev dktX0_pursesBy_2 : List UInt8 := dkwX0_pursesBy_2 ++ []
def dkwX0_pursesBy_1 : List UInt8 := [162, 0, 35, 29, 42, 21, 4, 182, 0, 209, 153, 0, 16, 42, 180, 0, 43, 16, 10, 21, 4, 96, 46]
abbrev dktX0_pursesBy_1 : List UInt8 := dkwX0_pursesBy_1 ++ dktX0_pursesBy_2
def dkwX0_pursesBy_0 : List UInt8 := [42, 43, 28, 182, 1, 48, 3, 62, 3, 54, 4, 21, 4, 42, 180, 0, 21, 180, 0, 59, 3, 46]
abbrev dktX0_pursesBy_0 : List UInt8 := dkwX0_pursesBy_0 ++ dktX0_pursesBy_1
theorem dksX0_pursesBy_0 : cX0_pursesBy.data.toList.drop 0 = dktX0_pursesBy_0 := by decide +kernel
theorem dksX0_pursesBy_1 : cX0_pursesBy.data.toList.drop 22 = dktX0_pursesBy_1 := dk_seg dksX0_pursesBy_0 22 rfl rfl
theorem dksX0_pursesBy_2 : cX0_pursesBy.data.toList.drop 45 = dktX0_pursesBy_2 := dk_seg dksX0_pursesBy_1 23 rfl rfl
theorem dX0_pursesBy_0 : decode cX0_pursesBy 0 = .ok (.aload_n 0, 1) := dk_42 (dk_at dksX0_pursesBy_0 0 rfl rfl)
theorem dX0_pursesBy_1 : decode cX0_pursesBy 1 = .ok (.aload_n 1, 1) := dk_43 (dk_at dksX0_pursesBy_0 1 rfl rfl)
theorem dX0_pursesBy_2 : decode cX0_pursesBy 2 = .ok (.iload_n 2, 1) := dk_28 (dk_at dksX0_pursesBy_0 2 rfl rfl)
theorem dX0_pursesBy_3 : decode cX0_pursesBy 3 = .ok (.invokevirtual 304, 3) := dk_182 1 48 (dk_at dksX0_pursesBy_0 3 rfl rfl)
theorem dX0_pursesBy_6 : decode cX0_pursesBy 6 = .ok (.iconst 0, 1) := dk_3 (dk_at dksX0_pursesBy_0 6 rfl rfl)
theorem dX0_pursesBy_7 : decode cX0_pursesBy 7 = .ok (.istore_n 3, 1) := dk_62 (dk_at dksX0_pursesBy_0 7 rfl rfl)
theorem dX0_pursesBy_8 : decode cX0_pursesBy 8 = .ok (.iconst 0, 1) := dk_3 (dk_at dksX0_pursesBy_0 8 rfl rfl)
theorem dX0_pursesBy_9 : decode cX0_pursesBy 9 = .ok (.istore 4, 2) := dk_54 4 (dk_at dksX0_pursesBy_0 9 rfl rfl)
theorem dX0_pursesBy_11 : decode cX0_pursesBy 11 = .ok (.iload 4, 2) := dk_21 4 (dk_at dksX0_pursesBy_0 11 rfl rfl)
theorem dX0_pursesBy_13 : decode cX0_pursesBy 13 = .ok (.aload_n 0, 1) := dk_42 (dk_at dksX0_pursesBy_0 13 rfl rfl)
theorem dX0_pursesBy_14 : decode cX0_pursesBy 14 = .ok (.getfield 21, 3) := dk_180 0 21 (dk_at dksX0_pursesBy_0 14 rfl rfl)
theorem dX0_pursesBy_17 : decode cX0_pursesBy 17 = .ok (.getfield 59, 3) := dk_180 0 59 (dk_at dksX0_pursesBy_0 17 rfl rfl)
theorem dX0_pursesBy_20 : decode cX0_pursesBy 20 = .ok (.iconst 0, 1) := dk_3 (dk_at dksX0_pursesBy_0 20 rfl rfl)
theorem dX0_pursesBy_21 : decode cX0_pursesBy 21 = .ok (.iaload, 1) := dk_46 (dk_at dksX0_pursesBy_0 21 rfl rfl)
theorem dX0_pursesBy_22 : decode cX0_pursesBy 22 = .ok (.if_icmp .ge 35, 3) := dk_162 0 35 (dk_at dksX0_pursesBy_1 0 rfl rfl)
theorem dX0_pursesBy_25 : decode cX0_pursesBy 25 = .ok (.iload_n 3, 1) := dk_29 (dk_at dksX0_pursesBy_1 3 rfl rfl)
theorem dX0_pursesBy_26 : decode cX0_pursesBy 26 = .ok (.aload_n 0, 1) := dk_42 (dk_at dksX0_pursesBy_1 4 rfl rfl)
theorem dX0_pursesBy_27 : decode cX0_pursesBy 27 = .ok (.iload 4, 2) := dk_21 4 (dk_at dksX0_pursesBy_1 5 rfl rfl)
theorem dX0_pursesBy_29 : decode cX0_pursesBy 29 = .ok (.invokevirtual 209, 3) := dk_182 0 209 (dk_at dksX0_pursesBy_1 7 rfl rfl)
theorem dX0_pursesBy_32 : decode cX0_pursesBy 32 = .ok (.ifCond .eq 16, 3) := dk_153 0 16 (dk_at dksX0_pursesBy_1 10 rfl rfl)
theorem dX0_pursesBy_35 : decode cX0_pursesBy 35 = .ok (.aload_n 0, 1) := dk_42 (dk_at dksX0_pursesBy_1 13 rfl rfl)
theorem dX0_pursesBy_36 : decode cX0_pursesBy 36 = .ok (.getfield 43, 3) := dk_180 0 43 (dk_at dksX0_pursesBy_1 14 rfl rfl)
theorem dX0_pursesBy_39 : decode cX0_pursesBy 39 = .ok (.bipush 10, 2) := dk_16 10 (dk_at dksX0_pursesBy_1 17 rfl rfl)
theorem dX0_pursesBy_41 : decode cX0_pursesBy 41 = .ok (.iload 4, 2) := dk_21 4 (dk_at dksX0_pursesBy_1 19 rfl rfl)
theorem dX0_pursesBy_43 : decode cX0_pursesBy 43 = .ok (.iadd, 1) := dk_96 (dk_at dksX0_pursesBy_1 21 rfl rfl)
theorem dX0_pursesBy_44 : decode cX0_pursesBy 44 = .ok (.iaload, 1) := dk_46 (dk_at dksX0_pursesBy_1 22 rfl rfl)
theorem dX0_pursesBy_45 : decode cX0_pursesBy 45 = .ok (.goto 4, 3) := dk_167 0 4 (dk_at dksX0_pursesBy_2 0 rfl rfl)
theorem dX0_pursesBy_48 : decode cX0_pursesBy 48 = .ok (.iconst 0, 1) := dk_3 (dk_at dksX0_pursesBy_2 3 rfl rfl)
theorem dX0_pursesBy_49 : decode cX0_pursesBy 49 = .ok (.iadd, 1) := dk_96 (dk_at dksX0_pursesBy_2 4 rfl rfl)
theorem dX0_pursesBy_50 : decode cX0_pursesBy 50 = .ok (.istore_n 3, 1) := dk_62 (dk_at dksX0_pursesBy_2 5 rfl rfl)
theorem dX0_pursesBy_51 : decode cX0_pursesBy 51 = .ok (.iinc 4 1, 3) := dk_132 4 1 (dk_at dksX0_pursesBy_2 6 rfl rfl)
theorem dX0_pursesBy_54 : decode cX0_pursesBy 54 = .ok (.goto (-43), 3) := dk_167 255 213 (dk_at dksX0_pursesBy_2 9 rfl rfl)
theorem dX0_pursesBy_57 : decode cX0_pursesBy 57 = .ok (.iload_n 3, 1) := dk_29 (dk_at dksX0_pursesBy_2 12 rfl rfl)
theorem dX0_pursesBy_58 : decode cX0_pursesBy 58 = .ok (.ireturn, 1) := dk_172 (dk_at dksX0_pursesBy_2 13 rfl rfl)
abbrev cX0_knocks : ByteArray := prog_1_method_90_code
def yX0_knocks : MethodName := ⟨RX0, "knocks", "(IZ)I"⟩
def dkwX0_knocks_1 : List UInt8 := [182, 1, 134, 167, 0, 5, 16, 254, 172]
abbrev dktX0_knocks_1 : List UInt8 := dkwX0_knocks_1 ++ []
def dkwX0_knocks_0 : List UInt8 := [27, 2, 159, 0, 11, 42, 27, 182, 0, 70, 153, 0, 20, 42, 27, 28, 153, 0, 7, 4, 167, 0, 4, 3]
abbrev dktX0_knocks_0 : List UInt8 := dkwX0_knocks_0 ++ dktX0_knocks_1
theorem dksX0_knocks_0 : cX0_knocks.data.toList.drop 0 = dktX0_knocks_0 := by decide +kernel
theorem dksX0_knocks_1 : cX0_knocks.data.toList.drop 24 = dktX0_knocks_1 := dk_seg dksX0_knocks_0 24 rfl rfl
theorem dX0_knocks_0 : decode cX0_knocks 0 = .ok (.iload_n 1, 1) := dk_27 (dk_at dksX0_knocks_0 0 rfl rfl)
theorem dX0_knocks_1 : decode cX0_knocks 1 = .ok (.iconst (-1), 1) := dk_2 (dk_at dksX0_knocks_0 1 rfl rfl)
theorem dX0_knocks_2 : decode cX0_knocks 2 = .ok (.if_icmp .eq 11, 3) := dk_159 0 11 (dk_at dksX0_knocks_0 2 rfl rfl)
theorem dX0_knocks_5 : decode cX0_knocks 5 = .ok (.aload_n 0, 1) := dk_42 (dk_at dksX0_knocks_0 5 rfl rfl)
theorem dX0_knocks_6 : decode cX0_knocks 6 = .ok (.iload_n 1, 1) := dk_27 (dk_at dksX0_knocks_0 6 rfl rfl)
theorem dX0_knocks_7 : decode cX0_knocks 7 = .ok (.invokevirtual 70, 3) := dk_182 0 70 (dk_at dksX0_knocks_0 7 rfl rfl)
theorem dX0_knocks_10 : decode cX0_knocks 10 = .ok (.ifCond .eq 20, 3) := dk_153 0 20 (dk_at dksX0_knocks_0 10 rfl rfl)
theorem dX0_knocks_13 : decode cX0_knocks 13 = .ok (.aload_n 0, 1) := dk_42 (dk_at dksX0_knocks_0 13 rfl rfl)
theorem dX0_knocks_14 : decode cX0_knocks 14 = .ok (.iload_n 1, 1) := dk_27 (dk_at dksX0_knocks_0 14 rfl rfl)
theorem dX0_knocks_15 : decode cX0_knocks 15 = .ok (.iload_n 2, 1) := dk_28 (dk_at dksX0_knocks_0 15 rfl rfl)
theorem dX0_knocks_16 : decode cX0_knocks 16 = .ok (.ifCond .eq 7, 3) := dk_153 0 7 (dk_at dksX0_knocks_0 16 rfl rfl)
theorem dX0_knocks_19 : decode cX0_knocks 19 = .ok (.iconst 1, 1) := dk_4 (dk_at dksX0_knocks_0 19 rfl rfl)
theorem dX0_knocks_20 : decode cX0_knocks 20 = .ok (.goto 4, 3) := dk_167 0 4 (dk_at dksX0_knocks_0 20 rfl rfl)
theorem dX0_knocks_23 : decode cX0_knocks 23 = .ok (.iconst 0, 1) := dk_3 (dk_at dksX0_knocks_0 23 rfl rfl)
theorem dX0_knocks_24 : decode cX0_knocks 24 = .ok (.invokevirtual 390, 3) := dk_182 1 134 (dk_at dksX0_knocks_1 0 rfl rfl)
theorem dX0_knocks_27 : decode cX0_knocks 27 = .ok (.goto 5, 3) := dk_167 0 5 (dk_at dksX0_knocks_1 3 rfl rfl)
theorem dX0_knocks_30 : decode cX0_knocks 30 = .ok (.bipush (-2), 2) := dk_16 254 (dk_at dksX0_knocks_1 6 rfl rfl)
theorem dX0_knocks_32 : decode cX0_knocks 32 = .ok (.ireturn, 1) := dk_172 (dk_at dksX0_knocks_1 8 rfl rfl)
abbrev cX0_knocksAt : ByteArray := prog_1_method_89_code
def yX0_knocksAt : MethodName := ⟨RX0, "knocksAt", "(II)I"⟩
def dkwX0_knocksAt_3 : List UInt8 := [3, 96, 62, 132, 4, 1, 167, 255, 184, 29, 172]
abbrev dktX0_knocksAt_3 : List UInt8 := dkwX0_knocksAt_3 ++ []
def dkwX0_knocksAt_2 : List UInt8 := [27, 160, 0, 23, 42, 180, 0, 21, 180, 0, 74, 21, 5, 5, 96, 46, 28, 160, 0, 7, 4, 167, 0, 4]
abbrev dktX0_knocksAt_2 : List UInt8 := dkwX0_knocksAt_2 ++ dktX0_knocksAt_3
def dkwX0_knocksAt_1 : List UInt8 := [21, 4, 104, 96, 54, 5, 29, 27, 2, 159, 0, 19, 42, 180, 0, 21, 180, 0, 74, 21, 5, 4, 96, 46]
abbrev dktX0_knocksAt_1 : List UInt8 := dkwX0_knocksAt_1 ++ dktX0_knocksAt_2
def dkwX0_knocksAt_0 : List UInt8 := [3, 62, 3, 54, 4, 21, 4, 42, 180, 0, 21, 180, 0, 74, 16, 24, 46, 162, 0, 63, 16, 25, 6]
abbrev dktX0_knocksAt_0 : List UInt8 := dkwX0_knocksAt_0 ++ dktX0_knocksAt_1
theorem dksX0_knocksAt_0 : cX0_knocksAt.data.toList.drop 0 = dktX0_knocksAt_0 := by decide +kernel
theorem dksX0_knocksAt_1 : cX0_knocksAt.data.toList.drop 23 = dktX0_knocksAt_1 := dk_seg dksX0_knocksAt_0 23 rfl rfl
theorem dksX0_knocksAt_2 : cX0_knocksAt.data.toList.drop 47 = dktX0_knocksAt_2 := dk_seg dksX0_knocksAt_1 24 rfl rfl
theorem dksX0_knocksAt_3 : cX0_knocksAt.data.toList.drop 71 = dktX0_knocksAt_3 := dk_seg dksX0_knocksAt_2 24 rfl rfl
theorem dX0_knocksAt_0 : decode cX0_knocksAt 0 = .ok (.iconst 0, 1) := dk_3 (dk_at dksX0_knocksAt_0 0 rfl rfl)
theorem dX0_knocksAt_1 : decode cX0_knocksAt 1 = .ok (.istore_n 3, 1) := dk_62 (dk_at dksX0_knocksAt_0 1 rfl rfl)
theorem dX0_knocksAt_2 : decode cX0_knocksAt 2 = .ok (.iconst 0, 1) := dk_3 (dk_at dksX0_knocksAt_0 2 rfl rfl)
theorem dX0_knocksAt_3 : decode cX0_knocksAt 3 = .ok (.istore 4, 2) := dk_54 4 (dk_at dksX0_knocksAt_0 3 rfl rfl)
theorem dX0_knocksAt_5 : decode cX0_knocksAt 5 = .ok (.iload 4, 2) := dk_21 4 (dk_at dksX0_knocksAt_0 5 rfl rfl)
theorem dX0_knocksAt_7 : decode cX0_knocksAt 7 = .ok (.aload_n 0, 1) := dk_42 (dk_at dksX0_knocksAt_0 7 rfl rfl)
theorem dX0_knocksAt_8 : decode cX0_knocksAt 8 = .ok (.getfield 21, 3) := dk_180 0 21 (dk_at dksX0_knocksAt_0 8 rfl rfl)
theorem dX0_knocksAt_11 : decode cX0_knocksAt 11 = .ok (.getfield 74, 3) := dk_180 0 74 (dk_at dksX0_knocksAt_0 11 rfl rfl)
theorem dX0_knocksAt_14 : decode cX0_knocksAt 14 = .ok (.bipush 24, 2) := dk_16 24 (dk_at dksX0_knocksAt_0 14 rfl rfl)
theorem dX0_knocksAt_16 : decode cX0_knocksAt 16 = .ok (.iaload, 1) := dk_46 (dk_at dksX0_knocksAt_0 16 rfl rfl)
theorem dX0_knocksAt_17 : decode cX0_knocksAt 17 = .ok (.if_icmp .ge 63, 3) := dk_162 0 63 (dk_at dksX0_knocksAt_0 17 rfl rfl)
theorem dX0_knocksAt_20 : decode cX0_knocksAt 20 = .ok (.bipush 25, 2) := dk_16 25 (dk_at dksX0_knocksAt_0 20 rfl rfl)
theorem dX0_knocksAt_22 : decode cX0_knocksAt 22 = .ok (.iconst 3, 1) := dk_6 (dk_at dksX0_knocksAt_0 22 rfl rfl)
theorem dX0_knocksAt_23 : decode cX0_knocksAt 23 = .ok (.iload 4, 2) := dk_21 4 (dk_at dksX0_knocksAt_1 0 rfl rfl)
theorem dX0_knocksAt_25 : decode cX0_knocksAt 25 = .ok (.imul, 1) := dk_104 (dk_at dksX0_knocksAt_1 2 rfl rfl)
theorem dX0_knocksAt_26 : decode cX0_knocksAt 26 = .ok (.iadd, 1) := dk_96 (dk_at dksX0_knocksAt_1 3 rfl rfl)
theorem dX0_knocksAt_27 : decode cX0_knocksAt 27 = .ok (.istore 5, 2) := dk_54 5 (dk_at dksX0_knocksAt_1 4 rfl rfl)
theorem dX0_knocksAt_29 : decode cX0_knocksAt 29 = .ok (.iload_n 3, 1) := dk_29 (dk_at dksX0_knocksAt_1 6 rfl rfl)
theorem dX0_knocksAt_30 : decode cX0_knocksAt 30 = .ok (.iload_n 1, 1) := dk_27 (dk_at dksX0_knocksAt_1 7 rfl rfl)
theorem dX0_knocksAt_31 : decode cX0_knocksAt 31 = .ok (.iconst (-1), 1) := dk_2 (dk_at dksX0_knocksAt_1 8 rfl rfl)
theorem dX0_knocksAt_32 : decode cX0_knocksAt 32 = .ok (.if_icmp .eq 19, 3) := dk_159 0 19 (dk_at dksX0_knocksAt_1 9 rfl rfl)
theorem dX0_knocksAt_35 : decode cX0_knocksAt 35 = .ok (.aload_n 0, 1) := dk_42 (dk_at dksX0_knocksAt_1 12 rfl rfl)
theorem dX0_knocksAt_36 : decode cX0_knocksAt 36 = .ok (.getfield 21, 3) := dk_180 0 21 (dk_at dksX0_knocksAt_1 13 rfl rfl)
theorem dX0_knocksAt_39 : decode cX0_knocksAt 39 = .ok (.getfield 74, 3) := dk_180 0 74 (dk_at dksX0_knocksAt_1 16 rfl rfl)
theorem dX0_knocksAt_42 : decode cX0_knocksAt 42 = .ok (.iload 5, 2) := dk_21 5 (dk_at dksX0_knocksAt_1 19 rfl rfl)
theorem dX0_knocksAt_44 : decode cX0_knocksAt 44 = .ok (.iconst 1, 1) := dk_4 (dk_at dksX0_knocksAt_1 21 rfl rfl)
theorem dX0_knocksAt_45 : decode cX0_knocksAt 45 = .ok (.iadd, 1) := dk_96 (dk_at dksX0_knocksAt_1 22 rfl rfl)
theorem dX0_knocksAt_46 : decode cX0_knocksAt 46 = .ok (.iaload, 1) := dk_46 (dk_at dksX0_knocksAt_1 23 rfl rfl)
theorem dX0_knocksAt_47 : decode cX0_knocksAt 47 = .ok (.iload_n 1, 1) := dk_27 (dk_at dksX0_knocksAt_2 0 rfl rfl)
theorem dX0_knocksAt_48 : decode cX0_knocksAt 48 = .ok (.if_icmp .ne 23, 3) := dk_160 0 23 (dk_at dksX0_knocksAt_2 1 rfl rfl)
theorem dX0_knocksAt_51 : decode cX0_knocksAt 51 = .ok (.aload_n 0, 1) := dk_42 (dk_at dksX0_knocksAt_2 4 rfl rfl)
theorem dX0_knocksAt_52 : decode cX0_knocksAt 52 = .ok (.getfield 21, 3) := dk_180 0 21 (dk_at dksX0_knocksAt_2 5 rfl rfl)
theorem dX0_knocksAt_55 : decode cX0_knocksAt 55 = .ok (.getfield 74, 3) := dk_180 0 74 (dk_at dksX0_knocksAt_2 8 rfl rfl)
theorem dX0_knocksAt_58 : decode cX0_knocksAt 58 = .ok (.iload 5, 2) := dk_21 5 (dk_at dksX0_knocksAt_2 11 rfl rfl)
theorem dX0_knocksAt_60 : decode cX0_knocksAt 60 = .ok (.iconst 2, 1) := dk_5 (dk_at dksX0_knocksAt_2 13 rfl rfl)
theorem dX0_knocksAt_61 : decode cX0_knocksAt 61 = .ok (.iadd, 1) := dk_96 (dk_at dksX0_knocksAt_2 14 rfl rfl)
theorem dX0_knocksAt_62 : decode cX0_knocksAt 62 = .ok (.iaload, 1) := dk_46 (dk_at dksX0_knocksAt_2 15 rfl rfl)
theorem dX0_knocksAt_63 : decode cX0_knocksAt 63 = .ok (.iload_n 2, 1) := dk_28 (dk_at dksX0_knocksAt_2 16 rfl rfl)
theorem dX0_knocksAt_64 : decode cX0_knocksAt 64 = .ok (.if_icmp .ne 7, 3) := dk_160 0 7 (dk_at dksX0_knocksAt_2 17 rfl rfl)
theorem dX0_knocksAt_67 : decode cX0_knocksAt 67 = .ok (.iconst 1, 1) := dk_4 (dk_at dksX0_knocksAt_2 20 rfl rfl)
theorem dX0_knocksAt_68 : decode cX0_knocksAt 68 = .ok (.goto 4, 3) := dk_167 0 4 (dk_at dksX0_knocksAt_2 21 rfl rfl)
theorem dX0_knocksAt_71 : decode cX0_knocksAt 71 = .ok (.iconst 0, 1) := dk_3 (dk_at dksX0_knocksAt_3 0 rfl rfl)
theorem dX0_knocksAt_72 : decode cX0_knocksAt 72 = .ok (.iadd, 1) := dk_96 (dk_at dksX0_knocksAt_3 1 rfl rfl)
theorem dX0_knocksAt_73 : decode cX0_knocksAt 73 = .ok (.istore_n 3, 1) := dk_62 (dk_at dksX0_knocksAt_3 2 rfl rfl)
theorem dX0_knocksAt_74 : decode cX0_knocksAt 74 = .ok (.iinc 4 1, 3) := dk_132 4 1 (dk_at dksX0_knocksAt_3 3 rfl rfl)
theorem dX0_knocksAt_77 : decode cX0_knocksAt 77 = .ok (.goto (-72), 3) := dk_167 255 184 (dk_at dksX0_knocksAt_3 6 rfl rfl)
theorem dX0_knocksAt_80 : decode cX0_knocksAt 80 = .ok (.iload_n 3, 1) := dk_29 (dk_at dksX0_knocksAt_3 9 rfl rfl)
theorem dX0_knocksAt_81 : decode cX0_knocksAt 81 = .ok (.ireturn, 1) := dk_172 (dk_at dksX0_knocksAt_3 10 rfl rfl)
abbrev cX0_offended : ByteArray := prog_1_method_91_code
def yX0_offended : MethodName := ⟨RX0, "offended", "()I"⟩
def dkwX0_offended_2 : List UInt8 := [167, 255, 214, 27, 172]
abbrev dktX0_offended_2 : List UInt8 := dkwX0_offended_2 ++ []
def dkwX0_offended_1 : List UInt8 := [2, 160, 0, 7, 3, 167, 0, 9, 42, 27, 4, 182, 1, 134, 164, 0, 5, 28, 60, 132, 2, 1]
abbrev dktX0_offended_1 : List UInt8 := dkwX0_offended_1 ++ dktX0_offended_2
def dkwX0_offended_0 : List UInt8 := [2, 60, 3, 61, 28, 42, 180, 0, 21, 180, 0, 59, 3, 46, 162, 0, 35, 42, 28, 4, 182, 1, 134, 27]
abbrev dktX0_offended_0 : List UInt8 := dkwX0_offended_0 ++ dktX0_offended_1
theorem dksX0_offended_0 : cX0_offended.data.toList.drop 0 = dktX0_offended_0 := by decide +kernel
theorem dksX0_offended_1 : cX0_offended.data.toList.drop 24 = dktX0_offended_1 := dk_seg dksX0_offended_0 24 rfl rfl
theorem dksX0_offended_2 : cX0_offended.data.toList.drop 46 = dktX0_offended_2 := dk_seg dksX0_offended_1 22 rfl rfl
theorem dX0_offended_0 : decode cX0_offended 0 = .ok (.iconst (-1), 1) := dk_2 (dk_at dksX0_offended_0 0 rfl rfl)
theorem dX0_offended_1 : decode cX0_offended 1 = .ok (.istore_n 1, 1) := dk_60 (dk_at dksX0_offended_0 1 rfl rfl)
theorem dX0_offended_2 : decode cX0_offended 2 = .ok (.iconst 0, 1) := dk_3 (dk_at dksX0_offended_0 2 rfl rfl)
theorem dX0_offended_3 : decode cX0_offended 3 = .ok (.istore_n 2, 1) := dk_61 (dk_at dksX0_offended_0 3 rfl rfl)
theorem dX0_offended_4 : decode cX0_offended 4 = .ok (.iload_n 2, 1) := dk_28 (dk_at dksX0_offended_0 4 rfl rfl)
theorem dX0_offended_5 : decode cX0_offended 5 = .ok (.aload_n 0, 1) := dk_42 (dk_at dksX0_offended_0 5 rfl rfl)
theorem dX0_offended_6 : decode cX0_offended 6 = .ok (.getfield 21, 3) := dk_180 0 21 (dk_at dksX0_offended_0 6 rfl rfl)
theorem dX0_offended_9 : decode cX0_offended 9 = .ok (.getfield 59, 3) := dk_180 0 59 (dk_at dksX0_offended_0 9 rfl rfl)
theorem dX0_offended_12 : decode cX0_offended 12 = .ok (.iconst 0, 1) := dk_3 (dk_at dksX0_offended_0 12 rfl rfl)
theorem dX0_offended_13 : decode cX0_offended 13 = .ok (.iaload, 1) := dk_46 (dk_at dksX0_offended_0 13 rfl rfl)
theorem dX0_offended_14 : decode cX0_offended 14 = .ok (.if_icmp .ge 35, 3) := dk_162 0 35 (dk_at dksX0_offended_0 14 rfl rfl)
theorem dX0_offended_17 : decode cX0_offended 17 = .ok (.aload_n 0, 1) := dk_42 (dk_at dksX0_offended_0 17 rfl rfl)
theorem dX0_offended_18 : decode cX0_offended 18 = .ok (.iload_n 2, 1) := dk_28 (dk_at dksX0_offended_0 18 rfl rfl)
theorem dX0_offended_19 : decode cX0_offended 19 = .ok (.iconst 1, 1) := dk_4 (dk_at dksX0_offended_0 19 rfl rfl)
theorem dX0_offended_20 : decode cX0_offended 20 = .ok (.invokevirtual 390, 3) := dk_182 1 134 (dk_at dksX0_offended_0 20 rfl rfl)
theorem dX0_offended_23 : decode cX0_offended 23 = .ok (.iload_n 1, 1) := dk_27 (dk_at dksX0_offended_0 23 rfl rfl)
theorem dX0_offended_24 : decode cX0_offended 24 = .ok (.iconst (-1), 1) := dk_2 (dk_at dksX0_offended_1 0 rfl rfl)
theorem dX0_offended_25 : decode cX0_offended 25 = .ok (.if_icmp .ne 7, 3) := dk_160 0 7 (dk_at dksX0_offended_1 1 rfl rfl)
theorem dX0_offended_28 : decode cX0_offended 28 = .ok (.iconst 0, 1) := dk_3 (dk_at dksX0_offended_1 4 rfl rfl)
theorem dX0_offended_29 : decode cX0_offended 29 = .ok (.goto 9, 3) := dk_167 0 9 (dk_at dksX0_offended_1 5 rfl rfl)
theorem dX0_offended_32 : decode cX0_offended 32 = .ok (.aload_n 0, 1) := dk_42 (dk_at dksX0_offended_1 8 rfl rfl)
theorem dX0_offended_33 : decode cX0_offended 33 = .ok (.iload_n 1, 1) := dk_27 (dk_at dksX0_offended_1 9 rfl rfl)
theorem dX0_offended_34 : decode cX0_offended 34 = .ok (.iconst 1, 1) := dk_4 (dk_at dksX0_offended_1 10 rfl rfl)
theorem dX0_offended_35 : decode cX0_offended 35 = .ok (.invokevirtual 390, 3) := dk_182 1 134 (dk_at dksX0_offended_1 11 rfl rfl)
theorem dX0_offended_38 : decode cX0_offended 38 = .ok (.if_icmp .le 5, 3) := dk_164 0 5 (dk_at dksX0_offended_1 14 rfl rfl)
theorem dX0_offended_41 : decode cX0_offended 41 = .ok (.iload_n 2, 1) := dk_28 (dk_at dksX0_offended_1 17 rfl rfl)
theorem dX0_offended_42 : decode cX0_offended 42 = .ok (.istore_n 1, 1) := dk_60 (dk_at dksX0_offended_1 18 rfl rfl)
theorem dX0_offended_43 : decode cX0_offended 43 = .ok (.iinc 2 1, 3) := dk_132 2 1 (dk_at dksX0_offended_1 19 rfl rfl)
theorem dX0_offended_46 : decode cX0_offended 46 = .ok (.goto (-42), 3) := dk_167 255 214 (dk_at dksX0_offended_2 0 rfl rfl)
theorem dX0_offended_49 : decode cX0_offended 49 = .ok (.iload_n 1, 1) := dk_27 (dk_at dksX0_offended_2 3 rfl rfl)
theorem dX0_offended_50 : decode cX0_offended 50 = .ok (.ireturn, 1) := dk_172 (dk_at dksX0_offended_2 4 rfl rfl)
abbrev cX0_leap : ByteArray := prog_1_method_92_code
def yX0_leap : MethodName := ⟨RX0, "leap", "(II)I"⟩
def dkwX0_leap_3 : List UInt8 := [46, 160, 0, 6, 21, 5, 172, 132, 5, 1, 167, 255, 213, 2, 172]
abbrev dktX0_leap_3 : List UInt8 := dkwX0_leap_3 ++ []
def dkwX0_leap_2 : List UInt8 := [21, 5, 120, 29, 126, 21, 4, 16, 20, 21, 5, 100, 122, 128, 42, 180, 0, 21, 180, 0, 74, 6, 28, 96]
abbrev dktX0_leap_2 : List UInt8 := dkwX0_leap_2 ++ dktX0_leap_3
def dkwX0_leap_1 : List UInt8 := [180, 0, 21, 180, 0, 74, 6, 27, 96, 46, 54, 4, 3, 54, 5, 21, 5, 16, 20, 162, 0, 42, 21, 4]
abbrev dktX0_leap_1 : List UInt8 := dkwX0_leap_1 ++ dktX0_leap_2
def dkwX0_leap_0 : List UInt8 := [42, 27, 182, 0, 70, 153, 0, 11, 42, 28, 182, 0, 70, 154, 0, 5, 2, 172, 19, 1, 137, 62, 42]
abbrev dktX0_leap_0 : List UInt8 := dkwX0_leap_0 ++ dktX0_leap_1
theorem dksX0_leap_0 : cX0_leap.data.toList.drop 0 = dktX0_leap_0 := by decide +kernel
theorem dksX0_leap_1 : cX0_leap.data.toList.drop 23 = dktX0_leap_1 := dk_seg dksX0_leap_0 23 rfl rfl
theorem dksX0_leap_2 : cX0_leap.data.toList.drop 47 = dktX0_leap_2 := dk_seg dksX0_leap_1 24 rfl rfl
theorem dksX0_leap_3 : cX0_leap.data.toList.drop 71 = dktX0_leap_3 := dk_seg dksX0_leap_2 24 rfl rfl
theorem dX0_leap_0 : decode cX0_leap 0 = .ok (.aload_n 0, 1) := dk_42 (dk_at dksX0_leap_0 0 rfl rfl)
theorem dX0_leap_1 : decode cX0_leap 1 = .ok (.iload_n 1, 1) := dk_27 (dk_at dksX0_leap_0 1 rfl rfl)
theorem dX0_leap_2 : decode cX0_leap 2 = .ok (.invokevirtual 70, 3) := dk_182 0 70 (dk_at dksX0_leap_0 2 rfl rfl)
theorem dX0_leap_5 : decode cX0_leap 5 = .ok (.ifCond .eq 11, 3) := dk_153 0 11 (dk_at dksX0_leap_0 5 rfl rfl)
theorem dX0_leap_8 : decode cX0_leap 8 = .ok (.aload_n 0, 1) := dk_42 (dk_at dksX0_leap_0 8 rfl rfl)
theorem dX0_leap_9 : decode cX0_leap 9 = .ok (.iload_n 2, 1) := dk_28 (dk_at dksX0_leap_0 9 rfl rfl)
theorem dX0_leap_10 : decode cX0_leap 10 = .ok (.invokevirtual 70, 3) := dk_182 0 70 (dk_at dksX0_leap_0 10 rfl rfl)
theorem dX0_leap_13 : decode cX0_leap 13 = .ok (.ifCond .ne 5, 3) := dk_154 0 5 (dk_at dksX0_leap_0 13 rfl rfl)
theorem dX0_leap_16 : decode cX0_leap 16 = .ok (.iconst (-1), 1) := dk_2 (dk_at dksX0_leap_0 16 rfl rfl)
theorem dX0_leap_17 : decode cX0_leap 17 = .ok (.ireturn, 1) := dk_172 (dk_at dksX0_leap_0 17 rfl rfl)
theorem dX0_leap_18 : decode cX0_leap 18 = .ok (.ldc_w 393, 3) := dk_19 1 137 (dk_at dksX0_leap_0 18 rfl rfl)
theorem dX0_leap_21 : decode cX0_leap 21 = .ok (.istore_n 3, 1) := dk_62 (dk_at dksX0_leap_0 21 rfl rfl)
theorem dX0_leap_22 : decode cX0_leap 22 = .ok (.aload_n 0, 1) := dk_42 (dk_at dksX0_leap_0 22 rfl rfl)
theorem dX0_leap_23 : decode cX0_leap 23 = .ok (.getfield 21, 3) := dk_180 0 21 (dk_at dksX0_leap_1 0 rfl rfl)
theorem dX0_leap_26 : decode cX0_leap 26 = .ok (.getfield 74, 3) := dk_180 0 74 (dk_at dksX0_leap_1 3 rfl rfl)
theorem dX0_leap_29 : decode cX0_leap 29 = .ok (.iconst 3, 1) := dk_6 (dk_at dksX0_leap_1 6 rfl rfl)
theorem dX0_leap_30 : decode cX0_leap 30 = .ok (.iload_n 1, 1) := dk_27 (dk_at dksX0_leap_1 7 rfl rfl)
theorem dX0_leap_31 : decode cX0_leap 31 = .ok (.iadd, 1) := dk_96 (dk_at dksX0_leap_1 8 rfl rfl)
theorem dX0_leap_32 : decode cX0_leap 32 = .ok (.iaload, 1) := dk_46 (dk_at dksX0_leap_1 9 rfl rfl)
theorem dX0_leap_33 : decode cX0_leap 33 = .ok (.istore 4, 2) := dk_54 4 (dk_at dksX0_leap_1 10 rfl rfl)
theorem dX0_leap_35 : decode cX0_leap 35 = .ok (.iconst 0, 1) := dk_3 (dk_at dksX0_leap_1 12 rfl rfl)
theorem dX0_leap_36 : decode cX0_leap 36 = .ok (.istore 5, 2) := dk_54 5 (dk_at dksX0_leap_1 13 rfl rfl)
theorem dX0_leap_38 : decode cX0_leap 38 = .ok (.iload 5, 2) := dk_21 5 (dk_at dksX0_leap_1 15 rfl rfl)
theorem dX0_leap_40 : decode cX0_leap 40 = .ok (.bipush 20, 2) := dk_16 20 (dk_at dksX0_leap_1 17 rfl rfl)
theorem dX0_leap_42 : decode cX0_leap 42 = .ok (.if_icmp .ge 42, 3) := dk_162 0 42 (dk_at dksX0_leap_1 19 rfl rfl)
theorem dX0_leap_45 : decode cX0_leap 45 = .ok (.iload 4, 2) := dk_21 4 (dk_at dksX0_leap_1 22 rfl rfl)
theorem dX0_leap_47 : decode cX0_leap 47 = .ok (.iload 5, 2) := dk_21 5 (dk_at dksX0_leap_2 0 rfl rfl)
theorem dX0_leap_49 : decode cX0_leap 49 = .ok (.ishl, 1) := dk_120 (dk_at dksX0_leap_2 2 rfl rfl)
theorem dX0_leap_50 : decode cX0_leap 50 = .ok (.iload_n 3, 1) := dk_29 (dk_at dksX0_leap_2 3 rfl rfl)
theorem dX0_leap_51 : decode cX0_leap 51 = .ok (.iand, 1) := dk_126 (dk_at dksX0_leap_2 4 rfl rfl)
theorem dX0_leap_52 : decode cX0_leap 52 = .ok (.iload 4, 2) := dk_21 4 (dk_at dksX0_leap_2 5 rfl rfl)
theorem dX0_leap_54 : decode cX0_leap 54 = .ok (.bipush 20, 2) := dk_16 20 (dk_at dksX0_leap_2 7 rfl rfl)
theorem dX0_leap_56 : decode cX0_leap 56 = .ok (.iload 5, 2) := dk_21 5 (dk_at dksX0_leap_2 9 rfl rfl)
theorem dX0_leap_58 : decode cX0_leap 58 = .ok (.isub, 1) := dk_100 (dk_at dksX0_leap_2 11 rfl rfl)
theorem dX0_leap_59 : decode cX0_leap 59 = .ok (.ishr, 1) := dk_122 (dk_at dksX0_leap_2 12 rfl rfl)
theorem dX0_leap_60 : decode cX0_leap 60 = .ok (.ior, 1) := dk_128 (dk_at dksX0_leap_2 13 rfl rfl)
theorem dX0_leap_61 : decode cX0_leap 61 = .ok (.aload_n 0, 1) := dk_42 (dk_at dksX0_leap_2 14 rfl rfl)
theorem dX0_leap_62 : decode cX0_leap 62 = .ok (.getfield 21, 3) := dk_180 0 21 (dk_at dksX0_leap_2 15 rfl rfl)
theorem dX0_leap_65 : decode cX0_leap 65 = .ok (.getfield 74, 3) := dk_180 0 74 (dk_at dksX0_leap_2 18 rfl rfl)
theorem dX0_leap_68 : decode cX0_leap 68 = .ok (.iconst 3, 1) := dk_6 (dk_at dksX0_leap_2 21 rfl rfl)
theorem dX0_leap_69 : decode cX0_leap 69 = .ok (.iload_n 2, 1) := dk_28 (dk_at dksX0_leap_2 22 rfl rfl)
theorem dX0_leap_70 : decode cX0_leap 70 = .ok (.iadd, 1) := dk_96 (dk_at dksX0_leap_2 23 rfl rfl)
theorem dX0_leap_71 : decode cX0_leap 71 = .ok (.iaload, 1) := dk_46 (dk_at dksX0_leap_3 0 rfl rfl)
theorem dX0_leap_72 : decode cX0_leap 72 = .ok (.if_icmp .ne 6, 3) := dk_160 0 6 (dk_at dksX0_leap_3 1 rfl rfl)
theorem dX0_leap_75 : decode cX0_leap 75 = .ok (.iload 5, 2) := dk_21 5 (dk_at dksX0_leap_3 4 rfl rfl)
theorem dX0_leap_77 : decode cX0_leap 77 = .ok (.ireturn, 1) := dk_172 (dk_at dksX0_leap_3 6 rfl rfl)
theorem dX0_leap_78 : decode cX0_leap 78 = .ok (.iinc 5 1, 3) := dk_132 5 1 (dk_at dksX0_leap_3 7 rfl rfl)
theorem dX0_leap_81 : decode cX0_leap 81 = .ok (.goto (-43), 3) := dk_167 255 213 (dk_at dksX0_leap_3 10 rfl rfl)
theorem dX0_leap_84 : decode cX0_leap 84 = .ok (.iconst (-1), 1) := dk_2 (dk_at dksX0_leap_3 13 rfl rfl)
theorem dX0_leap_85 : decode cX0_leap 85 = .ok (.ireturn, 1) := dk_172 (dk_at dksX0_leap_3 14 rfl rfl)
abbrev cX0_image : ByteArray := prog_1_method_93_code
def yX0_image : MethodName := ⟨RX0, "image", "()I"⟩
def dkwX0_image_0 : List UInt8 := [42, 180, 0, 25, 42, 180, 0, 21, 182, 0, 55, 42, 180, 0, 21, 180, 0, 74, 3, 46, 172]
abbrev dktX0_image_0 : List UInt8 := dkwX0_image_0 ++ []
theorem dksX0_image_0 : cX0_image.data.toList.drop 0 = dktX0_image_0 := by decide +kernel
theorem dX0_image_0 : decode cX0_image 0 = .ok (.aload_n 0, 1) := dk_42 (dk_at dksX0_image_0 0 rfl rfl)
theorem dX0_image_1 : decode cX0_image 1 = .ok (.getfield 25, 3) := dk_180 0 25 (dk_at dksX0_image_0 1 rfl rfl)
theorem dX0_image_4 : decode cX0_image 4 = .ok (.aload_n 0, 1) := dk_42 (dk_at dksX0_image_0 4 rfl rfl)
theorem dX0_image_5 : decode cX0_image 5 = .ok (.getfield 21, 3) := dk_180 0 21 (dk_at dksX0_image_0 5 rfl rfl)
theorem dX0_image_8 : decode cX0_image 8 = .ok (.invokevirtual 55, 3) := dk_182 0 55 (dk_at dksX0_image_0 8 rfl rfl)
theorem dX0_image_11 : decode cX0_image 11 = .ok (.aload_n 0, 1) := dk_42 (dk_at dksX0_image_0 11 rfl rfl)
theorem dX0_image_12 : decode cX0_image 12 = .ok (.getfield 21, 3) := dk_180 0 21 (dk_at dksX0_image_0 12 rfl rfl)
theorem dX0_image_15 : decode cX0_image 15 = .ok (.getfield 74, 3) := dk_180 0 74 (dk_at dksX0_image_0 15 rfl rfl)
theorem dX0_image_18 : decode cX0_image 18 = .ok (.iconst 0, 1) := dk_3 (dk_at dksX0_image_0 18 rfl rfl)
theorem dX0_image_19 : decode cX0_image 19 = .ok (.iaload, 1) := dk_46 (dk_at dksX0_image_0 19 rfl rfl)
theorem dX0_image_20 : decode cX0_image 20 = .ok (.ireturn, 1) := dk_172 (dk_at dksX0_image_0 20 rfl rfl)
abbrev cX0_back : ByteArray := prog_1_method_94_code
def yX0_back : MethodName := ⟨RX0, "back", "()I"⟩
def dkwX0_back_0 : List UInt8 := [42, 180, 0, 21, 42, 180, 0, 25, 182, 0, 55, 42, 180, 0, 21, 180, 0, 74, 3, 46, 172]
abbrev dktX0_back_0 : List UInt8 := dkwX0_back_0 ++ []
theorem dksX0_back_0 : cX0_back.data.toList.drop 0 = dktX0_back_0 := by decide +kernel
theorem dX0_back_0 : decode cX0_back 0 = .ok (.aload_n 0, 1) := dk_42 (dk_at dksX0_back_0 0 rfl rfl)
theorem dX0_back_1 : decode cX0_back 1 = .ok (.getfield 21, 3) := dk_180 0 21 (dk_at dksX0_back_0 1 rfl rfl)
theorem dX0_back_4 : decode cX0_back 4 = .ok (.aload_n 0, 1) := dk_42 (dk_at dksX0_back_0 4 rfl rfl)
theorem dX0_back_5 : decode cX0_back 5 = .ok (.getfield 25, 3) := dk_180 0 25 (dk_at dksX0_back_0 5 rfl rfl)
theorem dX0_back_8 : decode cX0_back 8 = .ok (.invokevirtual 55, 3) := dk_182 0 55 (dk_at dksX0_back_0 8 rfl rfl)
theorem dX0_back_11 : decode cX0_back 11 = .ok (.aload_n 0, 1) := dk_42 (dk_at dksX0_back_0 11 rfl rfl)
theorem dX0_back_12 : decode cX0_back 12 = .ok (.getfield 21, 3) := dk_180 0 21 (dk_at dksX0_back_0 12 rfl rfl)
theorem dX0_back_15 : decode cX0_back 15 = .ok (.getfield 74, 3) := dk_180 0 74 (dk_at dksX0_back_0 15 rfl rfl)
theorem dX0_back_18 : decode cX0_back 18 = .ok (.iconst 0, 1) := dk_3 (dk_at dksX0_back_0 18 rfl rfl)
theorem dX0_back_19 : decode cX0_back 19 = .ok (.iaload, 1) := dk_46 (dk_at dksX0_back_0 19 rfl rfl)
theorem dX0_back_20 : decode cX0_back 20 = .ok (.ireturn, 1) := dk_172 (dk_at dksX0_back_0 20 rfl rfl)
abbrev cX0_about : ByteArray := prog_1_method_95_code
def yX0_about : MethodName := ⟨RX0, "about", "(I)I"⟩
def dkwX0_about_4 : List UInt8 := [46, 172, 42, 180, 0, 21, 180, 0, 59, 8, 46, 172, 42, 180, 0, 89, 172, 16, 254, 172]
abbrev dktX0_about_4 : List UInt8 := dkwX0_about_4 ++ []
def dkwX0_about_3 : List UInt8 := [180, 0, 59, 5, 46, 172, 42, 180, 0, 21, 180, 0, 59, 6, 46, 172, 42, 180, 0, 21, 180, 0, 59, 7]
abbrev dktX0_about_3 : List UInt8 := dkwX0_about_3 ++ dktX0_about_4
def dkwX0_about_2 : List UInt8 := [42, 180, 0, 21, 180, 0, 59, 3, 46, 172, 42, 180, 0, 21, 180, 0, 59, 4, 46, 172, 42, 180, 0, 21]
abbrev dktX0_about_2 : List UInt8 := dkwX0_about_2 ++ dktX0_about_3
def dkwX0_about_1 : List UInt8 := [170, 0, 0, 0, 0, 0, 108, 0, 0, 0, 0, 0, 0, 0, 6, 0, 0, 0, 43, 0, 0, 0, 53, 0, 0, 0, 63, 0, 0, 0, 73, 0, 0, 0, 83, 0, 0, 0, 93, 0, 0, 0, 103]
abbrev dktX0_about_1 : List UInt8 := dkwX0_about_1 ++ dktX0_about_2
def dkwX0_about_0 : List UInt8 := [27]
abbrev dktX0_about_0 : List UInt8 := dkwX0_about_0 ++ dktX0_about_1
theorem dksX0_about_0 : cX0_about.data.toList.drop 0 = dktX0_about_0 := by decide +kernel
theorem dksX0_about_1 : cX0_about.data.toList.drop 1 = dktX0_about_1 := dk_seg dksX0_about_0 1 rfl rfl
theorem dksX0_about_2 : cX0_about.data.toList.drop 44 = dktX0_about_2 := dk_seg dksX0_about_1 43 rfl rfl
theorem dksX0_about_3 : cX0_about.data.toList.drop 68 = dktX0_about_3 := dk_seg dksX0_about_2 24 rfl rfl
theorem dksX0_about_4 : cX0_about.data.toList.drop 92 = dktX0_about_4 := dk_seg dksX0_about_3 24 rfl rfl
theorem dX0_about_0 : decode cX0_about 0 = .ok (.iload_n 1, 1) := dk_27 (dk_at dksX0_about_0 0 rfl rfl)
theorem dX0_about_1 : decode cX0_about 1 = .ok (.tableswitch 108 0 6 #[43, 53, 63, 73, 83, 93, 103], 43) := by decide +kernel
theorem dX0_about_44 : decode cX0_about 44 = .ok (.aload_n 0, 1) := dk_42 (dk_at dksX0_about_2 0 rfl rfl)
theorem dX0_about_45 : decode cX0_about 45 = .ok (.getfield 21, 3) := dk_180 0 21 (dk_at dksX0_about_2 1 rfl rfl)
theorem dX0_about_48 : decode cX0_about 48 = .ok (.getfield 59, 3) := dk_180 0 59 (dk_at dksX0_about_2 4 rfl rfl)
theorem dX0_about_51 : decode cX0_about 51 = .ok (.iconst 0, 1) := dk_3 (dk_at dksX0_about_2 7 rfl rfl)
theorem dX0_about_52 : decode cX0_about 52 = .ok (.iaload, 1) := dk_46 (dk_at dksX0_about_2 8 rfl rfl)
theorem dX0_about_53 : decode cX0_about 53 = .ok (.ireturn, 1) := dk_172 (dk_at dksX0_about_2 9 rfl rfl)
theorem dX0_about_54 : decode cX0_about 54 = .ok (.aload_n 0, 1) := dk_42 (dk_at dksX0_about_2 10 rfl rfl)
theorem dX0_about_55 : decode cX0_about 55 = .ok (.getfield 21, 3) := dk_180 0 21 (dk_at dksX0_about_2 11 rfl rfl)
theorem dX0_about_58 : decode cX0_about 58 = .ok (.getfield 59, 3) := dk_180 0 59 (dk_at dksX0_about_2 14 rfl rfl)
theorem dX0_about_61 : decode cX0_about 61 = .ok (.iconst 1, 1) := dk_4 (dk_at dksX0_about_2 17 rfl rfl)
theorem dX0_about_62 : decode cX0_about 62 = .ok (.iaload, 1) := dk_46 (dk_at dksX0_about_2 18 rfl rfl)
theorem dX0_about_63 : decode cX0_about 63 = .ok (.ireturn, 1) := dk_172 (dk_at dksX0_about_2 19 rfl rfl)
theorem dX0_about_64 : decode cX0_about 64 = .ok (.aload_n 0, 1) := dk_42 (dk_at dksX0_about_2 20 rfl rfl)
theorem dX0_about_65 : decode cX0_about 65 = .ok (.getfield 21, 3) := dk_180 0 21 (dk_at dksX0_about_2 21 rfl rfl)
theorem dX0_about_68 : decode cX0_about 68 = .ok (.getfield 59, 3) := dk_180 0 59 (dk_at dksX0_about_3 0 rfl rfl)
theorem dX0_about_71 : decode cX0_about 71 = .ok (.iconst 2, 1) := dk_5 (dk_at dksX0_about_3 3 rfl rfl)
theorem dX0_about_72 : decode cX0_about 72 = .ok (.iaload, 1) := dk_46 (dk_at dksX0_about_3 4 rfl rfl)
theorem dX0_about_73 : decode cX0_about 73 = .ok (.ireturn, 1) := dk_172 (dk_at dksX0_about_3 5 rfl rfl)
theorem dX0_about_74 : decode cX0_about 74 = .ok (.aload_n 0, 1) := dk_42 (dk_at dksX0_about_3 6 rfl rfl)
theorem dX0_about_75 : decode cX0_about 75 = .ok (.getfield 21, 3) := dk_180 0 21 (dk_at dksX0_about_3 7 rfl rfl)
theorem dX0_about_78 : decode cX0_about 78 = .ok (.getfield 59, 3) := dk_180 0 59 (dk_at dksX0_about_3 10 rfl rfl)
theorem dX0_about_81 : decode cX0_about 81 = .ok (.iconst 3, 1) := dk_6 (dk_at dksX0_about_3 13 rfl rfl)
theorem dX0_about_82 : decode cX0_about 82 = .ok (.iaload, 1) := dk_46 (dk_at dksX0_about_3 14 rfl rfl)
theorem dX0_about_83 : decode cX0_about 83 = .ok (.ireturn, 1) := dk_172 (dk_at dksX0_about_3 15 rfl rfl)
theorem dX0_about_84 : decode cX0_about 84 = .ok (.aload_n 0, 1) := dk_42 (dk_at dksX0_about_3 16 rfl rfl)
theorem dX0_about_85 : decode cX0_about 85 = .ok (.getfield 21, 3) := dk_180 0 21 (dk_at dksX0_about_3 17 rfl rfl)
theorem dX0_about_88 : decode cX0_about 88 = .ok (.getfield 59, 3) := dk_180 0 59 (dk_at dksX0_about_3 20 rfl rfl)
theorem dX0_about_91 : decode cX0_about 91 = .ok (.iconst 4, 1) := dk_7 (dk_at dksX0_about_3 23 rfl rfl)
theorem dX0_about_92 : decode cX0_about 92 = .ok (.iaload, 1) := dk_46 (dk_at dksX0_about_4 0 rfl rfl)
theorem dX0_about_93 : decode cX0_about 93 = .ok (.ireturn, 1) := dk_172 (dk_at dksX0_about_4 1 rfl rfl)
theorem dX0_about_94 : decode cX0_about 94 = .ok (.aload_n 0, 1) := dk_42 (dk_at dksX0_about_4 2 rfl rfl)
theorem dX0_about_95 : decode cX0_about 95 = .ok (.getfield 21, 3) := dk_180 0 21 (dk_at dksX0_about_4 3 rfl rfl)
theorem dX0_about_98 : decode cX0_about 98 = .ok (.getfield 59, 3) := dk_180 0 59 (dk_at dksX0_about_4 6 rfl rfl)
theorem dX0_about_101 : decode cX0_about 101 = .ok (.iconst 5, 1) := dk_8 (dk_at dksX0_about_4 9 rfl rfl)
theorem dX0_about_102 : decode cX0_about 102 = .ok (.iaload, 1) := dk_46 (dk_at dksX0_about_4 10 rfl rfl)
theorem dX0_about_103 : decode cX0_about 103 = .ok (.ireturn, 1) := dk_172 (dk_at dksX0_about_4 11 rfl rfl)
theorem dX0_about_104 : decode cX0_about 104 = .ok (.aload_n 0, 1) := dk_42 (dk_at dksX0_about_4 12 rfl rfl)
theorem dX0_about_105 : decode cX0_about 105 = .ok (.getfield 89, 3) := dk_180 0 89 (dk_at dksX0_about_4 13 rfl rfl)
theorem dX0_about_108 : decode cX0_about 108 = .ok (.ireturn, 1) := dk_172 (dk_at dksX0_about_4 16 rfl rfl)
theorem dX0_about_109 : decode cX0_about 109 = .ok (.bipush (-2), 2) := dk_16 254 (dk_at dksX0_about_4 17 rfl rfl)
theorem dX0_about_111 : decode cX0_about 111 = .ok (.ireturn, 1) := dk_172 (dk_at dksX0_about_4 19 rfl rfl)
theorem q138 : (Jvm.Cond.initialized "ShutDays") ∈ lw_all := lw_g (lw_at lw_m1 1 rfl) rfl
theorem q173 : (Jvm.Cond.instantiable "ShutDays" (12 : Nat)) ∈ lw_all := lw_g (lw_at lw_m1 36 rfl) rfl
theorem q175 : (Jvm.Cond.instanceMethod ({ cls := "ShutDays", name := "<init>", desc := "()V" } : Jvm.MethodName)) ∈ lw_all := lw_g (lw_at lw_m1 38 rfl) rfl
theorem q176 : (Jvm.Cond.code ({ cls := "ShutDays", name := "<init>", desc := "()V" } : Jvm.MethodName) prog_1_method_4_code (1 : Nat) (Option.none : Option Jvm.ClassFile.FieldType)) ∈ lw_all := lw_g (lw_at lw_m1 39 rfl) rfl
theorem q177 : (Jvm.Cond.methodLink "ShutDays" (12 : Nat) ({ cls := "java/lang/Object", name := "<init>", desc := "()V" } : Jvm.MethodName)) ∈ lw_all := lw_g (lw_at lw_m1 40 rfl) rfl
theorem q180 : (Jvm.Cond.classLink "ShutDays" (18 : Nat) "ShutDays$State") ∈ lw_all := lw_g (lw_at lw_m1 43 rfl) rfl
theorem q182 : (Jvm.Cond.methodLink "ShutDays" (20 : Nat) ({ cls := "ShutDays$State", name := "<init>", desc := "()V" } : Jvm.MethodName)) ∈ lw_all := lw_g (lw_at lw_m1 45 rfl) rfl
theorem q191 : (Jvm.Cond.fieldLinkNest "ShutDays" (59 : Nat) "ShutDays$State" "n" "[I" "ShutDays") ∈ lw_tbl := lw_at lw_m1 54 rfl
theorem q193 : (Jvm.Cond.fieldLinkNest "ShutDays" (74 : Nat) "ShutDays$State" "row" "[I" "ShutDays") ∈ lw_tbl := lw_at lw_m1 56 rfl
theorem q195 : (Jvm.Cond.fieldLinkNest "ShutDays" (317 : Nat) "ShutDays$State" "seen" "[[I" "ShutDays") ∈ lw_tbl := lw_at lw_m1 58 rfl
theorem q197 : (Jvm.Cond.fieldLinkNest "ShutDays" (377 : Nat) "ShutDays$State" "gossip" "[[I" "ShutDays") ∈ lw_tbl := lw_at lw_m1 60 rfl
theorem q199 : (Jvm.Cond.fieldLinkNest "ShutDays" (296 : Nat) "ShutDays$State" "step" "[[I" "ShutDays") ∈ lw_tbl := lw_at lw_m1 62 rfl
theorem q201 : (Jvm.Cond.fieldLinkNest "ShutDays" (96 : Nat) "ShutDays$State" "text" "[LShutDays$Text;" "ShutDays") ∈ lw_tbl := lw_at lw_m1 64 rfl
theorem q216 : (Jvm.Cond.methodLink "ShutDays" (55 : Nat) ({ cls := "ShutDays$State", name := "be", desc := "(LShutDays$State;)V" } : Jvm.MethodName)) ∈ lw_all := lw_g (lw_at lw_m1 79 rfl) rfl
theorem q229 : (Jvm.Cond.fieldLink "ShutDays" (21 : Nat) "ShutDays" "now" "LShutDays$State;") ∈ lw_all := lw_g (lw_at lw_m1 92 rfl) rfl
theorem q230 : (Jvm.Cond.fieldLink "ShutDays" (25 : Nat) "ShutDays" "image" "LShutDays$State;") ∈ lw_all := lw_g (lw_at lw_m1 93 rfl) rfl
theorem q231 : (Jvm.Cond.fieldLink "ShutDays" (28 : Nat) "ShutDays" "tape" "[B") ∈ lw_all := lw_g (lw_at lw_m1 94 rfl) rfl
theorem q232 : (Jvm.Cond.fieldLink "ShutDays" (89 : Nat) "ShutDays" "taped" "I") ∈ lw_all := lw_g (lw_at lw_m1 95 rfl) rfl
theorem q233 : (Jvm.Cond.fieldLink "ShutDays" (32 : Nat) "ShutDays" "fault" "I") ∈ lw_all := lw_g (lw_at lw_m1 96 rfl) rfl
theorem q234 : (Jvm.Cond.fieldLink "ShutDays" (36 : Nat) "ShutDays" "faultAt" "I") ∈ lw_all := lw_g (lw_at lw_m1 97 rfl) rfl
theorem q235 : (Jvm.Cond.fieldLink "ShutDays" (39 : Nat) "ShutDays" "names" "[I") ∈ lw_all := lw_g (lw_at lw_m1 98 rfl) rfl
theorem q236 : (Jvm.Cond.fieldLink "ShutDays" (43 : Nat) "ShutDays" "tried" "[I") ∈ lw_all := lw_g (lw_at lw_m1 99 rfl) rfl
theorem q237 : (Jvm.Cond.fieldLink "ShutDays" (46 : Nat) "ShutDays" "visited" "[I") ∈ lw_all := lw_g (lw_at lw_m1 100 rfl) rfl
theorem q238 : (Jvm.Cond.fieldLink "ShutDays" (49 : Nat) "ShutDays" "beside" "[I") ∈ lw_all := lw_g (lw_at lw_m1 101 rfl) rfl
theorem q239 : (Jvm.Cond.fieldLink "ShutDays" (52 : Nat) "ShutDays" "bestBeside" "[I") ∈ lw_all := lw_g (lw_at lw_m1 102 rfl) rfl
theorem q240 : (Jvm.Cond.fieldLink "ShutDays" (362 : Nat) "ShutDays" "most" "I") ∈ lw_all := lw_g (lw_at lw_m1 103 rfl) rfl
theorem q241 : (Jvm.Cond.laysFinal "ShutDays" "ShutDays" "now" "LShutDays$State;") ∈ lw_all := lw_g (lw_at lw_m1 104 rfl) rfl
theorem q242 : (Jvm.Cond.soleField "ShutDays" "now") ∈ lw_all := lw_g (lw_at lw_m1 105 rfl) rfl
theorem q243 : (Jvm.Cond.laysFinal "ShutDays" "ShutDays" "image" "LShutDays$State;") ∈ lw_all := lw_g (lw_at lw_m1 106 rfl) rfl
theorem q244 : (Jvm.Cond.soleField "ShutDays" "image") ∈ lw_all := lw_g (lw_at lw_m1 107 rfl) rfl
theorem q245 : (Jvm.Cond.laysFinal "ShutDays" "ShutDays" "tape" "[B") ∈ lw_all := lw_g (lw_at lw_m1 108 rfl) rfl
theorem q246 : (Jvm.Cond.soleField "ShutDays" "tape") ∈ lw_all := lw_g (lw_at lw_m1 109 rfl) rfl
theorem q247 : (Jvm.Cond.lays "ShutDays" "ShutDays" "taped" "I") ∈ lw_all := lw_g (lw_at lw_m1 110 rfl) rfl
theorem q248 : (Jvm.Cond.soleField "ShutDays" "taped") ∈ lw_all := lw_g (lw_at lw_m1 111 rfl) rfl
theorem q249 : (Jvm.Cond.lays "ShutDays" "ShutDays" "fault" "I") ∈ lw_all := lw_g (lw_at lw_m1 112 rfl) rfl
theorem q250 : (Jvm.Cond.soleField "ShutDays" "fault") ∈ lw_all := lw_g (lw_at lw_m1 113 rfl) rfl
theorem q251 : (Jvm.Cond.lays "ShutDays" "ShutDays" "faultAt" "I") ∈ lw_all := lw_g (lw_at lw_m1 114 rfl) rfl
theorem q252 : (Jvm.Cond.soleField "ShutDays" "faultAt") ∈ lw_all := lw_g (lw_at lw_m1 115 rfl) rfl
theorem q253 : (Jvm.Cond.laysFinal "ShutDays" "ShutDays" "names" "[I") ∈ lw_all := lw_g (lw_at lw_m1 116 rfl) rfl
theorem q254 : (Jvm.Cond.soleField "ShutDays" "names") ∈ lw_all := lw_g (lw_at lw_m1 117 rfl) rfl
theorem q255 : (Jvm.Cond.laysFinal "ShutDays" "ShutDays" "tried" "[I") ∈ lw_all := lw_g (lw_at lw_m1 118 rfl) rfl
theorem q256 : (Jvm.Cond.soleField "ShutDays" "tried") ∈ lw_all := lw_g (lw_at lw_m1 119 rfl) rfl
theorem q257 : (Jvm.Cond.laysFinal "ShutDays" "ShutDays" "visited" "[I") ∈ lw_all := lw_g (lw_at lw_m1 120 rfl) rfl
theorem q258 : (Jvm.Cond.soleField "ShutDays" "visited") ∈ lw_all := lw_g (lw_at lw_m1 121 rfl) rfl
theorem q259 : (Jvm.Cond.laysFinal "ShutDays" "ShutDays" "beside" "[I") ∈ lw_all := lw_g (lw_at lw_m1 122 rfl) rfl
theorem q260 : (Jvm.Cond.soleField "ShutDays" "beside") ∈ lw_all := lw_g (lw_at lw_m1 123 rfl) rfl
theorem q261 : (Jvm.Cond.laysFinal "ShutDays" "ShutDays" "bestBeside" "[I") ∈ lw_all := lw_g (lw_at lw_m1 124 rfl) rfl
theorem q262 : (Jvm.Cond.soleField "ShutDays" "bestBeside") ∈ lw_all := lw_g (lw_at lw_m1 125 rfl) rfl
theorem q263 : (Jvm.Cond.lays "ShutDays" "ShutDays" "most" "I") ∈ lw_all := lw_g (lw_at lw_m1 126 rfl) rfl
theorem q264 : (Jvm.Cond.soleField "ShutDays" "most") ∈ lw_all := lw_g (lw_at lw_m1 127 rfl) rfl
theorem q265 : (Jvm.Cond.superclass "ShutDays" "java/lang/Object") ∈ lw_all := lw_g (lw_at lw_m1 128 rfl) rfl
theorem q268 : (Jvm.Cond.instanceMethod ({ cls := "ShutDays", name := "house", desc := "(IIIII)I" } : Jvm.MethodName)) ∈ lw_all := lw_g (lw_at lw_m1 131 rfl) rfl
theorem q269 : (Jvm.Cond.selects "ShutDays" ({ cls := "ShutDays", name := "house", desc := "(IIIII)I" } : Jvm.MethodName) ({ cls := "ShutDays", name := "house", desc := "(IIIII)I" } : Jvm.MethodName)) ∈ lw_all := lw_g (lw_at lw_m1 132 rfl) rfl
theorem q270 : (Jvm.Cond.code ({ cls := "ShutDays", name := "house", desc := "(IIIII)I" } : Jvm.MethodName) prog_1_method_11_code (7 : Nat) (Option.some Jvm.ClassFile.FieldType.int)) ∈ lw_all := lw_g (lw_at lw_m1 133 rfl) rfl
theorem q271 : (Jvm.Cond.methodLink "ShutDays" (62 : Nat) ({ cls := "ShutDays", name := "in", desc := "(III)Z" } : Jvm.MethodName)) ∈ lw_all := lw_g (lw_at lw_m1 134 rfl) rfl
theorem q272 : (Jvm.Cond.static ({ cls := "ShutDays", name := "in", desc := "(III)Z" } : Jvm.MethodName)) ∈ lw_all := lw_g (lw_at lw_m1 135 rfl) rfl
theorem q273 : (Jvm.Cond.code ({ cls := "ShutDays", name := "in", desc := "(III)Z" } : Jvm.MethodName) prog_1_method_1_code (3 : Nat) (Option.some Jvm.ClassFile.FieldType.boolean)) ∈ lw_all := lw_g (lw_at lw_m1 136 rfl) rfl
theorem q274 : (Jvm.Cond.methodLink "ShutDays" (81 : Nat) ({ cls := "ShutDays", name := "bitOf", desc := "(I)I" } : Jvm.MethodName)) ∈ lw_all := lw_g (lw_at lw_m1 137 rfl) rfl
theorem q275 : (Jvm.Cond.static ({ cls := "ShutDays", name := "bitOf", desc := "(I)I" } : Jvm.MethodName)) ∈ lw_all := lw_g (lw_at lw_m1 138 rfl) rfl
theorem q276 : (Jvm.Cond.code ({ cls := "ShutDays", name := "bitOf", desc := "(I)I" } : Jvm.MethodName) prog_1_method_10_code (1 : Nat) (Option.some Jvm.ClassFile.FieldType.int)) ∈ lw_all := lw_g (lw_at lw_m1 139 rfl) rfl
theorem q277 : (Jvm.Cond.methodLink "ShutDays" (85 : Nat) ({ cls := "ShutDays$State", name := "tells", desc := "(II)V" } : Jvm.MethodName)) ∈ lw_all := lw_g (lw_at lw_m1 140 rfl) rfl
theorem q282 : (Jvm.Cond.instanceMethod ({ cls := "ShutDays", name := "feed", desc := "(IIIII)I" } : Jvm.MethodName)) ∈ lw_all := lw_g (lw_at lw_m1 145 rfl) rfl
theorem q283 : (Jvm.Cond.selects "ShutDays" ({ cls := "ShutDays", name := "feed", desc := "(IIIII)I" } : Jvm.MethodName) ({ cls := "ShutDays", name := "feed", desc := "(IIIII)I" } : Jvm.MethodName)) ∈ lw_all := lw_g (lw_at lw_m1 146 rfl) rfl
theorem q284 : (Jvm.Cond.code ({ cls := "ShutDays", name := "feed", desc := "(IIIII)I" } : Jvm.MethodName) prog_1_method_13_code (6 : Nat) (Option.some Jvm.ClassFile.FieldType.int)) ∈ lw_all := lw_g (lw_at lw_m1 147 rfl) rfl
theorem q285 : (Jvm.Cond.methodLink "ShutDays" (92 : Nat) ({ cls := "ShutDays", name := "put", desc := "(I)V" } : Jvm.MethodName)) ∈ lw_all := lw_g (lw_at lw_m1 148 rfl) rfl
theorem q286 : (Jvm.Cond.privateMethod ({ cls := "ShutDays", name := "put", desc := "(I)V" } : Jvm.MethodName)) ∈ lw_tbl := lw_at lw_m1 149 rfl
theorem q287 : (Jvm.Cond.instanceMethod ({ cls := "ShutDays", name := "put", desc := "(I)V" } : Jvm.MethodName)) ∈ lw_all := lw_g (lw_at lw_m1 150 rfl) rfl
theorem q288 : (Jvm.Cond.code ({ cls := "ShutDays", name := "put", desc := "(I)V" } : Jvm.MethodName) prog_1_method_12_code (3 : Nat) (Option.none : Option Jvm.ClassFile.FieldType)) ∈ lw_all := lw_g (lw_at lw_m1 151 rfl) rfl
theorem q290 : (Jvm.Cond.instanceMethod ({ cls := "ShutDays", name := "end", desc := "(I)I" } : Jvm.MethodName)) ∈ lw_all := lw_g (lw_at lw_m1 153 rfl) rfl
theorem q291 : (Jvm.Cond.selects "ShutDays" ({ cls := "ShutDays", name := "end", desc := "(I)I" } : Jvm.MethodName) ({ cls := "ShutDays", name := "end", desc := "(I)I" } : Jvm.MethodName)) ∈ lw_all := lw_g (lw_at lw_m1 154 rfl) rfl
theorem q292 : (Jvm.Cond.code ({ cls := "ShutDays", name := "end", desc := "(I)I" } : Jvm.MethodName) prog_1_method_14_code (2 : Nat) (Option.some Jvm.ClassFile.FieldType.int)) ∈ lw_all := lw_g (lw_at lw_m1 155 rfl) rfl
theorem q294 : (Jvm.Cond.instanceMethod ({ cls := "ShutDays", name := "text", desc := "()I" } : Jvm.MethodName)) ∈ lw_all := lw_g (lw_at lw_m1 157 rfl) rfl
theorem q295 : (Jvm.Cond.selects "ShutDays" ({ cls := "ShutDays", name := "text", desc := "()I" } : Jvm.MethodName) ({ cls := "ShutDays", name := "text", desc := "()I" } : Jvm.MethodName)) ∈ lw_all := lw_g (lw_at lw_m1 158 rfl) rfl
theorem q296 : (Jvm.Cond.codeWith ({ cls := "ShutDays", name := "text", desc := "()I" } : Jvm.MethodName) prog_1_method_15_code (5 : Nat) (Option.some Jvm.ClassFile.FieldType.int) [((30 : Nat), (62 : Nat), (70 : Nat), (109 : Nat)), ((30 : Nat), (62 : Nat), (96 : Nat), (0 : Nat)), ((70 : Nat), (89 : Nat), (96 : Nat), (0 : Nat)), ((96 : Nat), (98 : Nat), (96 : Nat), (0 : Nat))]) ∈ lw_all := lw_g (lw_at lw_m1 159 rfl) rfl
theorem q297 : (Jvm.Cond.classLink "ShutDays" (109 : Nat) "ShutDays$Wrong") ∈ lw_all := lw_g (lw_at lw_m1 160 rfl) rfl
theorem q298 : (Jvm.Cond.classLink "ShutDays" (100 : Nat) "ShutDays$Tokens") ∈ lw_all := lw_g (lw_at lw_m1 161 rfl) rfl
theorem q300 : (Jvm.Cond.methodLink "ShutDays" (102 : Nat) ({ cls := "ShutDays$Tokens", name := "<init>", desc := "([BI)V" } : Jvm.MethodName)) ∈ lw_all := lw_g (lw_at lw_m1 163 rfl) rfl
theorem q329 : (Jvm.Cond.methodLink "ShutDays" (105 : Nat) ({ cls := "ShutDays$Tokens", name := "read", desc := "()LShutDays$Text;" } : Jvm.MethodName)) ∈ lw_all := lw_g (lw_at lw_m1 192 rfl) rfl
theorem q366 : (Jvm.Cond.fieldLinkNest "ShutDays" (142 : Nat) "ShutDays$Text" "earns" "LShutDays$Sum;" "ShutDays") ∈ lw_tbl := lw_at lw_m1 229 rfl
theorem q368 : (Jvm.Cond.fieldLinkNest "ShutDays" (158 : Nat) "ShutDays$Text" "loses" "LShutDays$Sum;" "ShutDays") ∈ lw_tbl := lw_at lw_m1 231 rfl
theorem q370 : (Jvm.Cond.fieldLinkNest "ShutDays" (163 : Nat) "ShutDays$Text" "lets" "LShutDays$Asked;" "ShutDays") ∈ lw_tbl := lw_at lw_m1 233 rfl
theorem q374 : (Jvm.Cond.fieldLinkNest "ShutDays" (273 : Nat) "ShutDays$Text" "doings" "Ljava/util/ArrayList;" "ShutDays") ∈ lw_tbl := lw_at lw_m1 237 rfl
theorem q504 : (Jvm.Cond.fieldLinkNest "ShutDays" (111 : Nat) "ShutDays$Wrong" "fault" "I" "ShutDays") ∈ lw_tbl := lw_at lw_m2 127 rfl
theorem q506 : (Jvm.Cond.fieldLinkNest "ShutDays" (112 : Nat) "ShutDays$Wrong" "place" "I" "ShutDays") ∈ lw_tbl := lw_at lw_m2 129 rfl
theorem q679 : (Jvm.Cond.selects "ShutDays" ({ cls := "java/lang/Object", name := "getClass", desc := "()Ljava/lang/Class;" } : Jvm.MethodName) ({ cls := "java/lang/Object", name := "getClass", desc := "()Ljava/lang/Class;" } : Jvm.MethodName)) ∈ lw_all := lw_g (lw_at lw_m3 62 rfl) rfl
theorem q835 : (Jvm.Cond.instanceMethod ({ cls := "ShutDays", name := "fault", desc := "(I)I" } : Jvm.MethodName)) ∈ lw_all := lw_g (lw_at lw_m3 218 rfl) rfl
theorem q836 : (Jvm.Cond.selects "ShutDays" ({ cls := "ShutDays", name := "fault", desc := "(I)I" } : Jvm.MethodName) ({ cls := "ShutDays", name := "fault", desc := "(I)I" } : Jvm.MethodName)) ∈ lw_all := lw_g (lw_at lw_m3 219 rfl) rfl
theorem q837 : (Jvm.Cond.code ({ cls := "ShutDays", name := "fault", desc := "(I)I" } : Jvm.MethodName) prog_1_method_16_code (2 : Nat) (Option.some Jvm.ClassFile.FieldType.int)) ∈ lw_all := lw_g (lw_at lw_m3 220 rfl) rfl
theorem q839 : (Jvm.Cond.instanceMethod ({ cls := "ShutDays", name := "by", desc := "(I)Z" } : Jvm.MethodName)) ∈ lw_all := lw_g (lw_at lw_m3 222 rfl) rfl
theorem q840 : (Jvm.Cond.selects "ShutDays" ({ cls := "ShutDays", name := "by", desc := "(I)Z" } : Jvm.MethodName) ({ cls := "ShutDays", name := "by", desc := "(I)Z" } : Jvm.MethodName)) ∈ lw_all := lw_g (lw_at lw_m3 223 rfl) rfl
theorem q841 : (Jvm.Cond.code ({ cls := "ShutDays", name := "by", desc := "(I)Z" } : Jvm.MethodName) prog_1_method_18_code (2 : Nat) (Option.some Jvm.ClassFile.FieldType.boolean)) ∈ lw_all := lw_g (lw_at lw_m3 224 rfl) rfl
theorem q842 : (Jvm.Cond.methodLink "ShutDays" (115 : Nat) ({ cls := "ShutDays", name := "isText", desc := "(I)Z" } : Jvm.MethodName)) ∈ lw_all := lw_g (lw_at lw_m3 225 rfl) rfl
theorem q843 : (Jvm.Cond.privateMethod ({ cls := "ShutDays", name := "isText", desc := "(I)Z" } : Jvm.MethodName)) ∈ lw_tbl := lw_at lw_m3 226 rfl
theorem q844 : (Jvm.Cond.instanceMethod ({ cls := "ShutDays", name := "isText", desc := "(I)Z" } : Jvm.MethodName)) ∈ lw_all := lw_g (lw_at lw_m3 227 rfl) rfl
theorem q845 : (Jvm.Cond.code ({ cls := "ShutDays", name := "isText", desc := "(I)Z" } : Jvm.MethodName) prog_1_method_17_code (2 : Nat) (Option.some Jvm.ClassFile.FieldType.boolean)) ∈ lw_all := lw_g (lw_at lw_m3 228 rfl) rfl
theorem q847 : (Jvm.Cond.instanceMethod ({ cls := "ShutDays", name := "day", desc := "(I)I" } : Jvm.MethodName)) ∈ lw_all := lw_g (lw_at lw_m3 230 rfl) rfl
theorem q848 : (Jvm.Cond.selects "ShutDays" ({ cls := "ShutDays", name := "day", desc := "(I)I" } : Jvm.MethodName) ({ cls := "ShutDays", name := "day", desc := "(I)I" } : Jvm.MethodName)) ∈ lw_all := lw_g (lw_at lw_m3 231 rfl) rfl
theorem q849 : (Jvm.Cond.code ({ cls := "ShutDays", name := "day", desc := "(I)I" } : Jvm.MethodName) prog_1_method_29_code (3 : Nat) (Option.some Jvm.ClassFile.FieldType.int)) ∈ lw_all := lw_g (lw_at lw_m3 232 rfl) rfl
theorem q850 : (Jvm.Cond.methodLink "ShutDays" (189 : Nat) ({ cls := "ShutDays$State", name := "keeps", desc := "()V" } : Jvm.MethodName)) ∈ lw_all := lw_g (lw_at lw_m3 233 rfl) rfl
theorem q854 : (Jvm.Cond.methodLink "ShutDays" (192 : Nat) ({ cls := "ShutDays", name := "rules", desc := "()LShutDays$Text;" } : Jvm.MethodName)) ∈ lw_all := lw_g (lw_at lw_m3 237 rfl) rfl
theorem q855 : (Jvm.Cond.privateMethod ({ cls := "ShutDays", name := "rules", desc := "()LShutDays$Text;" } : Jvm.MethodName)) ∈ lw_tbl := lw_at lw_m3 238 rfl
theorem q856 : (Jvm.Cond.instanceMethod ({ cls := "ShutDays", name := "rules", desc := "()LShutDays$Text;" } : Jvm.MethodName)) ∈ lw_all := lw_g (lw_at lw_m3 239 rfl) rfl
theorem q857 : (Jvm.Cond.code ({ cls := "ShutDays", name := "rules", desc := "()LShutDays$Text;" } : Jvm.MethodName) prog_1_method_19_code (1 : Nat) (Option.some (Jvm.ClassFile.FieldType.object "ShutDays$Text"))) ∈ lw_all := lw_g (lw_at lw_m4 0 rfl) rfl
theorem q858 : (Jvm.Cond.fieldLink "ShutDays" (118 : Nat) "ShutDays" "NOTHING" "LShutDays$Text;") ∈ lw_all := lw_g (lw_at lw_m4 1 rfl) rfl
theorem q859 : (Jvm.Cond.laysStatic "ShutDays" "NOTHING" "LShutDays$Text;") ∈ lw_tbl := lw_at lw_m4 2 rfl
theorem q860 : (Jvm.Cond.methodLink "ShutDays" (195 : Nat) ({ cls := "ShutDays", name := "passes", desc := "(LShutDays$Text;[I)V" } : Jvm.MethodName)) ∈ lw_all := lw_g (lw_at lw_m4 3 rfl) rfl
theorem q861 : (Jvm.Cond.privateMethod ({ cls := "ShutDays", name := "passes", desc := "(LShutDays$Text;[I)V" } : Jvm.MethodName)) ∈ lw_tbl := lw_at lw_m4 4 rfl
theorem q862 : (Jvm.Cond.instanceMethod ({ cls := "ShutDays", name := "passes", desc := "(LShutDays$Text;[I)V" } : Jvm.MethodName)) ∈ lw_all := lw_g (lw_at lw_m4 5 rfl) rfl
theorem q863 : (Jvm.Cond.code ({ cls := "ShutDays", name := "passes", desc := "(LShutDays$Text;[I)V" } : Jvm.MethodName) prog_1_method_28_code (4 : Nat) (Option.none : Option Jvm.ClassFile.FieldType)) ∈ lw_all := lw_g (lw_at lw_m4 6 rfl) rfl
theorem q864 : (Jvm.Cond.methodLink "ShutDays" (77 : Nat) ({ cls := "ShutDays", name := "isGone", desc := "([II)Z" } : Jvm.MethodName)) ∈ lw_all := lw_g (lw_at lw_m4 7 rfl) rfl
theorem q865 : (Jvm.Cond.static ({ cls := "ShutDays", name := "isGone", desc := "([II)Z" } : Jvm.MethodName)) ∈ lw_all := lw_g (lw_at lw_m4 8 rfl) rfl
theorem q866 : (Jvm.Cond.code ({ cls := "ShutDays", name := "isGone", desc := "([II)Z" } : Jvm.MethodName) prog_1_method_6_code (2 : Nat) (Option.some Jvm.ClassFile.FieldType.boolean)) ∈ lw_all := lw_g (lw_at lw_m4 9 rfl) rfl
theorem q867 : (Jvm.Cond.methodLink "ShutDays" (66 : Nat) ({ cls := "ShutDays", name := "has", desc := "(II)Z" } : Jvm.MethodName)) ∈ lw_all := lw_g (lw_at lw_m4 10 rfl) rfl
theorem q868 : (Jvm.Cond.static ({ cls := "ShutDays", name := "has", desc := "(II)Z" } : Jvm.MethodName)) ∈ lw_all := lw_g (lw_at lw_m4 11 rfl) rfl
theorem q869 : (Jvm.Cond.code ({ cls := "ShutDays", name := "has", desc := "(II)Z" } : Jvm.MethodName) prog_1_method_2_code (2 : Nat) (Option.some Jvm.ClassFile.FieldType.boolean)) ∈ lw_all := lw_g (lw_at lw_m4 12 rfl) rfl
theorem q870 : (Jvm.Cond.methodLink "ShutDays" (173 : Nat) ({ cls := "ShutDays", name := "date", desc := "([I)I" } : Jvm.MethodName)) ∈ lw_all := lw_g (lw_at lw_m4 13 rfl) rfl
theorem q871 : (Jvm.Cond.static ({ cls := "ShutDays", name := "date", desc := "([I)I" } : Jvm.MethodName)) ∈ lw_all := lw_g (lw_at lw_m4 14 rfl) rfl
theorem q872 : (Jvm.Cond.code ({ cls := "ShutDays", name := "date", desc := "([I)I" } : Jvm.MethodName) prog_1_method_27_code (1 : Nat) (Option.some Jvm.ClassFile.FieldType.int)) ∈ lw_all := lw_g (lw_at lw_m4 15 rfl) rfl
theorem q873 : (Jvm.Cond.methodLink "ShutDays" (177 : Nat) ({ cls := "ShutDays", name := "losesBy", desc := "(LShutDays$Text;[III)I" } : Jvm.MethodName)) ∈ lw_all := lw_g (lw_at lw_m4 16 rfl) rfl
theorem q874 : (Jvm.Cond.privateMethod ({ cls := "ShutDays", name := "losesBy", desc := "(LShutDays$Text;[III)I" } : Jvm.MethodName)) ∈ lw_tbl := lw_at lw_m4 17 rfl
theorem q875 : (Jvm.Cond.instanceMethod ({ cls := "ShutDays", name := "losesBy", desc := "(LShutDays$Text;[III)I" } : Jvm.MethodName)) ∈ lw_all := lw_g (lw_at lw_m4 18 rfl) rfl
theorem q876 : (Jvm.Cond.code ({ cls := "ShutDays", name := "losesBy", desc := "(LShutDays$Text;[III)I" } : Jvm.MethodName) prog_1_method_25_code (5 : Nat) (Option.some Jvm.ClassFile.FieldType.int)) ∈ lw_all := lw_g (lw_at lw_m4 19 rfl) rfl
theorem q877 : (Jvm.Cond.methodLink "ShutDays" (139 : Nat) ({ cls := "ShutDays", name := "names", desc := "([III)V" } : Jvm.MethodName)) ∈ lw_all := lw_g (lw_at lw_m4 20 rfl) rfl
theorem q878 : (Jvm.Cond.privateMethod ({ cls := "ShutDays", name := "names", desc := "([III)V" } : Jvm.MethodName)) ∈ lw_tbl := lw_at lw_m4 21 rfl
theorem q879 : (Jvm.Cond.instanceMethod ({ cls := "ShutDays", name := "names", desc := "([III)V" } : Jvm.MethodName)) ∈ lw_all := lw_g (lw_at lw_m4 22 rfl) rfl
theorem q880 : (Jvm.Cond.code ({ cls := "ShutDays", name := "names", desc := "([III)V" } : Jvm.MethodName) prog_1_method_23_code (5 : Nat) (Option.none : Option Jvm.ClassFile.FieldType)) ∈ lw_all := lw_g (lw_at lw_m4 23 rfl) rfl
theorem q881 : (Jvm.Cond.methodLink "ShutDays" (126 : Nat) ({ cls := "java/lang/Integer", name := "bitCount", desc := "(I)I" } : Jvm.MethodName)) ∈ lw_all := lw_g (lw_at lw_m4 24 rfl) rfl
theorem q887 : (Jvm.Cond.methodLink "ShutDays" (131 : Nat) ({ cls := "ShutDays", name := "openOn", desc := "([II)I" } : Jvm.MethodName)) ∈ lw_all := lw_g (lw_at lw_m4 30 rfl) rfl
theorem q888 : (Jvm.Cond.privateMethod ({ cls := "ShutDays", name := "openOn", desc := "([II)I" } : Jvm.MethodName)) ∈ lw_tbl := lw_at lw_m4 31 rfl
theorem q889 : (Jvm.Cond.instanceMethod ({ cls := "ShutDays", name := "openOn", desc := "([II)I" } : Jvm.MethodName)) ∈ lw_all := lw_g (lw_at lw_m4 32 rfl) rfl
theorem q890 : (Jvm.Cond.code ({ cls := "ShutDays", name := "openOn", desc := "([II)I" } : Jvm.MethodName) prog_1_method_21_code (5 : Nat) (Option.some Jvm.ClassFile.FieldType.int)) ∈ lw_all := lw_g (lw_at lw_m4 33 rfl) rfl
theorem q891 : (Jvm.Cond.methodLink "ShutDays" (122 : Nat) ({ cls := "ShutDays", name := "isOpen", desc := "([III)Z" } : Jvm.MethodName)) ∈ lw_all := lw_g (lw_at lw_m4 34 rfl) rfl
theorem q892 : (Jvm.Cond.privateMethod ({ cls := "ShutDays", name := "isOpen", desc := "([III)Z" } : Jvm.MethodName)) ∈ lw_tbl := lw_at lw_m4 35 rfl
theorem q893 : (Jvm.Cond.instanceMethod ({ cls := "ShutDays", name := "isOpen", desc := "([III)Z" } : Jvm.MethodName)) ∈ lw_all := lw_g (lw_at lw_m4 36 rfl) rfl
theorem q894 : (Jvm.Cond.code ({ cls := "ShutDays", name := "isOpen", desc := "([III)Z" } : Jvm.MethodName) prog_1_method_20_code (4 : Nat) (Option.some Jvm.ClassFile.FieldType.boolean)) ∈ lw_all := lw_g (lw_at lw_m4 37 rfl) rfl
theorem q895 : (Jvm.Cond.methodLink "ShutDays" (70 : Nat) ({ cls := "ShutDays", name := "isHouse", desc := "(I)Z" } : Jvm.MethodName)) ∈ lw_all := lw_g (lw_at lw_m4 38 rfl) rfl
theorem q896 : (Jvm.Cond.privateMethod ({ cls := "ShutDays", name := "isHouse", desc := "(I)Z" } : Jvm.MethodName)) ∈ lw_tbl := lw_at lw_m4 39 rfl
theorem q897 : (Jvm.Cond.instanceMethod ({ cls := "ShutDays", name := "isHouse", desc := "(I)Z" } : Jvm.MethodName)) ∈ lw_all := lw_g (lw_at lw_m4 40 rfl) rfl
theorem q898 : (Jvm.Cond.code ({ cls := "ShutDays", name := "isHouse", desc := "(I)Z" } : Jvm.MethodName) prog_1_method_5_code (2 : Nat) (Option.some Jvm.ClassFile.FieldType.boolean)) ∈ lw_all := lw_g (lw_at lw_m4 41 rfl) rfl
theorem q899 : (Jvm.Cond.methodLink "ShutDays" (135 : Nat) ({ cls := "ShutDays", name := "besideOf", desc := "([III)I" } : Jvm.MethodName)) ∈ lw_all := lw_g (lw_at lw_m4 42 rfl) rfl
theorem q900 : (Jvm.Cond.privateMethod ({ cls := "ShutDays", name := "besideOf", desc := "([III)I" } : Jvm.MethodName)) ∈ lw_tbl := lw_at lw_m4 43 rfl
theorem q901 : (Jvm.Cond.instanceMethod ({ cls := "ShutDays", name := "besideOf", desc := "([III)I" } : Jvm.MethodName)) ∈ lw_all := lw_g (lw_at lw_m4 44 rfl) rfl
theorem q902 : (Jvm.Cond.code ({ cls := "ShutDays", name := "besideOf", desc := "([III)I" } : Jvm.MethodName) prog_1_method_22_code (4 : Nat) (Option.some Jvm.ClassFile.FieldType.int)) ∈ lw_all := lw_g (lw_at lw_m4 45 rfl) rfl
theorem q903 : (Jvm.Cond.constantLong "ShutDays" (161 : Nat) (2 : Int64)) ∈ lw_all := lw_g (lw_at lw_m4 46 rfl) rfl
theorem q904 : (Jvm.Cond.interfaceEntry "ShutDays" (148 : Nat)) ∈ lw_tbl := lw_at lw_m4 47 rfl
theorem q905 : (Jvm.Cond.methodLink "ShutDays" (148 : Nat) ({ cls := "ShutDays$Sum", name := "of", desc := "([I)J" } : Jvm.MethodName)) ∈ lw_all := lw_g (lw_at lw_m4 48 rfl) rfl
theorem q965 : (Jvm.Cond.methodLink "ShutDays" (154 : Nat) ({ cls := "ShutDays", name := "held", desc := "(JII)I" } : Jvm.MethodName)) ∈ lw_all := lw_g (lw_at lw_m4 108 rfl) rfl
theorem q966 : (Jvm.Cond.static ({ cls := "ShutDays", name := "held", desc := "(JII)I" } : Jvm.MethodName)) ∈ lw_all := lw_g (lw_at lw_m4 109 rfl) rfl
theorem q967 : (Jvm.Cond.code ({ cls := "ShutDays", name := "held", desc := "(JII)I" } : Jvm.MethodName) prog_1_method_3_code (4 : Nat) (Option.some Jvm.ClassFile.FieldType.int)) ∈ lw_all := lw_g (lw_at lw_m4 110 rfl) rfl
theorem q968 : (Jvm.Cond.methodLink "ShutDays" (3 : Nat) ({ cls := "java/lang/Math", name := "min", desc := "(JJ)J" } : Jvm.MethodName)) ∈ lw_all := lw_g (lw_at lw_m4 111 rfl) rfl
theorem q969 : (Jvm.Cond.methodLink "ShutDays" (9 : Nat) ({ cls := "java/lang/Math", name := "max", desc := "(JJ)J" } : Jvm.MethodName)) ∈ lw_all := lw_g (lw_at lw_m4 112 rfl) rfl
theorem q970 : (Jvm.Cond.methodLink "ShutDays" (181 : Nat) ({ cls := "java/lang/Math", name := "max", desc := "(II)I" } : Jvm.MethodName)) ∈ lw_all := lw_g (lw_at lw_m4 113 rfl) rfl
theorem q971 : (Jvm.Cond.methodLink "ShutDays" (184 : Nat) ({ cls := "ShutDays", name := "earnsBy", desc := "(LShutDays$Text;[III)I" } : Jvm.MethodName)) ∈ lw_all := lw_g (lw_at lw_m4 114 rfl) rfl
theorem q972 : (Jvm.Cond.privateMethod ({ cls := "ShutDays", name := "earnsBy", desc := "(LShutDays$Text;[III)I" } : Jvm.MethodName)) ∈ lw_tbl := lw_at lw_m4 115 rfl
theorem q973 : (Jvm.Cond.instanceMethod ({ cls := "ShutDays", name := "earnsBy", desc := "(LShutDays$Text;[III)I" } : Jvm.MethodName)) ∈ lw_all := lw_g (lw_at lw_m4 116 rfl) rfl
theorem q974 : (Jvm.Cond.code ({ cls := "ShutDays", name := "earnsBy", desc := "(LShutDays$Text;[III)I" } : Jvm.MethodName) prog_1_method_24_code (5 : Nat) (Option.some Jvm.ClassFile.FieldType.int)) ∈ lw_all := lw_g (lw_at lw_m4 117 rfl) rfl
theorem q975 : (Jvm.Cond.methodLink "ShutDays" (187 : Nat) ({ cls := "java/lang/Math", name := "min", desc := "(II)I" } : Jvm.MethodName)) ∈ lw_all := lw_g (lw_at lw_m4 118 rfl) rfl
theorem q977 : (Jvm.Cond.instanceMethod ({ cls := "ShutDays", name := "knock", desc := "(I)I" } : Jvm.MethodName)) ∈ lw_all := lw_g (lw_at lw_m4 120 rfl) rfl
theorem q978 : (Jvm.Cond.selects "ShutDays" ({ cls := "ShutDays", name := "knock", desc := "(I)I" } : Jvm.MethodName) ({ cls := "ShutDays", name := "knock", desc := "(I)I" } : Jvm.MethodName)) ∈ lw_all := lw_g (lw_at lw_m4 121 rfl) rfl
theorem q979 : (Jvm.Cond.code ({ cls := "ShutDays", name := "knock", desc := "(I)I" } : Jvm.MethodName) prog_1_method_31_code (2 : Nat) (Option.some Jvm.ClassFile.FieldType.int)) ∈ lw_all := lw_g (lw_at lw_m4 122 rfl) rfl
theorem q980 : (Jvm.Cond.methodLink "ShutDays" (209 : Nat) ({ cls := "ShutDays", name := "isThere", desc := "(I)Z" } : Jvm.MethodName)) ∈ lw_all := lw_g (lw_at lw_m4 123 rfl) rfl
theorem q981 : (Jvm.Cond.privateMethod ({ cls := "ShutDays", name := "isThere", desc := "(I)Z" } : Jvm.MethodName)) ∈ lw_tbl := lw_at lw_m4 124 rfl
theorem q982 : (Jvm.Cond.instanceMethod ({ cls := "ShutDays", name := "isThere", desc := "(I)Z" } : Jvm.MethodName)) ∈ lw_all := lw_g (lw_at lw_m4 125 rfl) rfl
theorem q983 : (Jvm.Cond.code ({ cls := "ShutDays", name := "isThere", desc := "(I)Z" } : Jvm.MethodName) prog_1_method_7_code (2 : Nat) (Option.some Jvm.ClassFile.FieldType.boolean)) ∈ lw_all := lw_g (lw_at lw_m4 126 rfl) rfl
theorem q984 : (Jvm.Cond.methodLink "ShutDays" (212 : Nat) ({ cls := "ShutDays", name := "knocking", desc := "(I)I" } : Jvm.MethodName)) ∈ lw_all := lw_g (lw_at lw_m4 127 rfl) rfl
theorem q985 : (Jvm.Cond.privateMethod ({ cls := "ShutDays", name := "knocking", desc := "(I)I" } : Jvm.MethodName)) ∈ lw_tbl := lw_at lw_m4 128 rfl
theorem q986 : (Jvm.Cond.instanceMethod ({ cls := "ShutDays", name := "knocking", desc := "(I)I" } : Jvm.MethodName)) ∈ lw_all := lw_g (lw_at lw_m4 129 rfl) rfl
theorem q987 : (Jvm.Cond.code ({ cls := "ShutDays", name := "knocking", desc := "(I)I" } : Jvm.MethodName) prog_1_method_30_code (6 : Nat) (Option.some Jvm.ClassFile.FieldType.int)) ∈ lw_all := lw_g (lw_at lw_m4 130 rfl) rfl
theorem q988 : (Jvm.Cond.methodLink "ShutDays" (199 : Nat) ({ cls := "ShutDays", name := "letsBy", desc := "(LShutDays$Text;[II)Z" } : Jvm.MethodName)) ∈ lw_all := lw_g (lw_at lw_m4 131 rfl) rfl
theorem q989 : (Jvm.Cond.privateMethod ({ cls := "ShutDays", name := "letsBy", desc := "(LShutDays$Text;[II)Z" } : Jvm.MethodName)) ∈ lw_tbl := lw_at lw_m4 132 rfl
theorem q990 : (Jvm.Cond.instanceMethod ({ cls := "ShutDays", name := "letsBy", desc := "(LShutDays$Text;[II)Z" } : Jvm.MethodName)) ∈ lw_all := lw_g (lw_at lw_m4 133 rfl) rfl
theorem q991 : (Jvm.Cond.code ({ cls := "ShutDays", name := "letsBy", desc := "(LShutDays$Text;[II)Z" } : Jvm.MethodName) prog_1_method_26_code (4 : Nat) (Option.some Jvm.ClassFile.FieldType.boolean)) ∈ lw_all := lw_g (lw_at lw_m4 134 rfl) rfl
theorem q992 : (Jvm.Cond.interfaceEntry "ShutDays" (167 : Nat)) ∈ lw_tbl := lw_at lw_m4 135 rfl
theorem q993 : (Jvm.Cond.methodLink "ShutDays" (167 : Nat) ({ cls := "ShutDays$Asked", name := "is", desc := "([I)Z" } : Jvm.MethodName)) ∈ lw_all := lw_g (lw_at lw_m4 136 rfl) rfl
theorem q1031 : (Jvm.Cond.methodLink "ShutDays" (203 : Nat) ({ cls := "java/lang/System", name := "arraycopy", desc := "(Ljava/lang/Object;ILjava/lang/Object;II)V" } : Jvm.MethodName)) ∈ lw_all := lw_g (lw_at lw_m4 174 rfl) rfl
theorem q1033 : (Jvm.Cond.instanceMethod ({ cls := "ShutDays", name := "marry", desc := "(II)I" } : Jvm.MethodName)) ∈ lw_all := lw_g (lw_at lw_m4 176 rfl) rfl
theorem q1034 : (Jvm.Cond.selects "ShutDays" ({ cls := "ShutDays", name := "marry", desc := "(II)I" } : Jvm.MethodName) ({ cls := "ShutDays", name := "marry", desc := "(II)I" } : Jvm.MethodName)) ∈ lw_all := lw_g (lw_at lw_m4 177 rfl) rfl
theorem q1035 : (Jvm.Cond.code ({ cls := "ShutDays", name := "marry", desc := "(II)I" } : Jvm.MethodName) prog_1_method_33_code (4 : Nat) (Option.some Jvm.ClassFile.FieldType.int)) ∈ lw_all := lw_g (lw_at lw_m4 178 rfl) rfl
theorem q1036 : (Jvm.Cond.methodLink "ShutDays" (215 : Nat) ({ cls := "ShutDays", name := "wedDates", desc := "(II)I" } : Jvm.MethodName)) ∈ lw_all := lw_g (lw_at lw_m4 179 rfl) rfl
theorem q1037 : (Jvm.Cond.privateMethod ({ cls := "ShutDays", name := "wedDates", desc := "(II)I" } : Jvm.MethodName)) ∈ lw_tbl := lw_at lw_m4 180 rfl
theorem q1038 : (Jvm.Cond.instanceMethod ({ cls := "ShutDays", name := "wedDates", desc := "(II)I" } : Jvm.MethodName)) ∈ lw_all := lw_g (lw_at lw_m4 181 rfl) rfl
theorem q1039 : (Jvm.Cond.code ({ cls := "ShutDays", name := "wedDates", desc := "(II)I" } : Jvm.MethodName) prog_1_method_32_code (5 : Nat) (Option.some Jvm.ClassFile.FieldType.int)) ∈ lw_all := lw_g (lw_at lw_m4 182 rfl) rfl
theorem q1041 : (Jvm.Cond.instanceMethod ({ cls := "ShutDays", name := "hat", desc := "(I)I" } : Jvm.MethodName)) ∈ lw_all := lw_g (lw_at lw_m4 184 rfl) rfl
theorem q1042 : (Jvm.Cond.selects "ShutDays" ({ cls := "ShutDays", name := "hat", desc := "(I)I" } : Jvm.MethodName) ({ cls := "ShutDays", name := "hat", desc := "(I)I" } : Jvm.MethodName)) ∈ lw_all := lw_g (lw_at lw_m4 185 rfl) rfl
theorem q1043 : (Jvm.Cond.code ({ cls := "ShutDays", name := "hat", desc := "(I)I" } : Jvm.MethodName) prog_1_method_37_code (2 : Nat) (Option.some Jvm.ClassFile.FieldType.int)) ∈ lw_all := lw_g (lw_at lw_m4 186 rfl) rfl
theorem q1044 : (Jvm.Cond.methodLink "ShutDays" (221 : Nat) ({ cls := "ShutDays", name := "canHat", desc := "(I)Z" } : Jvm.MethodName)) ∈ lw_all := lw_g (lw_at lw_m4 187 rfl) rfl
theorem q1045 : (Jvm.Cond.privateMethod ({ cls := "ShutDays", name := "canHat", desc := "(I)Z" } : Jvm.MethodName)) ∈ lw_tbl := lw_at lw_m4 188 rfl
theorem q1046 : (Jvm.Cond.instanceMethod ({ cls := "ShutDays", name := "canHat", desc := "(I)Z" } : Jvm.MethodName)) ∈ lw_all := lw_g (lw_at lw_m4 189 rfl) rfl
theorem q1047 : (Jvm.Cond.code ({ cls := "ShutDays", name := "canHat", desc := "(I)Z" } : Jvm.MethodName) prog_1_method_35_code (2 : Nat) (Option.some Jvm.ClassFile.FieldType.boolean)) ∈ lw_all := lw_g (lw_at lw_m4 190 rfl) rfl
theorem q1048 : (Jvm.Cond.methodLink "ShutDays" (224 : Nat) ({ cls := "ShutDays", name := "hats", desc := "(I)I" } : Jvm.MethodName)) ∈ lw_all := lw_g (lw_at lw_m4 191 rfl) rfl
theorem q1049 : (Jvm.Cond.privateMethod ({ cls := "ShutDays", name := "hats", desc := "(I)I" } : Jvm.MethodName)) ∈ lw_tbl := lw_at lw_m4 192 rfl
theorem q1050 : (Jvm.Cond.instanceMethod ({ cls := "ShutDays", name := "hats", desc := "(I)I" } : Jvm.MethodName)) ∈ lw_all := lw_g (lw_at lw_m4 193 rfl) rfl
theorem q1051 : (Jvm.Cond.code ({ cls := "ShutDays", name := "hats", desc := "(I)I" } : Jvm.MethodName) prog_1_method_36_code (4 : Nat) (Option.some Jvm.ClassFile.FieldType.int)) ∈ lw_all := lw_g (lw_at lw_m4 194 rfl) rfl
theorem q1052 : (Jvm.Cond.methodLink "ShutDays" (218 : Nat) ({ cls := "ShutDays", name := "draws", desc := "()V" } : Jvm.MethodName)) ∈ lw_all := lw_g (lw_at lw_m4 195 rfl) rfl
theorem q1053 : (Jvm.Cond.privateMethod ({ cls := "ShutDays", name := "draws", desc := "()V" } : Jvm.MethodName)) ∈ lw_tbl := lw_at lw_m4 196 rfl
theorem q1054 : (Jvm.Cond.instanceMethod ({ cls := "ShutDays", name := "draws", desc := "()V" } : Jvm.MethodName)) ∈ lw_all := lw_g (lw_at lw_m4 197 rfl) rfl
theorem q1055 : (Jvm.Cond.code ({ cls := "ShutDays", name := "draws", desc := "()V" } : Jvm.MethodName) prog_1_method_34_code (1 : Nat) (Option.none : Option Jvm.ClassFile.FieldType)) ∈ lw_all := lw_g (lw_at lw_m4 198 rfl) rfl
theorem q1057 : (Jvm.Cond.instanceMethod ({ cls := "ShutDays", name := "forget", desc := "(II)Z" } : Jvm.MethodName)) ∈ lw_all := lw_g (lw_at lw_m4 200 rfl) rfl
theorem q1058 : (Jvm.Cond.selects "ShutDays" ({ cls := "ShutDays", name := "forget", desc := "(II)Z" } : Jvm.MethodName) ({ cls := "ShutDays", name := "forget", desc := "(II)Z" } : Jvm.MethodName)) ∈ lw_all := lw_g (lw_at lw_m4 201 rfl) rfl
theorem q1059 : (Jvm.Cond.code ({ cls := "ShutDays", name := "forget", desc := "(II)Z" } : Jvm.MethodName) prog_1_method_39_code (3 : Nat) (Option.some Jvm.ClassFile.FieldType.boolean)) ∈ lw_all := lw_g (lw_at lw_m4 202 rfl) rfl
theorem q1060 : (Jvm.Cond.methodLink "ShutDays" (230 : Nat) ({ cls := "ShutDays", name := "canForget", desc := "(II)Z" } : Jvm.MethodName)) ∈ lw_all := lw_g (lw_at lw_m4 203 rfl) rfl
theorem q1061 : (Jvm.Cond.privateMethod ({ cls := "ShutDays", name := "canForget", desc := "(II)Z" } : Jvm.MethodName)) ∈ lw_tbl := lw_at lw_m4 204 rfl
theorem q1062 : (Jvm.Cond.instanceMethod ({ cls := "ShutDays", name := "canForget", desc := "(II)Z" } : Jvm.MethodName)) ∈ lw_all := lw_g (lw_at lw_m4 205 rfl) rfl
theorem q1063 : (Jvm.Cond.code ({ cls := "ShutDays", name := "canForget", desc := "(II)Z" } : Jvm.MethodName) prog_1_method_38_code (3 : Nat) (Option.some Jvm.ClassFile.FieldType.boolean)) ∈ lw_all := lw_g (lw_at lw_m4 206 rfl) rfl
theorem q1064 : (Jvm.Cond.methodLink "ShutDays" (227 : Nat) ({ cls := "ShutDays", name := "isDate", desc := "(I)Z" } : Jvm.MethodName)) ∈ lw_all := lw_g (lw_at lw_m4 207 rfl) rfl
theorem q1065 : (Jvm.Cond.static ({ cls := "ShutDays", name := "isDate", desc := "(I)Z" } : Jvm.MethodName)) ∈ lw_all := lw_g (lw_at lw_m4 208 rfl) rfl
theorem q1066 : (Jvm.Cond.code ({ cls := "ShutDays", name := "isDate", desc := "(I)Z" } : Jvm.MethodName) prog_1_method_8_code (1 : Nat) (Option.some Jvm.ClassFile.FieldType.boolean)) ∈ lw_all := lw_g (lw_at lw_m4 209 rfl) rfl
theorem q1068 : (Jvm.Cond.instanceMethod ({ cls := "ShutDays", name := "played", desc := "(I)I" } : Jvm.MethodName)) ∈ lw_all := lw_g (lw_at lw_m4 211 rfl) rfl
theorem q1069 : (Jvm.Cond.selects "ShutDays" ({ cls := "ShutDays", name := "played", desc := "(I)I" } : Jvm.MethodName) ({ cls := "ShutDays", name := "played", desc := "(I)I" } : Jvm.MethodName)) ∈ lw_all := lw_g (lw_at lw_m4 212 rfl) rfl
theorem q1070 : (Jvm.Cond.code ({ cls := "ShutDays", name := "played", desc := "(I)I" } : Jvm.MethodName) prog_1_method_43_code (4 : Nat) (Option.some Jvm.ClassFile.FieldType.int)) ∈ lw_all := lw_g (lw_at lw_m4 213 rfl) rfl
theorem q1071 : (Jvm.Cond.methodLink "ShutDays" (277 : Nat) ({ cls := "java/util/ArrayList", name := "size", desc := "()I" } : Jvm.MethodName)) ∈ lw_all := lw_g (lw_at lw_m4 214 rfl) rfl
theorem q1072 : (Jvm.Cond.methodLink "ShutDays" (282 : Nat) ({ cls := "java/util/ArrayList", name := "get", desc := "(I)Ljava/lang/Object;" } : Jvm.MethodName)) ∈ lw_all := lw_g (lw_at lw_m4 215 rfl) rfl
theorem q1073 : (Jvm.Cond.classLink "ShutDays" (240 : Nat) "ShutDays$Doing") ∈ lw_all := lw_g (lw_at lw_m4 216 rfl) rfl
theorem q1074 : (Jvm.Cond.methodLink "ShutDays" (286 : Nat) ({ cls := "ShutDays", name := "does", desc := "(LShutDays$Doing;)Z" } : Jvm.MethodName)) ∈ lw_all := lw_g (lw_at lw_m4 217 rfl) rfl
theorem q1075 : (Jvm.Cond.privateMethod ({ cls := "ShutDays", name := "does", desc := "(LShutDays$Doing;)Z" } : Jvm.MethodName)) ∈ lw_tbl := lw_at lw_m4 218 rfl
theorem q1076 : (Jvm.Cond.instanceMethod ({ cls := "ShutDays", name := "does", desc := "(LShutDays$Doing;)Z" } : Jvm.MethodName)) ∈ lw_all := lw_g (lw_at lw_m4 219 rfl) rfl
theorem q1077 : (Jvm.Cond.code ({ cls := "ShutDays", name := "does", desc := "(LShutDays$Doing;)Z" } : Jvm.MethodName) prog_1_method_42_code (2 : Nat) (Option.some Jvm.ClassFile.FieldType.boolean)) ∈ lw_all := lw_g (lw_at lw_m4 220 rfl) rfl
theorem q1078 : (Jvm.Cond.methodLink "ShutDays" (239 : Nat) ({ cls := "ShutDays$Doing", name := "sort", desc := "()I" } : Jvm.MethodName)) ∈ lw_all := lw_g (lw_at lw_m4 221 rfl) rfl
theorem q1082 : (Jvm.Cond.methodLink "ShutDays" (245 : Nat) ({ cls := "ShutDays$Doing", name := "a", desc := "()I" } : Jvm.MethodName)) ∈ lw_all := lw_g (lw_at lw_m4 225 rfl) rfl
theorem q1086 : (Jvm.Cond.methodLink "ShutDays" (248 : Nat) ({ cls := "ShutDays$Doing", name := "b", desc := "()I" } : Jvm.MethodName)) ∈ lw_all := lw_g (lw_at lw_m4 229 rfl) rfl
theorem q1090 : (Jvm.Cond.methodLink "ShutDays" (251 : Nat) ({ cls := "ShutDays$Doing", name := "c", desc := "()I" } : Jvm.MethodName)) ∈ lw_all := lw_g (lw_at lw_m4 233 rfl) rfl
theorem q1094 : (Jvm.Cond.methodLink "ShutDays" (254 : Nat) ({ cls := "ShutDays", name := "house", desc := "(IIIII)I" } : Jvm.MethodName)) ∈ lw_all := lw_g (lw_at lw_m4 237 rfl) rfl
theorem q1095 : (Jvm.Cond.methodLink "ShutDays" (258 : Nat) ({ cls := "ShutDays", name := "knock", desc := "(I)I" } : Jvm.MethodName)) ∈ lw_all := lw_g (lw_at lw_m4 238 rfl) rfl
theorem q1096 : (Jvm.Cond.methodLink "ShutDays" (261 : Nat) ({ cls := "ShutDays", name := "marry", desc := "(II)I" } : Jvm.MethodName)) ∈ lw_all := lw_g (lw_at lw_m4 239 rfl) rfl
theorem q1097 : (Jvm.Cond.methodLink "ShutDays" (264 : Nat) ({ cls := "ShutDays", name := "hatted", desc := "(I)Z" } : Jvm.MethodName)) ∈ lw_all := lw_g (lw_at lw_m5 0 rfl) rfl
theorem q1098 : (Jvm.Cond.privateMethod ({ cls := "ShutDays", name := "hatted", desc := "(I)Z" } : Jvm.MethodName)) ∈ lw_tbl := lw_at lw_m5 1 rfl
theorem q1099 : (Jvm.Cond.instanceMethod ({ cls := "ShutDays", name := "hatted", desc := "(I)Z" } : Jvm.MethodName)) ∈ lw_all := lw_g (lw_at lw_m5 2 rfl) rfl
theorem q1100 : (Jvm.Cond.code ({ cls := "ShutDays", name := "hatted", desc := "(I)Z" } : Jvm.MethodName) prog_1_method_41_code (3 : Nat) (Option.some Jvm.ClassFile.FieldType.boolean)) ∈ lw_all := lw_g (lw_at lw_m5 3 rfl) rfl
theorem q1101 : (Jvm.Cond.methodLink "ShutDays" (236 : Nat) ({ cls := "ShutDays", name := "hat", desc := "(I)I" } : Jvm.MethodName)) ∈ lw_all := lw_g (lw_at lw_m5 4 rfl) rfl
theorem q1102 : (Jvm.Cond.methodLink "ShutDays" (267 : Nat) ({ cls := "ShutDays", name := "forget", desc := "(II)Z" } : Jvm.MethodName)) ∈ lw_all := lw_g (lw_at lw_m5 5 rfl) rfl
theorem q1103 : (Jvm.Cond.methodLink "ShutDays" (270 : Nat) ({ cls := "ShutDays", name := "passesAll", desc := "(I)Z" } : Jvm.MethodName)) ∈ lw_all := lw_g (lw_at lw_m5 6 rfl) rfl
theorem q1104 : (Jvm.Cond.privateMethod ({ cls := "ShutDays", name := "passesAll", desc := "(I)Z" } : Jvm.MethodName)) ∈ lw_tbl := lw_at lw_m5 7 rfl
theorem q1105 : (Jvm.Cond.instanceMethod ({ cls := "ShutDays", name := "passesAll", desc := "(I)Z" } : Jvm.MethodName)) ∈ lw_all := lw_g (lw_at lw_m5 8 rfl) rfl
theorem q1106 : (Jvm.Cond.code ({ cls := "ShutDays", name := "passesAll", desc := "(I)Z" } : Jvm.MethodName) prog_1_method_40_code (3 : Nat) (Option.some Jvm.ClassFile.FieldType.boolean)) ∈ lw_all := lw_g (lw_at lw_m5 9 rfl) rfl
theorem q1107 : (Jvm.Cond.methodLink "ShutDays" (233 : Nat) ({ cls := "ShutDays", name := "day", desc := "(I)I" } : Jvm.MethodName)) ∈ lw_all := lw_g (lw_at lw_m5 10 rfl) rfl
theorem q1108 : (Jvm.Cond.methodLink "ShutDays" (290 : Nat) ({ cls := "ShutDays$Doing", name := "number", desc := "()I" } : Jvm.MethodName)) ∈ lw_all := lw_g (lw_at lw_m5 11 rfl) rfl
theorem q1113 : (Jvm.Cond.instanceMethod ({ cls := "ShutDays", name := "years", desc := "(II)I" } : Jvm.MethodName)) ∈ lw_all := lw_g (lw_at lw_m5 16 rfl) rfl
theorem q1114 : (Jvm.Cond.selects "ShutDays" ({ cls := "ShutDays", name := "years", desc := "(II)I" } : Jvm.MethodName) ({ cls := "ShutDays", name := "years", desc := "(II)I" } : Jvm.MethodName)) ∈ lw_all := lw_g (lw_at lw_m5 17 rfl) rfl
theorem q1115 : (Jvm.Cond.code ({ cls := "ShutDays", name := "years", desc := "(II)I" } : Jvm.MethodName) prog_1_method_45_code (5 : Nat) (Option.some Jvm.ClassFile.FieldType.int)) ∈ lw_all := lw_g (lw_at lw_m5 18 rfl) rfl
theorem q1116 : (Jvm.Cond.methodLink "ShutDays" (293 : Nat) ({ cls := "ShutDays", name := "happens", desc := "(I)V" } : Jvm.MethodName)) ∈ lw_all := lw_g (lw_at lw_m5 19 rfl) rfl
theorem q1117 : (Jvm.Cond.privateMethod ({ cls := "ShutDays", name := "happens", desc := "(I)V" } : Jvm.MethodName)) ∈ lw_tbl := lw_at lw_m5 20 rfl
theorem q1118 : (Jvm.Cond.instanceMethod ({ cls := "ShutDays", name := "happens", desc := "(I)V" } : Jvm.MethodName)) ∈ lw_all := lw_g (lw_at lw_m5 21 rfl) rfl
theorem q1119 : (Jvm.Cond.code ({ cls := "ShutDays", name := "happens", desc := "(I)V" } : Jvm.MethodName) prog_1_method_44_code (4 : Nat) (Option.none : Option Jvm.ClassFile.FieldType)) ∈ lw_all := lw_g (lw_at lw_m5 22 rfl) rfl
theorem q1121 : (Jvm.Cond.instanceMethod ({ cls := "ShutDays", name := "undo", desc := "()I" } : Jvm.MethodName)) ∈ lw_all := lw_g (lw_at lw_m5 24 rfl) rfl
theorem q1122 : (Jvm.Cond.selects "ShutDays" ({ cls := "ShutDays", name := "undo", desc := "()I" } : Jvm.MethodName) ({ cls := "ShutDays", name := "undo", desc := "()I" } : Jvm.MethodName)) ∈ lw_all := lw_g (lw_at lw_m5 25 rfl) rfl
theorem q1123 : (Jvm.Cond.code ({ cls := "ShutDays", name := "undo", desc := "()I" } : Jvm.MethodName) prog_1_method_46_code (1 : Nat) (Option.some Jvm.ClassFile.FieldType.int)) ∈ lw_all := lw_g (lw_at lw_m5 26 rfl) rfl
theorem q1124 : (Jvm.Cond.methodLinkNest "ShutDays" (300 : Nat) ({ cls := "ShutDays$State", name := "copy", desc := "([I[I)V" } : Jvm.MethodName) "ShutDays") ∈ lw_tbl := lw_at lw_m5 27 rfl
theorem q1126 : (Jvm.Cond.instanceMethod ({ cls := "ShutDays", name := "of", desc := "(II)I" } : Jvm.MethodName)) ∈ lw_all := lw_g (lw_at lw_m5 29 rfl) rfl
theorem q1127 : (Jvm.Cond.selects "ShutDays" ({ cls := "ShutDays", name := "of", desc := "(II)I" } : Jvm.MethodName) ({ cls := "ShutDays", name := "of", desc := "(II)I" } : Jvm.MethodName)) ∈ lw_all := lw_g (lw_at lw_m5 30 rfl) rfl
theorem q1128 : (Jvm.Cond.code ({ cls := "ShutDays", name := "of", desc := "(II)I" } : Jvm.MethodName) prog_1_method_47_code (4 : Nat) (Option.some Jvm.ClassFile.FieldType.int)) ∈ lw_all := lw_g (lw_at lw_m5 31 rfl) rfl
theorem q1130 : (Jvm.Cond.instanceMethod ({ cls := "ShutDays", name := "is", desc := "(I)I" } : Jvm.MethodName)) ∈ lw_all := lw_g (lw_at lw_m5 33 rfl) rfl
theorem q1131 : (Jvm.Cond.selects "ShutDays" ({ cls := "ShutDays", name := "is", desc := "(I)I" } : Jvm.MethodName) ({ cls := "ShutDays", name := "is", desc := "(I)I" } : Jvm.MethodName)) ∈ lw_all := lw_g (lw_at lw_m5 34 rfl) rfl
theorem q1132 : (Jvm.Cond.code ({ cls := "ShutDays", name := "is", desc := "(I)I" } : Jvm.MethodName) prog_1_method_48_code (2 : Nat) (Option.some Jvm.ClassFile.FieldType.int)) ∈ lw_all := lw_g (lw_at lw_m5 35 rfl) rfl
theorem q1134 : (Jvm.Cond.instanceMethod ({ cls := "ShutDays", name := "book", desc := "(II)I" } : Jvm.MethodName)) ∈ lw_all := lw_g (lw_at lw_m5 37 rfl) rfl
theorem q1135 : (Jvm.Cond.selects "ShutDays" ({ cls := "ShutDays", name := "book", desc := "(II)I" } : Jvm.MethodName) ({ cls := "ShutDays", name := "book", desc := "(II)I" } : Jvm.MethodName)) ∈ lw_all := lw_g (lw_at lw_m5 38 rfl) rfl
theorem q1136 : (Jvm.Cond.code ({ cls := "ShutDays", name := "book", desc := "(II)I" } : Jvm.MethodName) prog_1_method_49_code (3 : Nat) (Option.some Jvm.ClassFile.FieldType.int)) ∈ lw_all := lw_g (lw_at lw_m5 39 rfl) rfl
theorem q1138 : (Jvm.Cond.instanceMethod ({ cls := "ShutDays", name := "foretold", desc := "(II)I" } : Jvm.MethodName)) ∈ lw_all := lw_g (lw_at lw_m5 41 rfl) rfl
theorem q1139 : (Jvm.Cond.selects "ShutDays" ({ cls := "ShutDays", name := "foretold", desc := "(II)I" } : Jvm.MethodName) ({ cls := "ShutDays", name := "foretold", desc := "(II)I" } : Jvm.MethodName)) ∈ lw_all := lw_g (lw_at lw_m5 42 rfl) rfl
theorem q1140 : (Jvm.Cond.code ({ cls := "ShutDays", name := "foretold", desc := "(II)I" } : Jvm.MethodName) prog_1_method_51_code (3 : Nat) (Option.some Jvm.ClassFile.FieldType.int)) ∈ lw_all := lw_g (lw_at lw_m5 43 rfl) rfl
theorem q1141 : (Jvm.Cond.methodLink "ShutDays" (304 : Nat) ({ cls := "ShutDays", name := "goes", desc := "(LShutDays$Text;I)V" } : Jvm.MethodName)) ∈ lw_all := lw_g (lw_at lw_m5 44 rfl) rfl
theorem q1142 : (Jvm.Cond.privateMethod ({ cls := "ShutDays", name := "goes", desc := "(LShutDays$Text;I)V" } : Jvm.MethodName)) ∈ lw_tbl := lw_at lw_m5 45 rfl
theorem q1143 : (Jvm.Cond.instanceMethod ({ cls := "ShutDays", name := "goes", desc := "(LShutDays$Text;I)V" } : Jvm.MethodName)) ∈ lw_all := lw_g (lw_at lw_m5 46 rfl) rfl
theorem q1144 : (Jvm.Cond.code ({ cls := "ShutDays", name := "goes", desc := "(LShutDays$Text;I)V" } : Jvm.MethodName) prog_1_method_50_code (4 : Nat) (Option.none : Option Jvm.ClassFile.FieldType)) ∈ lw_all := lw_g (lw_at lw_m5 47 rfl) rfl
theorem q1146 : (Jvm.Cond.instanceMethod ({ cls := "ShutDays", name := "indoors", desc := "(I)I" } : Jvm.MethodName)) ∈ lw_all := lw_g (lw_at lw_m5 49 rfl) rfl
theorem q1147 : (Jvm.Cond.selects "ShutDays" ({ cls := "ShutDays", name := "indoors", desc := "(I)I" } : Jvm.MethodName) ({ cls := "ShutDays", name := "indoors", desc := "(I)I" } : Jvm.MethodName)) ∈ lw_all := lw_g (lw_at lw_m5 50 rfl) rfl
theorem q1148 : (Jvm.Cond.code ({ cls := "ShutDays", name := "indoors", desc := "(I)I" } : Jvm.MethodName) prog_1_method_53_code (3 : Nat) (Option.some Jvm.ClassFile.FieldType.int)) ∈ lw_all := lw_g (lw_at lw_m5 51 rfl) rfl
theorem q1149 : (Jvm.Cond.methodLink "ShutDays" (308 : Nat) ({ cls := "ShutDays", name := "shutOn", desc := "(I)I" } : Jvm.MethodName)) ∈ lw_all := lw_g (lw_at lw_m5 52 rfl) rfl
theorem q1150 : (Jvm.Cond.privateMethod ({ cls := "ShutDays", name := "shutOn", desc := "(I)I" } : Jvm.MethodName)) ∈ lw_tbl := lw_at lw_m5 53 rfl
theorem q1151 : (Jvm.Cond.instanceMethod ({ cls := "ShutDays", name := "shutOn", desc := "(I)I" } : Jvm.MethodName)) ∈ lw_all := lw_g (lw_at lw_m5 54 rfl) rfl
theorem q1152 : (Jvm.Cond.code ({ cls := "ShutDays", name := "shutOn", desc := "(I)I" } : Jvm.MethodName) prog_1_method_52_code (4 : Nat) (Option.some Jvm.ClassFile.FieldType.int)) ∈ lw_all := lw_g (lw_at lw_m5 55 rfl) rfl
theorem q1154 : (Jvm.Cond.instanceMethod ({ cls := "ShutDays", name := "crowded", desc := "(Z)I" } : Jvm.MethodName)) ∈ lw_all := lw_g (lw_at lw_m5 57 rfl) rfl
theorem q1155 : (Jvm.Cond.selects "ShutDays" ({ cls := "ShutDays", name := "crowded", desc := "(Z)I" } : Jvm.MethodName) ({ cls := "ShutDays", name := "crowded", desc := "(Z)I" } : Jvm.MethodName)) ∈ lw_all := lw_g (lw_at lw_m5 58 rfl) rfl
theorem q1156 : (Jvm.Cond.code ({ cls := "ShutDays", name := "crowded", desc := "(Z)I" } : Jvm.MethodName) prog_1_method_54_code (4 : Nat) (Option.some Jvm.ClassFile.FieldType.int)) ∈ lw_all := lw_g (lw_at lw_m5 59 rfl) rfl
theorem q1158 : (Jvm.Cond.instanceMethod ({ cls := "ShutDays", name := "feast", desc := "(Z)I" } : Jvm.MethodName)) ∈ lw_all := lw_g (lw_at lw_m5 61 rfl) rfl
theorem q1159 : (Jvm.Cond.selects "ShutDays" ({ cls := "ShutDays", name := "feast", desc := "(Z)I" } : Jvm.MethodName) ({ cls := "ShutDays", name := "feast", desc := "(Z)I" } : Jvm.MethodName)) ∈ lw_all := lw_g (lw_at lw_m5 62 rfl) rfl
theorem q1160 : (Jvm.Cond.code ({ cls := "ShutDays", name := "feast", desc := "(Z)I" } : Jvm.MethodName) prog_1_method_56_code (4 : Nat) (Option.some Jvm.ClassFile.FieldType.int)) ∈ lw_all := lw_g (lw_at lw_m5 63 rfl) rfl
theorem q1161 : (Jvm.Cond.methodLink "ShutDays" (311 : Nat) ({ cls := "ShutDays", name := "friendsOn", desc := "(I)I" } : Jvm.MethodName)) ∈ lw_all := lw_g (lw_at lw_m5 64 rfl) rfl
theorem q1162 : (Jvm.Cond.privateMethod ({ cls := "ShutDays", name := "friendsOn", desc := "(I)I" } : Jvm.MethodName)) ∈ lw_tbl := lw_at lw_m5 65 rfl
theorem q1163 : (Jvm.Cond.instanceMethod ({ cls := "ShutDays", name := "friendsOn", desc := "(I)I" } : Jvm.MethodName)) ∈ lw_all := lw_g (lw_at lw_m5 66 rfl) rfl
theorem q1164 : (Jvm.Cond.code ({ cls := "ShutDays", name := "friendsOn", desc := "(I)I" } : Jvm.MethodName) prog_1_method_55_code (4 : Nat) (Option.some Jvm.ClassFile.FieldType.int)) ∈ lw_all := lw_g (lw_at lw_m5 67 rfl) rfl
theorem q1166 : (Jvm.Cond.instanceMethod ({ cls := "ShutDays", name := "alone", desc := "()I" } : Jvm.MethodName)) ∈ lw_all := lw_g (lw_at lw_m5 69 rfl) rfl
theorem q1167 : (Jvm.Cond.selects "ShutDays" ({ cls := "ShutDays", name := "alone", desc := "()I" } : Jvm.MethodName) ({ cls := "ShutDays", name := "alone", desc := "()I" } : Jvm.MethodName)) ∈ lw_all := lw_g (lw_at lw_m5 70 rfl) rfl
theorem q1168 : (Jvm.Cond.code ({ cls := "ShutDays", name := "alone", desc := "()I" } : Jvm.MethodName) prog_1_method_57_code (5 : Nat) (Option.some Jvm.ClassFile.FieldType.int)) ∈ lw_all := lw_g (lw_at lw_m5 71 rfl) rfl
theorem q1170 : (Jvm.Cond.instanceMethod ({ cls := "ShutDays", name := "nobodys", desc := "()I" } : Jvm.MethodName)) ∈ lw_all := lw_g (lw_at lw_m5 73 rfl) rfl
theorem q1171 : (Jvm.Cond.selects "ShutDays" ({ cls := "ShutDays", name := "nobodys", desc := "()I" } : Jvm.MethodName) ({ cls := "ShutDays", name := "nobodys", desc := "()I" } : Jvm.MethodName)) ∈ lw_all := lw_g (lw_at lw_m5 74 rfl) rfl
theorem q1172 : (Jvm.Cond.code ({ cls := "ShutDays", name := "nobodys", desc := "()I" } : Jvm.MethodName) prog_1_method_58_code (3 : Nat) (Option.some Jvm.ClassFile.FieldType.int)) ∈ lw_all := lw_g (lw_at lw_m5 75 rfl) rfl
theorem q1174 : (Jvm.Cond.instanceMethod ({ cls := "ShutDays", name := "poorest", desc := "(I)I" } : Jvm.MethodName)) ∈ lw_all := lw_g (lw_at lw_m5 77 rfl) rfl
theorem q1175 : (Jvm.Cond.selects "ShutDays" ({ cls := "ShutDays", name := "poorest", desc := "(I)I" } : Jvm.MethodName) ({ cls := "ShutDays", name := "poorest", desc := "(I)I" } : Jvm.MethodName)) ∈ lw_all := lw_g (lw_at lw_m5 78 rfl) rfl
theorem q1176 : (Jvm.Cond.code ({ cls := "ShutDays", name := "poorest", desc := "(I)I" } : Jvm.MethodName) prog_1_method_59_code (4 : Nat) (Option.some Jvm.ClassFile.FieldType.int)) ∈ lw_all := lw_g (lw_at lw_m5 79 rfl) rfl
theorem q1178 : (Jvm.Cond.instanceMethod ({ cls := "ShutDays", name := "seen", desc := "(IIZ)I" } : Jvm.MethodName)) ∈ lw_all := lw_g (lw_at lw_m5 81 rfl) rfl
theorem q1179 : (Jvm.Cond.selects "ShutDays" ({ cls := "ShutDays", name := "seen", desc := "(IIZ)I" } : Jvm.MethodName) ({ cls := "ShutDays", name := "seen", desc := "(IIZ)I" } : Jvm.MethodName)) ∈ lw_all := lw_g (lw_at lw_m5 82 rfl) rfl
theorem q1180 : (Jvm.Cond.code ({ cls := "ShutDays", name := "seen", desc := "(IIZ)I" } : Jvm.MethodName) prog_1_method_60_code (5 : Nat) (Option.some Jvm.ClassFile.FieldType.int)) ∈ lw_all := lw_g (lw_at lw_m5 83 rfl) rfl
theorem q1181 : (Jvm.Cond.methodLink "ShutDays" (314 : Nat) ({ cls := "ShutDays$State", name := "clears", desc := "(I)I" } : Jvm.MethodName)) ∈ lw_all := lw_g (lw_at lw_m5 84 rfl) rfl
theorem q1185 : (Jvm.Cond.methodLink "ShutDays" (320 : Nat) ({ cls := "ShutDays$State", name := "adds", desc := "([[II[I)I" } : Jvm.MethodName)) ∈ lw_all := lw_g (lw_at lw_m5 88 rfl) rfl
theorem q1190 : (Jvm.Cond.instanceMethod ({ cls := "ShutDays", name := "sets", desc := "(IIZ)I" } : Jvm.MethodName)) ∈ lw_all := lw_g (lw_at lw_m5 93 rfl) rfl
theorem q1191 : (Jvm.Cond.selects "ShutDays" ({ cls := "ShutDays", name := "sets", desc := "(IIZ)I" } : Jvm.MethodName) ({ cls := "ShutDays", name := "sets", desc := "(IIZ)I" } : Jvm.MethodName)) ∈ lw_all := lw_g (lw_at lw_m5 94 rfl) rfl
theorem q1192 : (Jvm.Cond.code ({ cls := "ShutDays", name := "sets", desc := "(IIZ)I" } : Jvm.MethodName) prog_1_method_64_code (7 : Nat) (Option.some Jvm.ClassFile.FieldType.int)) ∈ lw_all := lw_g (lw_at lw_m5 95 rfl) rfl
theorem q1193 : (Jvm.Cond.methodLink "ShutDays" (330 : Nat) ({ cls := "ShutDays", name := "setsWith", desc := "(III)I" } : Jvm.MethodName)) ∈ lw_all := lw_g (lw_at lw_m5 96 rfl) rfl
theorem q1194 : (Jvm.Cond.privateMethod ({ cls := "ShutDays", name := "setsWith", desc := "(III)I" } : Jvm.MethodName)) ∈ lw_tbl := lw_at lw_m5 97 rfl
theorem q1195 : (Jvm.Cond.instanceMethod ({ cls := "ShutDays", name := "setsWith", desc := "(III)I" } : Jvm.MethodName)) ∈ lw_all := lw_g (lw_at lw_m5 98 rfl) rfl
theorem q1196 : (Jvm.Cond.code ({ cls := "ShutDays", name := "setsWith", desc := "(III)I" } : Jvm.MethodName) prog_1_method_63_code (6 : Nat) (Option.some Jvm.ClassFile.FieldType.int)) ∈ lw_all := lw_g (lw_at lw_m5 99 rfl) rfl
theorem q1197 : (Jvm.Cond.methodLink "ShutDays" (327 : Nat) ({ cls := "ShutDays", name := "datesSeen", desc := "(II)I" } : Jvm.MethodName)) ∈ lw_all := lw_g (lw_at lw_m5 100 rfl) rfl
theorem q1198 : (Jvm.Cond.privateMethod ({ cls := "ShutDays", name := "datesSeen", desc := "(II)I" } : Jvm.MethodName)) ∈ lw_tbl := lw_at lw_m5 101 rfl
theorem q1199 : (Jvm.Cond.instanceMethod ({ cls := "ShutDays", name := "datesSeen", desc := "(II)I" } : Jvm.MethodName)) ∈ lw_all := lw_g (lw_at lw_m5 102 rfl) rfl
theorem q1200 : (Jvm.Cond.code ({ cls := "ShutDays", name := "datesSeen", desc := "(II)I" } : Jvm.MethodName) prog_1_method_61_code (6 : Nat) (Option.some Jvm.ClassFile.FieldType.int)) ∈ lw_all := lw_g (lw_at lw_m5 103 rfl) rfl
theorem q1201 : (Jvm.Cond.methodLink "ShutDays" (324 : Nat) ({ cls := "ShutDays", name := "ways", desc := "(II)I" } : Jvm.MethodName)) ∈ lw_all := lw_g (lw_at lw_m5 104 rfl) rfl
theorem q1202 : (Jvm.Cond.static ({ cls := "ShutDays", name := "ways", desc := "(II)I" } : Jvm.MethodName)) ∈ lw_all := lw_g (lw_at lw_m5 105 rfl) rfl
theorem q1203 : (Jvm.Cond.code ({ cls := "ShutDays", name := "ways", desc := "(II)I" } : Jvm.MethodName) prog_1_method_62_code (2 : Nat) (Option.some Jvm.ClassFile.FieldType.int)) ∈ lw_all := lw_g (lw_at lw_m5 106 rfl) rfl
theorem q1205 : (Jvm.Cond.instanceMethod ({ cls := "ShutDays", name := "odds", desc := "(IIIZ)I" } : Jvm.MethodName)) ∈ lw_all := lw_g (lw_at lw_m5 108 rfl) rfl
theorem q1206 : (Jvm.Cond.selects "ShutDays" ({ cls := "ShutDays", name := "odds", desc := "(IIIZ)I" } : Jvm.MethodName) ({ cls := "ShutDays", name := "odds", desc := "(IIIZ)I" } : Jvm.MethodName)) ∈ lw_all := lw_g (lw_at lw_m5 109 rfl) rfl
theorem q1207 : (Jvm.Cond.code ({ cls := "ShutDays", name := "odds", desc := "(IIIZ)I" } : Jvm.MethodName) prog_1_method_66_code (7 : Nat) (Option.some Jvm.ClassFile.FieldType.int)) ∈ lw_all := lw_g (lw_at lw_m5 110 rfl) rfl
theorem q1208 : (Jvm.Cond.methodLink "ShutDays" (334 : Nat) ({ cls := "ShutDays", name := "common", desc := "(II)I" } : Jvm.MethodName)) ∈ lw_all := lw_g (lw_at lw_m5 111 rfl) rfl
theorem q1209 : (Jvm.Cond.static ({ cls := "ShutDays", name := "common", desc := "(II)I" } : Jvm.MethodName)) ∈ lw_all := lw_g (lw_at lw_m5 112 rfl) rfl
theorem q1210 : (Jvm.Cond.code ({ cls := "ShutDays", name := "common", desc := "(II)I" } : Jvm.MethodName) prog_1_method_65_code (2 : Nat) (Option.some Jvm.ClassFile.FieldType.int)) ∈ lw_all := lw_g (lw_at lw_m5 113 rfl) rfl
theorem q1212 : (Jvm.Cond.instanceMethod ({ cls := "ShutDays", name := "nextKnock", desc := "(II)I" } : Jvm.MethodName)) ∈ lw_all := lw_g (lw_at lw_m5 115 rfl) rfl
theorem q1213 : (Jvm.Cond.selects "ShutDays" ({ cls := "ShutDays", name := "nextKnock", desc := "(II)I" } : Jvm.MethodName) ({ cls := "ShutDays", name := "nextKnock", desc := "(II)I" } : Jvm.MethodName)) ∈ lw_all := lw_g (lw_at lw_m5 116 rfl) rfl
theorem q1214 : (Jvm.Cond.code ({ cls := "ShutDays", name := "nextKnock", desc := "(II)I" } : Jvm.MethodName) prog_1_method_67_code (8 : Nat) (Option.some Jvm.ClassFile.FieldType.int)) ∈ lw_all := lw_g (lw_at lw_m5 117 rfl) rfl
theorem q1215 : (Jvm.Cond.methodLink "ShutDays" (337 : Nat) ({ cls := "java/lang/Math", name := "abs", desc := "(I)I" } : Jvm.MethodName)) ∈ lw_all := lw_g (lw_at lw_m5 118 rfl) rfl
theorem q1219 : (Jvm.Cond.instanceMethod ({ cls := "ShutDays", name := "thieves", desc := "(IIZ)I" } : Jvm.MethodName)) ∈ lw_all := lw_g (lw_at lw_m5 122 rfl) rfl
theorem q1220 : (Jvm.Cond.selects "ShutDays" ({ cls := "ShutDays", name := "thieves", desc := "(IIZ)I" } : Jvm.MethodName) ({ cls := "ShutDays", name := "thieves", desc := "(IIZ)I" } : Jvm.MethodName)) ∈ lw_all := lw_g (lw_at lw_m5 123 rfl) rfl
theorem q1221 : (Jvm.Cond.code ({ cls := "ShutDays", name := "thieves", desc := "(IIZ)I" } : Jvm.MethodName) prog_1_method_71_code (4 : Nat) (Option.some Jvm.ClassFile.FieldType.int)) ∈ lw_all := lw_g (lw_at lw_m5 124 rfl) rfl
theorem q1222 : (Jvm.Cond.methodLink "ShutDays" (343 : Nat) ({ cls := "ShutDays", name := "firstLooted", desc := "(II)I" } : Jvm.MethodName)) ∈ lw_all := lw_g (lw_at lw_m5 125 rfl) rfl
theorem q1223 : (Jvm.Cond.privateMethod ({ cls := "ShutDays", name := "firstLooted", desc := "(II)I" } : Jvm.MethodName)) ∈ lw_tbl := lw_at lw_m5 126 rfl
theorem q1224 : (Jvm.Cond.instanceMethod ({ cls := "ShutDays", name := "firstLooted", desc := "(II)I" } : Jvm.MethodName)) ∈ lw_all := lw_g (lw_at lw_m5 127 rfl) rfl
theorem q1225 : (Jvm.Cond.code ({ cls := "ShutDays", name := "firstLooted", desc := "(II)I" } : Jvm.MethodName) prog_1_method_69_code (5 : Nat) (Option.some Jvm.ClassFile.FieldType.int)) ∈ lw_all := lw_g (lw_at lw_m5 128 rfl) rfl
theorem q1226 : (Jvm.Cond.methodLink "ShutDays" (340 : Nat) ({ cls := "ShutDays", name := "lootFrom", desc := "(III)I" } : Jvm.MethodName)) ∈ lw_all := lw_g (lw_at lw_m5 129 rfl) rfl
theorem q1227 : (Jvm.Cond.privateMethod ({ cls := "ShutDays", name := "lootFrom", desc := "(III)I" } : Jvm.MethodName)) ∈ lw_tbl := lw_at lw_m5 130 rfl
theorem q1228 : (Jvm.Cond.instanceMethod ({ cls := "ShutDays", name := "lootFrom", desc := "(III)I" } : Jvm.MethodName)) ∈ lw_all := lw_g (lw_at lw_m5 131 rfl) rfl
theorem q1229 : (Jvm.Cond.code ({ cls := "ShutDays", name := "lootFrom", desc := "(III)I" } : Jvm.MethodName) prog_1_method_68_code (7 : Nat) (Option.some Jvm.ClassFile.FieldType.int)) ∈ lw_all := lw_g (lw_at lw_m5 132 rfl) rfl
theorem q1230 : (Jvm.Cond.methodLink "ShutDays" (346 : Nat) ({ cls := "ShutDays", name := "loot", desc := "(II)I" } : Jvm.MethodName)) ∈ lw_all := lw_g (lw_at lw_m5 133 rfl) rfl
theorem q1231 : (Jvm.Cond.privateMethod ({ cls := "ShutDays", name := "loot", desc := "(II)I" } : Jvm.MethodName)) ∈ lw_tbl := lw_at lw_m5 134 rfl
theorem q1232 : (Jvm.Cond.instanceMethod ({ cls := "ShutDays", name := "loot", desc := "(II)I" } : Jvm.MethodName)) ∈ lw_all := lw_g (lw_at lw_m5 135 rfl) rfl
theorem q1233 : (Jvm.Cond.code ({ cls := "ShutDays", name := "loot", desc := "(II)I" } : Jvm.MethodName) prog_1_method_70_code (4 : Nat) (Option.some Jvm.ClassFile.FieldType.int)) ∈ lw_all := lw_g (lw_at lw_m5 136 rfl) rfl
theorem q1235 : (Jvm.Cond.instanceMethod ({ cls := "ShutDays", name := "night", desc := "(I)I" } : Jvm.MethodName)) ∈ lw_all := lw_g (lw_at lw_m5 138 rfl) rfl
theorem q1236 : (Jvm.Cond.selects "ShutDays" ({ cls := "ShutDays", name := "night", desc := "(I)I" } : Jvm.MethodName) ({ cls := "ShutDays", name := "night", desc := "(I)I" } : Jvm.MethodName)) ∈ lw_all := lw_g (lw_at lw_m5 139 rfl) rfl
theorem q1237 : (Jvm.Cond.code ({ cls := "ShutDays", name := "night", desc := "(I)I" } : Jvm.MethodName) prog_1_method_72_code (4 : Nat) (Option.some Jvm.ClassFile.FieldType.int)) ∈ lw_all := lw_g (lw_at lw_m5 140 rfl) rfl
theorem q1239 : (Jvm.Cond.instanceMethod ({ cls := "ShutDays", name := "appointments", desc := "(II)I" } : Jvm.MethodName)) ∈ lw_all := lw_g (lw_at lw_m5 142 rfl) rfl
theorem q1240 : (Jvm.Cond.selects "ShutDays" ({ cls := "ShutDays", name := "appointments", desc := "(II)I" } : Jvm.MethodName) ({ cls := "ShutDays", name := "appointments", desc := "(II)I" } : Jvm.MethodName)) ∈ lw_all := lw_g (lw_at lw_m5 143 rfl) rfl
theorem q1241 : (Jvm.Cond.code ({ cls := "ShutDays", name := "appointments", desc := "(II)I" } : Jvm.MethodName) prog_1_method_74_code (4 : Nat) (Option.some Jvm.ClassFile.FieldType.int)) ∈ lw_all := lw_g (lw_at lw_m5 144 rfl) rfl
theorem q1242 : (Jvm.Cond.methodLink "ShutDays" (352 : Nat) ({ cls := "ShutDays", name := "there", desc := "()I" } : Jvm.MethodName)) ∈ lw_all := lw_g (lw_at lw_m5 145 rfl) rfl
theorem q1243 : (Jvm.Cond.privateMethod ({ cls := "ShutDays", name := "there", desc := "()I" } : Jvm.MethodName)) ∈ lw_tbl := lw_at lw_m5 146 rfl
theorem q1244 : (Jvm.Cond.instanceMethod ({ cls := "ShutDays", name := "there", desc := "()I" } : Jvm.MethodName)) ∈ lw_all := lw_g (lw_at lw_m5 147 rfl) rfl
theorem q1245 : (Jvm.Cond.code ({ cls := "ShutDays", name := "there", desc := "()I" } : Jvm.MethodName) prog_1_method_9_code (1 : Nat) (Option.some Jvm.ClassFile.FieldType.int)) ∈ lw_all := lw_g (lw_at lw_m5 148 rfl) rfl
theorem q1246 : (Jvm.Cond.methodLink "ShutDays" (349 : Nat) ({ cls := "ShutDays", name := "visits", desc := "(III)Z" } : Jvm.MethodName)) ∈ lw_all := lw_g (lw_at lw_m5 149 rfl) rfl
theorem q1247 : (Jvm.Cond.privateMethod ({ cls := "ShutDays", name := "visits", desc := "(III)Z" } : Jvm.MethodName)) ∈ lw_tbl := lw_at lw_m5 150 rfl
theorem q1248 : (Jvm.Cond.instanceMethod ({ cls := "ShutDays", name := "visits", desc := "(III)Z" } : Jvm.MethodName)) ∈ lw_all := lw_g (lw_at lw_m5 151 rfl) rfl
theorem q1249 : (Jvm.Cond.code ({ cls := "ShutDays", name := "visits", desc := "(III)Z" } : Jvm.MethodName) prog_1_method_73_code (6 : Nat) (Option.some Jvm.ClassFile.FieldType.boolean)) ∈ lw_all := lw_g (lw_at lw_m5 152 rfl) rfl
theorem q1251 : (Jvm.Cond.instanceMethod ({ cls := "ShutDays", name := "rounds", desc := "()I" } : Jvm.MethodName)) ∈ lw_all := lw_g (lw_at lw_m5 154 rfl) rfl
theorem q1252 : (Jvm.Cond.selects "ShutDays" ({ cls := "ShutDays", name := "rounds", desc := "()I" } : Jvm.MethodName) ({ cls := "ShutDays", name := "rounds", desc := "()I" } : Jvm.MethodName)) ∈ lw_all := lw_g (lw_at lw_m5 155 rfl) rfl
theorem q1253 : (Jvm.Cond.code ({ cls := "ShutDays", name := "rounds", desc := "()I" } : Jvm.MethodName) prog_1_method_77_code (3 : Nat) (Option.some Jvm.ClassFile.FieldType.int)) ∈ lw_all := lw_g (lw_at lw_m5 156 rfl) rfl
theorem q1254 : (Jvm.Cond.constant "ShutDays" (355 : Nat) (1048576 : Int32)) ∈ lw_all := lw_g (lw_at lw_m5 157 rfl) rfl
theorem q1255 : (Jvm.Cond.methodLink "ShutDays" (356 : Nat) ({ cls := "ShutDays", name := "isRound", desc := "(I)Z" } : Jvm.MethodName)) ∈ lw_all := lw_g (lw_at lw_m5 158 rfl) rfl
theorem q1256 : (Jvm.Cond.privateMethod ({ cls := "ShutDays", name := "isRound", desc := "(I)Z" } : Jvm.MethodName)) ∈ lw_tbl := lw_at lw_m5 159 rfl
theorem q1257 : (Jvm.Cond.instanceMethod ({ cls := "ShutDays", name := "isRound", desc := "(I)Z" } : Jvm.MethodName)) ∈ lw_all := lw_g (lw_at lw_m5 160 rfl) rfl
theorem q1258 : (Jvm.Cond.code ({ cls := "ShutDays", name := "isRound", desc := "(I)Z" } : Jvm.MethodName) prog_1_method_75_code (3 : Nat) (Option.some Jvm.ClassFile.FieldType.boolean)) ∈ lw_all := lw_g (lw_at lw_m5 161 rfl) rfl
theorem q1259 : (Jvm.Cond.methodLink "ShutDays" (359 : Nat) ({ cls := "ShutDays", name := "nextLike", desc := "(I)I" } : Jvm.MethodName)) ∈ lw_all := lw_g (lw_at lw_m5 162 rfl) rfl
theorem q1260 : (Jvm.Cond.static ({ cls := "ShutDays", name := "nextLike", desc := "(I)I" } : Jvm.MethodName)) ∈ lw_all := lw_g (lw_at lw_m5 163 rfl) rfl
theorem q1261 : (Jvm.Cond.code ({ cls := "ShutDays", name := "nextLike", desc := "(I)I" } : Jvm.MethodName) prog_1_method_76_code (3 : Nat) (Option.some Jvm.ClassFile.FieldType.int)) ∈ lw_all := lw_g (lw_at lw_m5 164 rfl) rfl
theorem q1263 : (Jvm.Cond.instanceMethod ({ cls := "ShutDays", name := "weddings", desc := "(I)I" } : Jvm.MethodName)) ∈ lw_all := lw_g (lw_at lw_m5 166 rfl) rfl
theorem q1264 : (Jvm.Cond.selects "ShutDays" ({ cls := "ShutDays", name := "weddings", desc := "(I)I" } : Jvm.MethodName) ({ cls := "ShutDays", name := "weddings", desc := "(I)I" } : Jvm.MethodName)) ∈ lw_all := lw_g (lw_at lw_m5 167 rfl) rfl
theorem q1265 : (Jvm.Cond.code ({ cls := "ShutDays", name := "weddings", desc := "(I)I" } : Jvm.MethodName) prog_1_method_79_code (2 : Nat) (Option.some Jvm.ClassFile.FieldType.int)) ∈ lw_all := lw_g (lw_at lw_m5 168 rfl) rfl
theorem q1266 : (Jvm.Cond.methodLink "ShutDays" (371 : Nat) ({ cls := "java/util/Arrays", name := "fill", desc := "([II)V" } : Jvm.MethodName)) ∈ lw_all := lw_g (lw_at lw_m5 169 rfl) rfl
theorem q1269 : (Jvm.Cond.methodLink "ShutDays" (368 : Nat) ({ cls := "ShutDays", name := "weds", desc := "(II)V" } : Jvm.MethodName)) ∈ lw_all := lw_g (lw_at lw_m5 172 rfl) rfl
theorem q1270 : (Jvm.Cond.privateMethod ({ cls := "ShutDays", name := "weds", desc := "(II)V" } : Jvm.MethodName)) ∈ lw_tbl := lw_at lw_m5 173 rfl
theorem q1271 : (Jvm.Cond.instanceMethod ({ cls := "ShutDays", name := "weds", desc := "(II)V" } : Jvm.MethodName)) ∈ lw_all := lw_g (lw_at lw_m5 174 rfl) rfl
theorem q1272 : (Jvm.Cond.code ({ cls := "ShutDays", name := "weds", desc := "(II)V" } : Jvm.MethodName) prog_1_method_78_code (6 : Nat) (Option.none : Option Jvm.ClassFile.FieldType)) ∈ lw_all := lw_g (lw_at lw_m5 175 rfl) rfl
theorem q1273 : (Jvm.Cond.methodLink "ShutDays" (365 : Nat) ({ cls := "java/lang/Integer", name := "numberOfTrailingZeros", desc := "(I)I" } : Jvm.MethodName)) ∈ lw_all := lw_g (lw_at lw_m5 176 rfl) rfl
theorem q1278 : (Jvm.Cond.instanceMethod ({ cls := "ShutDays", name := "twins", desc := "()I" } : Jvm.MethodName)) ∈ lw_all := lw_g (lw_at lw_m5 181 rfl) rfl
theorem q1279 : (Jvm.Cond.selects "ShutDays" ({ cls := "ShutDays", name := "twins", desc := "()I" } : Jvm.MethodName) ({ cls := "ShutDays", name := "twins", desc := "()I" } : Jvm.MethodName)) ∈ lw_all := lw_g (lw_at lw_m5 182 rfl) rfl
theorem q1280 : (Jvm.Cond.code ({ cls := "ShutDays", name := "twins", desc := "()I" } : Jvm.MethodName) prog_1_method_80_code (4 : Nat) (Option.some Jvm.ClassFile.FieldType.int)) ∈ lw_all := lw_g (lw_at lw_m5 183 rfl) rfl
theorem q1282 : (Jvm.Cond.instanceMethod ({ cls := "ShutDays", name := "gossip", desc := "(II)I" } : Jvm.MethodName)) ∈ lw_all := lw_g (lw_at lw_m5 185 rfl) rfl
theorem q1283 : (Jvm.Cond.selects "ShutDays" ({ cls := "ShutDays", name := "gossip", desc := "(II)I" } : Jvm.MethodName) ({ cls := "ShutDays", name := "gossip", desc := "(II)I" } : Jvm.MethodName)) ∈ lw_all := lw_g (lw_at lw_m5 186 rfl) rfl
theorem q1284 : (Jvm.Cond.code ({ cls := "ShutDays", name := "gossip", desc := "(II)I" } : Jvm.MethodName) prog_1_method_81_code (4 : Nat) (Option.some Jvm.ClassFile.FieldType.int)) ∈ lw_all := lw_g (lw_at lw_m5 187 rfl) rfl
theorem q1286 : (Jvm.Cond.instanceMethod ({ cls := "ShutDays", name := "knows", desc := "(II)I" } : Jvm.MethodName)) ∈ lw_all := lw_g (lw_at lw_m5 189 rfl) rfl
theorem q1287 : (Jvm.Cond.selects "ShutDays" ({ cls := "ShutDays", name := "knows", desc := "(II)I" } : Jvm.MethodName) ({ cls := "ShutDays", name := "knows", desc := "(II)I" } : Jvm.MethodName)) ∈ lw_all := lw_g (lw_at lw_m5 190 rfl) rfl
theorem q1288 : (Jvm.Cond.code ({ cls := "ShutDays", name := "knows", desc := "(II)I" } : Jvm.MethodName) prog_1_method_83_code (5 : Nat) (Option.some Jvm.ClassFile.FieldType.int)) ∈ lw_all := lw_g (lw_at lw_m5 191 rfl) rfl
theorem q1289 : (Jvm.Cond.methodLink "ShutDays" (380 : Nat) ({ cls := "ShutDays", name := "knowing", desc := "(I)I" } : Jvm.MethodName)) ∈ lw_all := lw_g (lw_at lw_m5 192 rfl) rfl
theorem q1290 : (Jvm.Cond.privateMethod ({ cls := "ShutDays", name := "knowing", desc := "(I)I" } : Jvm.MethodName)) ∈ lw_tbl := lw_at lw_m5 193 rfl
theorem q1291 : (Jvm.Cond.instanceMethod ({ cls := "ShutDays", name := "knowing", desc := "(I)I" } : Jvm.MethodName)) ∈ lw_all := lw_g (lw_at lw_m5 194 rfl) rfl
theorem q1292 : (Jvm.Cond.code ({ cls := "ShutDays", name := "knowing", desc := "(I)I" } : Jvm.MethodName) prog_1_method_82_code (4 : Nat) (Option.some Jvm.ClassFile.FieldType.int)) ∈ lw_all := lw_g (lw_at lw_m5 195 rfl) rfl
theorem q1294 : (Jvm.Cond.instanceMethod ({ cls := "ShutDays", name := "never", desc := "(I)I" } : Jvm.MethodName)) ∈ lw_all := lw_g (lw_at lw_m5 197 rfl) rfl
theorem q1295 : (Jvm.Cond.selects "ShutDays" ({ cls := "ShutDays", name := "never", desc := "(I)I" } : Jvm.MethodName) ({ cls := "ShutDays", name := "never", desc := "(I)I" } : Jvm.MethodName)) ∈ lw_all := lw_g (lw_at lw_m5 198 rfl) rfl
theorem q1296 : (Jvm.Cond.code ({ cls := "ShutDays", name := "never", desc := "(I)I" } : Jvm.MethodName) prog_1_method_84_code (4 : Nat) (Option.some Jvm.ClassFile.FieldType.int)) ∈ lw_all := lw_g (lw_at lw_m5 199 rfl) rfl
theorem q1298 : (Jvm.Cond.instanceMethod ({ cls := "ShutDays", name := "richest", desc := "(Z)I" } : Jvm.MethodName)) ∈ lw_all := lw_g (lw_at lw_m5 201 rfl) rfl
theorem q1299 : (Jvm.Cond.selects "ShutDays" ({ cls := "ShutDays", name := "richest", desc := "(Z)I" } : Jvm.MethodName) ({ cls := "ShutDays", name := "richest", desc := "(Z)I" } : Jvm.MethodName)) ∈ lw_all := lw_g (lw_at lw_m5 202 rfl) rfl
theorem q1300 : (Jvm.Cond.code ({ cls := "ShutDays", name := "richest", desc := "(Z)I" } : Jvm.MethodName) prog_1_method_86_code (4 : Nat) (Option.some Jvm.ClassFile.FieldType.int)) ∈ lw_all := lw_g (lw_at lw_m5 203 rfl) rfl
theorem q1301 : (Jvm.Cond.methodLink "ShutDays" (383 : Nat) ({ cls := "ShutDays", name := "earnedOn", desc := "(I)I" } : Jvm.MethodName)) ∈ lw_all := lw_g (lw_at lw_m5 204 rfl) rfl
theorem q1302 : (Jvm.Cond.privateMethod ({ cls := "ShutDays", name := "earnedOn", desc := "(I)I" } : Jvm.MethodName)) ∈ lw_tbl := lw_at lw_m5 205 rfl
theorem q1303 : (Jvm.Cond.instanceMethod ({ cls := "ShutDays", name := "earnedOn", desc := "(I)I" } : Jvm.MethodName)) ∈ lw_all := lw_g (lw_at lw_m5 206 rfl) rfl
theorem q1304 : (Jvm.Cond.code ({ cls := "ShutDays", name := "earnedOn", desc := "(I)I" } : Jvm.MethodName) prog_1_method_85_code (5 : Nat) (Option.some Jvm.ClassFile.FieldType.int)) ∈ lw_all := lw_g (lw_at lw_m5 207 rfl) rfl
theorem q1306 : (Jvm.Cond.instanceMethod ({ cls := "ShutDays", name := "whose", desc := "(I)I" } : Jvm.MethodName)) ∈ lw_all := lw_g (lw_at lw_m5 209 rfl) rfl
theorem q1307 : (Jvm.Cond.selects "ShutDays" ({ cls := "ShutDays", name := "whose", desc := "(I)I" } : Jvm.MethodName) ({ cls := "ShutDays", name := "whose", desc := "(I)I" } : Jvm.MethodName)) ∈ lw_all := lw_g (lw_at lw_m5 210 rfl) rfl
theorem q1308 : (Jvm.Cond.code ({ cls := "ShutDays", name := "whose", desc := "(I)I" } : Jvm.MethodName) prog_1_method_88_code (6 : Nat) (Option.some Jvm.ClassFile.FieldType.int)) ∈ lw_all := lw_g (lw_at lw_m5 211 rfl) rfl
theorem q1309 : (Jvm.Cond.methodLink "ShutDays" (386 : Nat) ({ cls := "ShutDays", name := "pursesBy", desc := "(LShutDays$Text;I)I" } : Jvm.MethodName)) ∈ lw_all := lw_g (lw_at lw_m5 212 rfl) rfl
theorem q1310 : (Jvm.Cond.privateMethod ({ cls := "ShutDays", name := "pursesBy", desc := "(LShutDays$Text;I)I" } : Jvm.MethodName)) ∈ lw_tbl := lw_at lw_m5 213 rfl
theorem q1311 : (Jvm.Cond.instanceMethod ({ cls := "ShutDays", name := "pursesBy", desc := "(LShutDays$Text;I)I" } : Jvm.MethodName)) ∈ lw_all := lw_g (lw_at lw_m5 214 rfl) rfl
theorem q1312 : (Jvm.Cond.code ({ cls := "ShutDays", name := "pursesBy", desc := "(LShutDays$Text;I)I" } : Jvm.MethodName) prog_1_method_87_code (5 : Nat) (Option.some Jvm.ClassFile.FieldType.int)) ∈ lw_all := lw_g (lw_at lw_m5 215 rfl) rfl
theorem q1314 : (Jvm.Cond.instanceMethod ({ cls := "ShutDays", name := "knocks", desc := "(IZ)I" } : Jvm.MethodName)) ∈ lw_all := lw_g (lw_at lw_m5 217 rfl) rfl
theorem q1315 : (Jvm.Cond.selects "ShutDays" ({ cls := "ShutDays", name := "knocks", desc := "(IZ)I" } : Jvm.MethodName) ({ cls := "ShutDays", name := "knocks", desc := "(IZ)I" } : Jvm.MethodName)) ∈ lw_all := lw_g (lw_at lw_m5 218 rfl) rfl
theorem q1316 : (Jvm.Cond.code ({ cls := "ShutDays", name := "knocks", desc := "(IZ)I" } : Jvm.MethodName) prog_1_method_90_code (3 : Nat) (Option.some Jvm.ClassFile.FieldType.int)) ∈ lw_all := lw_g (lw_at lw_m5 219 rfl) rfl
theorem q1317 : (Jvm.Cond.methodLink "ShutDays" (390 : Nat) ({ cls := "ShutDays", name := "knocksAt", desc := "(II)I" } : Jvm.MethodName)) ∈ lw_all := lw_g (lw_at lw_m5 220 rfl) rfl
theorem q1318 : (Jvm.Cond.privateMethod ({ cls := "ShutDays", name := "knocksAt", desc := "(II)I" } : Jvm.MethodName)) ∈ lw_tbl := lw_at lw_m5 221 rfl
theorem q1319 : (Jvm.Cond.instanceMethod ({ cls := "ShutDays", name := "knocksAt", desc := "(II)I" } : Jvm.MethodName)) ∈ lw_all := lw_g (lw_at lw_m5 222 rfl) rfl
theorem q1320 : (Jvm.Cond.code ({ cls := "ShutDays", name := "knocksAt", desc := "(II)I" } : Jvm.MethodName) prog_1_method_89_code (6 : Nat) (Option.some Jvm.ClassFile.FieldType.int)) ∈ lw_all := lw_g (lw_at lw_m5 223 rfl) rfl
theorem q1322 : (Jvm.Cond.instanceMethod ({ cls := "ShutDays", name := "offended", desc := "()I" } : Jvm.MethodName)) ∈ lw_all := lw_g (lw_at lw_m5 225 rfl) rfl
theorem q1323 : (Jvm.Cond.selects "ShutDays" ({ cls := "ShutDays", name := "offended", desc := "()I" } : Jvm.MethodName) ({ cls := "ShutDays", name := "offended", desc := "()I" } : Jvm.MethodName)) ∈ lw_all := lw_g (lw_at lw_m5 226 rfl) rfl
theorem q1324 : (Jvm.Cond.code ({ cls := "ShutDays", name := "offended", desc := "()I" } : Jvm.MethodName) prog_1_method_91_code (3 : Nat) (Option.some Jvm.ClassFile.FieldType.int)) ∈ lw_all := lw_g (lw_at lw_m5 227 rfl) rfl
theorem q1326 : (Jvm.Cond.instanceMethod ({ cls := "ShutDays", name := "leap", desc := "(II)I" } : Jvm.MethodName)) ∈ lw_all := lw_g (lw_at lw_m5 229 rfl) rfl
theorem q1327 : (Jvm.Cond.selects "ShutDays" ({ cls := "ShutDays", name := "leap", desc := "(II)I" } : Jvm.MethodName) ({ cls := "ShutDays", name := "leap", desc := "(II)I" } : Jvm.MethodName)) ∈ lw_all := lw_g (lw_at lw_m5 230 rfl) rfl
theorem q1328 : (Jvm.Cond.code ({ cls := "ShutDays", name := "leap", desc := "(II)I" } : Jvm.MethodName) prog_1_method_92_code (6 : Nat) (Option.some Jvm.ClassFile.FieldType.int)) ∈ lw_all := lw_g (lw_at lw_m5 231 rfl) rfl
theorem q1329 : (Jvm.Cond.constant "ShutDays" (393 : Nat) (1048575 : Int32)) ∈ lw_all := lw_g (lw_at lw_m5 232 rfl) rfl
theorem q1331 : (Jvm.Cond.instanceMethod ({ cls := "ShutDays", name := "image", desc := "()I" } : Jvm.MethodName)) ∈ lw_all := lw_g (lw_at lw_m5 234 rfl) rfl
theorem q1332 : (Jvm.Cond.selects "ShutDays" ({ cls := "ShutDays", name := "image", desc := "()I" } : Jvm.MethodName) ({ cls := "ShutDays", name := "image", desc := "()I" } : Jvm.MethodName)) ∈ lw_all := lw_g (lw_at lw_m5 235 rfl) rfl
theorem q1333 : (Jvm.Cond.code ({ cls := "ShutDays", name := "image", desc := "()I" } : Jvm.MethodName) prog_1_method_93_code (1 : Nat) (Option.some Jvm.ClassFile.FieldType.int)) ∈ lw_all := lw_g (lw_at lw_m5 236 rfl) rfl
theorem q1335 : (Jvm.Cond.instanceMethod ({ cls := "ShutDays", name := "back", desc := "()I" } : Jvm.MethodName)) ∈ lw_all := lw_g (lw_at lw_m5 238 rfl) rfl
theorem q1336 : (Jvm.Cond.selects "ShutDays" ({ cls := "ShutDays", name := "back", desc := "()I" } : Jvm.MethodName) ({ cls := "ShutDays", name := "back", desc := "()I" } : Jvm.MethodName)) ∈ lw_all := lw_g (lw_at lw_m5 239 rfl) rfl
theorem q1337 : (Jvm.Cond.code ({ cls := "ShutDays", name := "back", desc := "()I" } : Jvm.MethodName) prog_1_method_94_code (1 : Nat) (Option.some Jvm.ClassFile.FieldType.int)) ∈ lw_all := lw_g (lw_at lw_m6 0 rfl) rfl
theorem q1339 : (Jvm.Cond.instanceMethod ({ cls := "ShutDays", name := "about", desc := "(I)I" } : Jvm.MethodName)) ∈ lw_all := lw_g (lw_at lw_m6 2 rfl) rfl
theorem q1340 : (Jvm.Cond.selects "ShutDays" ({ cls := "ShutDays", name := "about", desc := "(I)I" } : Jvm.MethodName) ({ cls := "ShutDays", name := "about", desc := "(I)I" } : Jvm.MethodName)) ∈ lw_all := lw_g (lw_at lw_m6 3 rfl) rfl
theorem q1341 : (Jvm.Cond.code ({ cls := "ShutDays", name := "about", desc := "(I)I" } : Jvm.MethodName) prog_1_method_95_code (2 : Nat) (Option.some Jvm.ClassFile.FieldType.int)) ∈ lw_all := lw_g (lw_at lw_m6 4 rfl) rfl
theorem q2029 : (Jvm.Cond.castable "ShutDays" "java/lang/Object") ∈ lw_tbl := lw_at lw_m8 212 rfl
theorem in_X0 : ∀ w ∈ wsX00, w ∈ lw_all := lw_in wsX00 [241, 243, 245, 247, 249, 251, 253, 255, 257, 259, 261, 263] (by decide +kernel) (by decide +kernel)
