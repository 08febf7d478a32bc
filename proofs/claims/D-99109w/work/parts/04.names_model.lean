/-! ShutDaysModel -/
set_option maxRecDepth 100000
def RX2 : String := "ShutDaysModel"
def TX2 : u_T := fun k => match k with
  | 0 => ("ShutDaysModel", "a", "[I", true)
  | 1 => ("ShutDaysModel", "image", "[I", true)
  | 2 => ("ShutDaysModel", "texts", "[I", true)
  | 3 => ("ShutDaysModel", "tape", "[I", true)
  | 4 => ("ShutDaysModel", "taped", "I", false)
  | 5 => ("ShutDaysModel", "fault", "I", false)
  | 6 => ("ShutDaysModel", "faultPlace", "I", false)
  | 7 => ("ShutDaysModel", "at", "I", false)
  | 8 => ("ShutDaysModel", "place", "I", false)
  | 9 => ("ShutDaysModel", "token", "I", false)
  | 10 => ("ShutDaysModel", "number", "I", false)
  | 11 => ("ShutDaysModel", "word", "J", false)
  | 12 => ("ShutDaysModel", "text0", "I", false)
  | 13 => ("ShutDaysModel", "written", "I", false)
  | 14 => ("ShutDaysModel", "sort0", "I", false)
  | 15 => ("ShutDaysModel", "pile", "[I", true)
  | 16 => ("ShutDaysModel", "piled", "I", false)
  | 17 => ("ShutDaysModel", "opens", "I", false)
  | 18 => ("ShutDaysModel", "isWhole", "Z", false)
  | 19 => ("ShutDaysModel", "isEither", "Z", false)
  | 20 => ("ShutDaysModel", "once", "I", false)
  | 21 => ("ShutDaysModel", "named", "[I", true)
  | 22 => ("ShutDaysModel", "values", "[J", true)
  | 23 => ("ShutDaysModel", "truth", "[Z", true)
  | 24 => ("ShutDaysModel", "aside", "[I", true)
  | 25 => ("ShutDaysModel", "wasShut", "I", false)
  | 26 => ("ShutDaysModel", "wasOpen", "I", false)
  | 27 => ("ShutDaysModel", "sets", "I", false)
  | 28 => ("ShutDaysModel", "inAll", "I", false)
  | 29 => ("ShutDaysModel", "with", "[I", true)
  | 30 => ("ShutDaysModel", "mostStolen", "I", false)
  | 31 => ("ShutDaysModel", "firstStolen", "I", false)
  | 32 => ("ShutDaysModel", "member", "[I", true)
  | 33 => ("ShutDaysModel", "dayOf", "[I", true)
  | 34 => ("ShutDaysModel", "mate", "[I", true)
  | _ => ("ShutDaysModel", "bestMate", "[I", true)
def tyX2 : Nat → FieldType := fun k => match k with
  | 0 => .array .int
  | 1 => .array .int
  | 2 => .array .int
  | 3 => .array .int
  | 4 => .int
  | 5 => .int
  | 6 => .int
  | 7 => .int
  | 8 => .int
  | 9 => .int
  | 10 => .int
  | 11 => .long
  | 12 => .int
  | 13 => .int
  | 14 => .int
  | 15 => .array .int
  | 16 => .int
  | 17 => .int
  | 18 => .boolean
  | 19 => .boolean
  | 20 => .int
  | 21 => .array .int
  | 22 => .array .long
  | 23 => .array .boolean
  | 24 => .array .int
  | 25 => .int
  | 26 => .int
  | 27 => .int
  | 28 => .int
  | 29 => .array .int
  | 30 => .int
  | 31 => .int
  | 32 => .array .int
  | 33 => .array .int
  | 34 => .array .int
  | _ => .array .int
abbrev wsX20 : List Cond := u_ws RX2 TX2 36
set_option maxRecDepth 100000 in
theorem nmX2 : ∀ a, a < 36 → ∀ b, b < 36 → a ≠ b → (TX2 a).2.1 ≠ (TX2 b).2.1 := by decide +kernel
set_option maxRecDepth 100000 in
theorem tyX2_ok : ∀ k, k < 36 → parseFieldDescriptor (TX2 k).2.2.1 = some (tyX2 k) := by decide +kernel
abbrev cX2_init : ByteArray := prog_19_method_1_code
def yX2_init : MethodName := ⟨RX2, "<init>", "()V"⟩
def dkwX2_init_6 : List UInt8 := [79, 42, 180, 0, 7, 5, 2, 79, 42, 180, 0, 7, 42, 180, 0, 13, 184, 0, 61, 177]
abbrev dktX2_init_6 : List UInt8 := dkwX2_init_6 ++ []
def dkwX2_init_5 : List UInt8 := [16, 7, 188, 10, 181, 0, 55, 42, 16, 7, 188, 10, 181, 0, 58, 42, 180, 0, 7, 16, 9, 17, 0, 131]
abbrev dktX2_init_5 : List UInt8 := dkwX2_init_5 ++ dktX2_init_6
def dkwX2_init_4 : List UInt8 := [16, 20, 188, 10, 181, 0, 46, 42, 16, 7, 188, 10, 181, 0, 49, 42, 16, 7, 188, 10, 181, 0, 52, 42]
abbrev dktX2_init_4 : List UInt8 := dkwX2_init_4 ++ dktX2_init_5
def dkwX2_init_3 : List UInt8 := [188, 11, 181, 0, 35, 42, 17, 1, 74, 188, 4, 181, 0, 39, 42, 16, 68, 188, 10, 181, 0, 43, 42]
abbrev dktX2_init_3 : List UInt8 := dkwX2_init_3 ++ dktX2_init_4
def dkwX2_init_2 : List UInt8 := [181, 0, 26, 42, 17, 0, 160, 188, 10, 181, 0, 29, 42, 16, 8, 188, 10, 181, 0, 32, 42, 17, 1, 74]
abbrev dktX2_init_2 : List UInt8 := dkwX2_init_2 ++ dktX2_init_3
def dkwX2_init_1 : List UInt8 := [17, 11, 4, 188, 10, 181, 0, 16, 42, 17, 1, 44, 188, 10, 181, 0, 19, 42, 2, 181, 0, 22, 42, 2]
abbrev dktX2_init_1 : List UInt8 := dkwX2_init_1 ++ dktX2_init_2
def dkwX2_init_0 : List UInt8 := [42, 183, 0, 1, 42, 17, 9, 4, 188, 10, 181, 0, 7, 42, 17, 9, 4, 188, 10, 181, 0, 13, 42]
abbrev dktX2_init_0 : List UInt8 := dkwX2_init_0 ++ dktX2_init_1
theorem dksX2_init_0 : cX2_init.data.toList.drop 0 = dktX2_init_0 := by decide +kernel
theorem dksX2_init_1 : cX2_init.data.toList.drop 23 = dktX2_init_1 := dk_seg dksX2_init_0 23 rfl rfl
theorem dksX2_init_2 : cX2_init.data.toList.drop 47 = dktX2_init_2 := dk_seg dksX2_init_1 24 rfl rfl
theorem dksX2_init_3 : cX2_init.data.toList.drop 71 = dktX2_init_3 := dk_seg dksX2_init_2 24 rfl rfl
theorem dksX2_init_4 : cX2_init.data.toList.drop 94 = dktX2_init_4 := dk_seg dksX2_init_3 23 rfl rfl
theorem dksX2_init_5 : cX2_init.data.toList.drop 118 = dktX2_init_5 := dk_seg dksX2_init_4 24 rfl rfl
theorem dksX2_init_6 : cX2_init.data.toList.drop 142 = dktX2_init_6 := dk_seg dksX2_init_5 24 rfl rfl
theorem dX2_init_0 : decode cX2_init 0 = .ok (.aload_n 0, 1) := dk_42 (dk_at dksX2_init_0 0 rfl rfl)
theorem dX2_init_1 : decode cX2_init 1 = .ok (.invokespecial 1, 3) := dk_183 0 1 (dk_at dksX2_init_0 1 rfl rfl)
theorem dX2_init_4 : decode cX2_init 4 = .ok (.aload_n 0, 1) := dk_42 (dk_at dksX2_init_0 4 rfl rfl)
theorem dX2_init_5 : decode cX2_init 5 = .ok (.sipush 2308, 3) := dk_17 9 4 (dk_at dksX2_init_0 5 rfl rfl)
theorem dX2_init_8 : decode cX2_init 8 = .ok (.newarray .int, 2) := dk_188_10 (dk_at dksX2_init_0 8 rfl rfl)
theorem dX2_init_10 : decode cX2_init 10 = .ok (.putfield 7, 3) := dk_181 0 7 (dk_at dksX2_init_0 10 rfl rfl)
theorem dX2_init_13 : decode cX2_init 13 = .ok (.aload_n 0, 1) := dk_42 (dk_at dksX2_init_0 13 rfl rfl)
theorem dX2_init_14 : decode cX2_init 14 = .ok (.sipush 2308, 3) := dk_17 9 4 (dk_at dksX2_init_0 14 rfl rfl)
theorem dX2_init_17 : decode cX2_init 17 = .ok (.newarray .int, 2) := dk_188_10 (dk_at dksX2_init_0 17 rfl rfl)
theorem dX2_init_19 : decode cX2_init 19 = .ok (.putfield 13, 3) := dk_181 0 13 (dk_at dksX2_init_0 19 rfl rfl)
theorem dX2_init_22 : decode cX2_init 22 = .ok (.aload_n 0, 1) := dk_42 (dk_at dksX2_init_0 22 rfl rfl)
theorem dX2_init_23 : decode cX2_init 23 = .ok (.sipush 2820, 3) := dk_17 11 4 (dk_at dksX2_init_1 0 rfl rfl)
theorem dX2_init_26 : decode cX2_init 26 = .ok (.newarray .int, 2) := dk_188_10 (dk_at dksX2_init_1 3 rfl rfl)
theorem dX2_init_28 : decode cX2_init 28 = .ok (.putfield 16, 3) := dk_181 0 16 (dk_at dksX2_init_1 5 rfl rfl)
theorem dX2_init_31 : decode cX2_init 31 = .ok (.aload_n 0, 1) := dk_42 (dk_at dksX2_init_1 8 rfl rfl)
theorem dX2_init_32 : decode cX2_init 32 = .ok (.sipush 300, 3) := dk_17 1 44 (dk_at dksX2_init_1 9 rfl rfl)
theorem dX2_init_35 : decode cX2_init 35 = .ok (.newarray .int, 2) := dk_188_10 (dk_at dksX2_init_1 12 rfl rfl)
theorem dX2_init_37 : decode cX2_init 37 = .ok (.putfield 19, 3) := dk_181 0 19 (dk_at dksX2_init_1 14 rfl rfl)
theorem dX2_init_40 : decode cX2_init 40 = .ok (.aload_n 0, 1) := dk_42 (dk_at dksX2_init_1 17 rfl rfl)
theorem dX2_init_41 : decode cX2_init 41 = .ok (.iconst (-1), 1) := dk_2 (dk_at dksX2_init_1 18 rfl rfl)
theorem dX2_init_42 : decode cX2_init 42 = .ok (.putfield 22, 3) := dk_181 0 22 (dk_at dksX2_init_1 19 rfl rfl)
theorem dX2_init_45 : decode cX2_init 45 = .ok (.aload_n 0, 1) := dk_42 (dk_at dksX2_init_1 22 rfl rfl)
theorem dX2_init_46 : decode cX2_init 46 = .ok (.iconst (-1), 1) := dk_2 (dk_at dksX2_init_1 23 rfl rfl)
theorem dX2_init_47 : decode cX2_init 47 = .ok (.putfield 26, 3) := dk_181 0 26 (dk_at dksX2_init_2 0 rfl rfl)
theorem dX2_init_50 : decode cX2_init 50 = .ok (.aload_n 0, 1) := dk_42 (dk_at dksX2_init_2 3 rfl rfl)
theorem dX2_init_51 : decode cX2_init 51 = .ok (.sipush 160, 3) := dk_17 0 160 (dk_at dksX2_init_2 4 rfl rfl)
theorem dX2_init_54 : decode cX2_init 54 = .ok (.newarray .int, 2) := dk_188_10 (dk_at dksX2_init_2 7 rfl rfl)
theorem dX2_init_56 : decode cX2_init 56 = .ok (.putfield 29, 3) := dk_181 0 29 (dk_at dksX2_init_2 9 rfl rfl)
theorem dX2_init_59 : decode cX2_init 59 = .ok (.aload_n 0, 1) := dk_42 (dk_at dksX2_init_2 12 rfl rfl)
theorem dX2_init_60 : decode cX2_init 60 = .ok (.bipush 8, 2) := dk_16 8 (dk_at dksX2_init_2 13 rfl rfl)
theorem dX2_init_62 : decode cX2_init 62 = .ok (.newarray .int, 2) := dk_188_10 (dk_at dksX2_init_2 15 rfl rfl)
theorem dX2_init_64 : decode cX2_init 64 = .ok (.putfield 32, 3) := dk_181 0 32 (dk_at dksX2_init_2 17 rfl rfl)
theorem dX2_init_67 : decode cX2_init 67 = .ok (.aload_n 0, 1) := dk_42 (dk_at dksX2_init_2 20 rfl rfl)
theorem dX2_init_68 : decode cX2_init 68 = .ok (.sipush 330, 3) := dk_17 1 74 (dk_at dksX2_init_2 21 rfl rfl)
theorem dX2_init_71 : decode cX2_init 71 = .ok (.newarray .long, 2) := dk_188_11 (dk_at dksX2_init_3 0 rfl rfl)
theorem dX2_init_73 : decode cX2_init 73 = .ok (.putfield 35, 3) := dk_181 0 35 (dk_at dksX2_init_3 2 rfl rfl)
theorem dX2_init_76 : decode cX2_init 76 = .ok (.aload_n 0, 1) := dk_42 (dk_at dksX2_init_3 5 rfl rfl)
theorem dX2_init_77 : decode cX2_init 77 = .ok (.sipush 330, 3) := dk_17 1 74 (dk_at dksX2_init_3 6 rfl rfl)
theorem dX2_init_80 : decode cX2_init 80 = .ok (.newarray .boolean, 2) := dk_188_4 (dk_at dksX2_init_3 9 rfl rfl)
theorem dX2_init_82 : decode cX2_init 82 = .ok (.putfield 39, 3) := dk_181 0 39 (dk_at dksX2_init_3 11 rfl rfl)
theorem dX2_init_85 : decode cX2_init 85 = .ok (.aload_n 0, 1) := dk_42 (dk_at dksX2_init_3 14 rfl rfl)
theorem dX2_init_86 : decode cX2_init 86 = .ok (.bipush 68, 2) := dk_16 68 (dk_at dksX2_init_3 15 rfl rfl)
theorem dX2_init_88 : decode cX2_init 88 = .ok (.newarray .int, 2) := dk_188_10 (dk_at dksX2_init_3 17 rfl rfl)
theorem dX2_init_90 : decode cX2_init 90 = .ok (.putfield 43, 3) := dk_181 0 43 (dk_at dksX2_init_3 19 rfl rfl)
theorem dX2_init_93 : decode cX2_init 93 = .ok (.aload_n 0, 1) := dk_42 (dk_at dksX2_init_3 22 rfl rfl)
theorem dX2_init_94 : decode cX2_init 94 = .ok (.bipush 20, 2) := dk_16 20 (dk_at dksX2_init_4 0 rfl rfl)
theorem dX2_init_96 : decode cX2_init 96 = .ok (.newarray .int, 2) := dk_188_10 (dk_at dksX2_init_4 2 rfl rfl)
theorem dX2_init_98 : decode cX2_init 98 = .ok (.putfield 46, 3) := dk_181 0 46 (dk_at dksX2_init_4 4 rfl rfl)
theorem dX2_init_101 : decode cX2_init 101 = .ok (.aload_n 0, 1) := dk_42 (dk_at dksX2_init_4 7 rfl rfl)
theorem dX2_init_102 : decode cX2_init 102 = .ok (.bipush 7, 2) := dk_16 7 (dk_at dksX2_init_4 8 rfl rfl)
theorem dX2_init_104 : decode cX2_init 104 = .ok (.newarray .int, 2) := dk_188_10 (dk_at dksX2_init_4 10 rfl rfl)
theorem dX2_init_106 : decode cX2_init 106 = .ok (.putfield 49, 3) := dk_181 0 49 (dk_at dksX2_init_4 12 rfl rfl)
theorem dX2_init_109 : decode cX2_init 109 = .ok (.aload_n 0, 1) := dk_42 (dk_at dksX2_init_4 15 rfl rfl)
theorem dX2_init_110 : decode cX2_init 110 = .ok (.bipush 7, 2) := dk_16 7 (dk_at dksX2_init_4 16 rfl rfl)
theorem dX2_init_112 : decode cX2_init 112 = .ok (.newarray .int, 2) := dk_188_10 (dk_at dksX2_init_4 18 rfl rfl)
theorem dX2_init_114 : decode cX2_init 114 = .ok (.putfield 52, 3) := dk_181 0 52 (dk_at dksX2_init_4 20 rfl rfl)
theorem dX2_init_117 : decode cX2_init 117 = .ok (.aload_n 0, 1) := dk_42 (dk_at dksX2_init_4 23 rfl rfl)
theorem dX2_init_118 : decode cX2_init 118 = .ok (.bipush 7, 2) := dk_16 7 (dk_at dksX2_init_5 0 rfl rfl)
theorem dX2_init_120 : decode cX2_init 120 = .ok (.newarray .int, 2) := dk_188_10 (dk_at dksX2_init_5 2 rfl rfl)
theorem dX2_init_122 : decode cX2_init 122 = .ok (.putfield 55, 3) := dk_181 0 55 (dk_at dksX2_init_5 4 rfl rfl)
theorem dX2_init_125 : decode cX2_init 125 = .ok (.aload_n 0, 1) := dk_42 (dk_at dksX2_init_5 7 rfl rfl)
theorem dX2_init_126 : decode cX2_init 126 = .ok (.bipush 7, 2) := dk_16 7 (dk_at dksX2_init_5 8 rfl rfl)
theorem dX2_init_128 : decode cX2_init 128 = .ok (.newarray .int, 2) := dk_188_10 (dk_at dksX2_init_5 10 rfl rfl)
theorem dX2_init_130 : decode cX2_init 130 = .ok (.putfield 58, 3) := dk_181 0 58 (dk_at dksX2_init_5 12 rfl rfl)
theorem dX2_init_133 : decode cX2_init 133 = .ok (.aload_n 0, 1) := dk_42 (dk_at dksX2_init_5 15 rfl rfl)
theorem dX2_init_134 : decode cX2_init 134 = .ok (.getfield 7, 3) := dk_180 0 7 (dk_at dksX2_init_5 16 rfl rfl)
theorem dX2_init_137 : decode cX2_init 137 = .ok (.bipush 9, 2) := dk_16 9 (dk_at dksX2_init_5 19 rfl rfl)
theorem dX2_init_139 : decode cX2_init 139 = .ok (.sipush 131, 3) := dk_17 0 131 (dk_at dksX2_init_5 21 rfl rfl)
theorem dX2_init_142 : decode cX2_init 142 = .ok (.iastore, 1) := dk_79 (dk_at dksX2_init_6 0 rfl rfl)
theorem dX2_init_143 : decode cX2_init 143 = .ok (.aload_n 0, 1) := dk_42 (dk_at dksX2_init_6 1 rfl rfl)
theorem dX2_init_144 : decode cX2_init 144 = .ok (.getfield 7, 3) := dk_180 0 7 (dk_at dksX2_init_6 2 rfl rfl)
theorem dX2_init_147 : decode cX2_init 147 = .ok (.iconst 2, 1) := dk_5 (dk_at dksX2_init_6 5 rfl rfl)
theorem dX2_init_148 : decode cX2_init 148 = .ok (.iconst (-1), 1) := dk_2 (dk_at dksX2_init_6 6 rfl rfl)
theorem dX2_init_149 : decode cX2_init 149 = .ok (.iastore, 1) := dk_79 (dk_at dksX2_init_6 7 rfl rfl)
theorem dX2_init_150 : decode cX2_init 150 = .ok (.aload_n 0, 1) := dk_42 (dk_at dksX2_init_6 8 rfl rfl)
theorem dX2_init_151 : decode cX2_init 151 = .ok (.getfield 7, 3) := dk_180 0 7 (dk_at dksX2_init_6 9 rfl rfl)
theorem dX2_init_154 : decode cX2_init 154 = .ok (.aload_n 0, 1) := dk_42 (dk_at dksX2_init_6 12 rfl rfl)
theorem dX2_init_155 : decode cX2_init 155 = .ok (.getfield 13, 3) := dk_180 0 13 (dk_at dksX2_init_6 13 rfl rfl)
theorem dX2_init_158 : decode cX2_init 158 = .ok (.invokestatic 61, 3) := dk_184 0 61 (dk_at dksX2_init_6 16 rfl rfl)
theorem dX2_init_161 : decode cX2_init 161 = .ok (.return_, 1) := dk_177 (dk_at dksX2_init_6 19 rfl rfl)
abbrev cX2_copy : ByteArray := prog_19_method_2_code
def yX2_copy : MethodName := ⟨RX2, "copy", "([I[I)V"⟩
def dkwX2_copy_0 : List UInt8 := [3, 61, 28, 17, 9, 4, 162, 0, 15, 43, 28, 42, 28, 46, 79, 132, 2, 1, 167, 255, 240, 177]
abbrev dktX2_copy_0 : List UInt8 := dkwX2_copy_0 ++ []
theorem dksX2_copy_0 : cX2_copy.data.toList.drop 0 = dktX2_copy_0 := by decide +kernel
theorem dX2_copy_0 : decode cX2_copy 0 = .ok (.iconst 0, 1) := dk_3 (dk_at dksX2_copy_0 0 rfl rfl)
theorem dX2_copy_1 : decode cX2_copy 1 = .ok (.istore_n 2, 1) := dk_61 (dk_at dksX2_copy_0 1 rfl rfl)
theorem dX2_copy_2 : decode cX2_copy 2 = .ok (.iload_n 2, 1) := dk_28 (dk_at dksX2_copy_0 2 rfl rfl)
theorem dX2_copy_3 : decode cX2_copy 3 = .ok (.sipush 2308, 3) := dk_17 9 4 (dk_at dksX2_copy_0 3 rfl rfl)
theorem dX2_copy_6 : decode cX2_copy 6 = .ok (.if_icmp .ge 15, 3) := dk_162 0 15 (dk_at dksX2_copy_0 6 rfl rfl)
theorem dX2_copy_9 : decode cX2_copy 9 = .ok (.aload_n 1, 1) := dk_43 (dk_at dksX2_copy_0 9 rfl rfl)
theorem dX2_copy_10 : decode cX2_copy 10 = .ok (.iload_n 2, 1) := dk_28 (dk_at dksX2_copy_0 10 rfl rfl)
theorem dX2_copy_11 : decode cX2_copy 11 = .ok (.aload_n 0, 1) := dk_42 (dk_at dksX2_copy_0 11 rfl rfl)
theorem dX2_copy_12 : decode cX2_copy 12 = .ok (.iload_n 2, 1) := dk_28 (dk_at dksX2_copy_0 12 rfl rfl)
theorem dX2_copy_13 : decode cX2_copy 13 = .ok (.iaload, 1) := dk_46 (dk_at dksX2_copy_0 13 rfl rfl)
theorem dX2_copy_14 : decode cX2_copy 14 = .ok (.iastore, 1) := dk_79 (dk_at dksX2_copy_0 14 rfl rfl)
theorem dX2_copy_15 : decode cX2_copy 15 = .ok (.iinc 2 1, 3) := dk_132 2 1 (dk_at dksX2_copy_0 15 rfl rfl)
theorem dX2_copy_18 : decode cX2_copy 18 = .ok (.goto (-16), 3) := dk_167 255 240 (dk_at dksX2_copy_0 18 rfl rfl)
theorem dX2_copy_21 : decode cX2_copy 21 = .ok (.return_, 1) := dk_177 (dk_at dksX2_copy_0 21 rfl rfl)
abbrev cX2_house : ByteArray := prog_19_method_13_code
def yX2_house : MethodName := ⟨RX2, "house", "(IIIII)I"⟩
def dkwX2_house_7 : List UInt8 := [42, 180, 0, 7, 3, 92, 46, 4, 96, 79, 21, 6, 172]
abbrev dktX2_house_7 : List UInt8 := dkwX2_house_7 ++ []
def dkwX2_house_6 : List UInt8 := [21, 6, 8, 21, 4, 182, 0, 84, 42, 21, 6, 16, 6, 21, 5, 182, 0, 84, 42, 21, 6, 182, 0, 88]
abbrev dktX2_house_6 : List UInt8 := dkwX2_house_6 ++ dktX2_house_7
def dkwX2_house_5 : List UInt8 := [167, 0, 6, 4, 28, 120, 128, 29, 156, 0, 7, 3, 167, 0, 6, 4, 29, 120, 128, 182, 0, 84, 42]
abbrev dktX2_house_5 : List UInt8 := dkwX2_house_5 ++ dktX2_house_6
def dkwX2_house_4 : List UInt8 := [46, 54, 6, 42, 21, 6, 7, 27, 156, 0, 7, 3, 167, 0, 6, 4, 27, 120, 28, 156, 0, 7, 3]
abbrev dktX2_house_4 : List UInt8 := dkwX2_house_4 ++ dktX2_house_5
def dkwX2_house_3 : List UInt8 := [184, 0, 65, 153, 0, 14, 42, 180, 0, 7, 3, 46, 16, 7, 160, 0, 5, 2, 172, 42, 180, 0, 7, 3]
abbrev dktX2_house_3 : List UInt8 := dkwX2_house_3 ++ dktX2_house_4
def dkwX2_house_2 : List UInt8 := [28, 29, 160, 0, 5, 2, 172, 21, 4, 3, 17, 39, 15, 184, 0, 65, 153, 0, 25, 21, 5, 3, 16, 99]
abbrev dktX2_house_2 : List UInt8 := dkwX2_house_2 ++ dktX2_house_3
def dkwX2_house_1 : List UInt8 := [184, 0, 65, 153, 0, 26, 27, 155, 0, 13, 27, 28, 159, 0, 17, 27, 29, 159, 0, 12, 28, 155, 0, 10]
abbrev dktX2_house_1 : List UInt8 := dkwX2_house_1 ++ dktX2_house_2
def dkwX2_house_0 : List UInt8 := [27, 2, 16, 19, 184, 0, 65, 153, 0, 46, 28, 2, 16, 19, 184, 0, 65, 153, 0, 36, 29, 2, 16, 19]
abbrev dktX2_house_0 : List UInt8 := dkwX2_house_0 ++ dktX2_house_1
theorem dksX2_house_0 : cX2_house.data.toList.drop 0 = dktX2_house_0 := by decide +kernel
theorem dksX2_house_1 : cX2_house.data.toList.drop 24 = dktX2_house_1 := dk_seg dksX2_house_0 24 rfl rfl
theorem dksX2_house_2 : cX2_house.data.toList.drop 48 = dktX2_house_2 := dk_seg dksX2_house_1 24 rfl rfl
theorem dksX2_house_3 : cX2_house.data.toList.drop 72 = dktX2_house_3 := dk_seg dksX2_house_2 24 rfl rfl
theorem dksX2_house_4 : cX2_house.data.toList.drop 96 = dktX2_house_4 := dk_seg dksX2_house_3 24 rfl rfl
theorem dksX2_house_5 : cX2_house.data.toList.drop 119 = dktX2_house_5 := dk_seg dksX2_house_4 23 rfl rfl
theorem dksX2_house_6 : cX2_house.data.toList.drop 142 = dktX2_house_6 := dk_seg dksX2_house_5 23 rfl rfl
theorem dksX2_house_7 : cX2_house.data.toList.drop 166 = dktX2_house_7 := dk_seg dksX2_house_6 24 rfl rfl
theorem dX2_house_0 : decode cX2_house 0 = .ok (.iload_n 1, 1) := dk_27 (dk_at dksX2_house_0 0 rfl rfl)
theorem dX2_house_1 : decode cX2_house 1 = .ok (.iconst (-1), 1) := dk_2 (dk_at dksX2_house_0 1 rfl rfl)
theorem dX2_house_2 : decode cX2_house 2 = .ok (.bipush 19, 2) := dk_16 19 (dk_at dksX2_house_0 2 rfl rfl)
theorem dX2_house_4 : decode cX2_house 4 = .ok (.invokestatic 65, 3) := dk_184 0 65 (dk_at dksX2_house_0 4 rfl rfl)
theorem dX2_house_7 : decode cX2_house 7 = .ok (.ifCond .eq 46, 3) := dk_153 0 46 (dk_at dksX2_house_0 7 rfl rfl)
theorem dX2_house_10 : decode cX2_house 10 = .ok (.iload_n 2, 1) := dk_28 (dk_at dksX2_house_0 10 rfl rfl)
theorem dX2_house_11 : decode cX2_house 11 = .ok (.iconst (-1), 1) := dk_2 (dk_at dksX2_house_0 11 rfl rfl)
theorem dX2_house_12 : decode cX2_house 12 = .ok (.bipush 19, 2) := dk_16 19 (dk_at dksX2_house_0 12 rfl rfl)
theorem dX2_house_14 : decode cX2_house 14 = .ok (.invokestatic 65, 3) := dk_184 0 65 (dk_at dksX2_house_0 14 rfl rfl)
theorem dX2_house_17 : decode cX2_house 17 = .ok (.ifCond .eq 36, 3) := dk_153 0 36 (dk_at dksX2_house_0 17 rfl rfl)
theorem dX2_house_20 : decode cX2_house 20 = .ok (.iload_n 3, 1) := dk_29 (dk_at dksX2_house_0 20 rfl rfl)
theorem dX2_house_21 : decode cX2_house 21 = .ok (.iconst (-1), 1) := dk_2 (dk_at dksX2_house_0 21 rfl rfl)
theorem dX2_house_22 : decode cX2_house 22 = .ok (.bipush 19, 2) := dk_16 19 (dk_at dksX2_house_0 22 rfl rfl)
theorem dX2_house_24 : decode cX2_house 24 = .ok (.invokestatic 65, 3) := dk_184 0 65 (dk_at dksX2_house_1 0 rfl rfl)
theorem dX2_house_27 : decode cX2_house 27 = .ok (.ifCond .eq 26, 3) := dk_153 0 26 (dk_at dksX2_house_1 3 rfl rfl)
theorem dX2_house_30 : decode cX2_house 30 = .ok (.iload_n 1, 1) := dk_27 (dk_at dksX2_house_1 6 rfl rfl)
theorem dX2_house_31 : decode cX2_house 31 = .ok (.ifCond .lt 13, 3) := dk_155 0 13 (dk_at dksX2_house_1 7 rfl rfl)
theorem dX2_house_34 : decode cX2_house 34 = .ok (.iload_n 1, 1) := dk_27 (dk_at dksX2_house_1 10 rfl rfl)
theorem dX2_house_35 : decode cX2_house 35 = .ok (.iload_n 2, 1) := dk_28 (dk_at dksX2_house_1 11 rfl rfl)
theorem dX2_house_36 : decode cX2_house 36 = .ok (.if_icmp .eq 17, 3) := dk_159 0 17 (dk_at dksX2_house_1 12 rfl rfl)
theorem dX2_house_39 : decode cX2_house 39 = .ok (.iload_n 1, 1) := dk_27 (dk_at dksX2_house_1 15 rfl rfl)
theorem dX2_house_40 : decode cX2_house 40 = .ok (.iload_n 3, 1) := dk_29 (dk_at dksX2_house_1 16 rfl rfl)
theorem dX2_house_41 : decode cX2_house 41 = .ok (.if_icmp .eq 12, 3) := dk_159 0 12 (dk_at dksX2_house_1 17 rfl rfl)
theorem dX2_house_44 : decode cX2_house 44 = .ok (.iload_n 2, 1) := dk_28 (dk_at dksX2_house_1 20 rfl rfl)
theorem dX2_house_45 : decode cX2_house 45 = .ok (.ifCond .lt 10, 3) := dk_155 0 10 (dk_at dksX2_house_1 21 rfl rfl)
theorem dX2_house_48 : decode cX2_house 48 = .ok (.iload_n 2, 1) := dk_28 (dk_at dksX2_house_2 0 rfl rfl)
theorem dX2_house_49 : decode cX2_house 49 = .ok (.iload_n 3, 1) := dk_29 (dk_at dksX2_house_2 1 rfl rfl)
theorem dX2_house_50 : decode cX2_house 50 = .ok (.if_icmp .ne 5, 3) := dk_160 0 5 (dk_at dksX2_house_2 2 rfl rfl)
theorem dX2_house_53 : decode cX2_house 53 = .ok (.iconst (-1), 1) := dk_2 (dk_at dksX2_house_2 5 rfl rfl)
theorem dX2_house_54 : decode cX2_house 54 = .ok (.ireturn, 1) := dk_172 (dk_at dksX2_house_2 6 rfl rfl)
theorem dX2_house_55 : decode cX2_house 55 = .ok (.iload 4, 2) := dk_21 4 (dk_at dksX2_house_2 7 rfl rfl)
theorem dX2_house_57 : decode cX2_house 57 = .ok (.iconst 0, 1) := dk_3 (dk_at dksX2_house_2 9 rfl rfl)
theorem dX2_house_58 : decode cX2_house 58 = .ok (.sipush 9999, 3) := dk_17 39 15 (dk_at dksX2_house_2 10 rfl rfl)
theorem dX2_house_61 : decode cX2_house 61 = .ok (.invokestatic 65, 3) := dk_184 0 65 (dk_at dksX2_house_2 13 rfl rfl)
theorem dX2_house_64 : decode cX2_house 64 = .ok (.ifCond .eq 25, 3) := dk_153 0 25 (dk_at dksX2_house_2 16 rfl rfl)
theorem dX2_house_67 : decode cX2_house 67 = .ok (.iload 5, 2) := dk_21 5 (dk_at dksX2_house_2 19 rfl rfl)
theorem dX2_house_69 : decode cX2_house 69 = .ok (.iconst 0, 1) := dk_3 (dk_at dksX2_house_2 21 rfl rfl)
theorem dX2_house_70 : decode cX2_house 70 = .ok (.bipush 99, 2) := dk_16 99 (dk_at dksX2_house_2 22 rfl rfl)
theorem dX2_house_72 : decode cX2_house 72 = .ok (.invokestatic 65, 3) := dk_184 0 65 (dk_at dksX2_house_3 0 rfl rfl)
theorem dX2_house_75 : decode cX2_house 75 = .ok (.ifCond .eq 14, 3) := dk_153 0 14 (dk_at dksX2_house_3 3 rfl rfl)
theorem dX2_house_78 : decode cX2_house 78 = .ok (.aload_n 0, 1) := dk_42 (dk_at dksX2_house_3 6 rfl rfl)
theorem dX2_house_79 : decode cX2_house 79 = .ok (.getfield 7, 3) := dk_180 0 7 (dk_at dksX2_house_3 7 rfl rfl)
theorem dX2_house_82 : decode cX2_house 82 = .ok (.iconst 0, 1) := dk_3 (dk_at dksX2_house_3 10 rfl rfl)
theorem dX2_house_83 : decode cX2_house 83 = .ok (.iaload, 1) := dk_46 (dk_at dksX2_house_3 11 rfl rfl)
theorem dX2_house_84 : decode cX2_house 84 = .ok (.bipush 7, 2) := dk_16 7 (dk_at dksX2_house_3 12 rfl rfl)
theorem dX2_house_86 : decode cX2_house 86 = .ok (.if_icmp .ne 5, 3) := dk_160 0 5 (dk_at dksX2_house_3 14 rfl rfl)
theorem dX2_house_89 : decode cX2_house 89 = .ok (.iconst (-1), 1) := dk_2 (dk_at dksX2_house_3 17 rfl rfl)
theorem dX2_house_90 : decode cX2_house 90 = .ok (.ireturn, 1) := dk_172 (dk_at dksX2_house_3 18 rfl rfl)
theorem dX2_house_91 : decode cX2_house 91 = .ok (.aload_n 0, 1) := dk_42 (dk_at dksX2_house_3 19 rfl rfl)
theorem dX2_house_92 : decode cX2_house 92 = .ok (.getfield 7, 3) := dk_180 0 7 (dk_at dksX2_house_3 20 rfl rfl)
theorem dX2_house_95 : decode cX2_house 95 = .ok (.iconst 0, 1) := dk_3 (dk_at dksX2_house_3 23 rfl rfl)
theorem dX2_house_96 : decode cX2_house 96 = .ok (.iaload, 1) := dk_46 (dk_at dksX2_house_4 0 rfl rfl)
theorem dX2_house_97 : decode cX2_house 97 = .ok (.istore 6, 2) := dk_54 6 (dk_at dksX2_house_4 1 rfl rfl)
theorem dX2_house_99 : decode cX2_house 99 = .ok (.aload_n 0, 1) := dk_42 (dk_at dksX2_house_4 3 rfl rfl)
theorem dX2_house_100 : decode cX2_house 100 = .ok (.iload 6, 2) := dk_21 6 (dk_at dksX2_house_4 4 rfl rfl)
theorem dX2_house_102 : decode cX2_house 102 = .ok (.iconst 4, 1) := dk_7 (dk_at dksX2_house_4 6 rfl rfl)
theorem dX2_house_103 : decode cX2_house 103 = .ok (.iload_n 1, 1) := dk_27 (dk_at dksX2_house_4 7 rfl rfl)
theorem dX2_house_104 : decode cX2_house 104 = .ok (.ifCond .ge 7, 3) := dk_156 0 7 (dk_at dksX2_house_4 8 rfl rfl)
theorem dX2_house_107 : decode cX2_house 107 = .ok (.iconst 0, 1) := dk_3 (dk_at dksX2_house_4 11 rfl rfl)
theorem dX2_house_108 : decode cX2_house 108 = .ok (.goto 6, 3) := dk_167 0 6 (dk_at dksX2_house_4 12 rfl rfl)
theorem dX2_house_111 : decode cX2_house 111 = .ok (.iconst 1, 1) := dk_4 (dk_at dksX2_house_4 15 rfl rfl)
theorem dX2_house_112 : decode cX2_house 112 = .ok (.iload_n 1, 1) := dk_27 (dk_at dksX2_house_4 16 rfl rfl)
theorem dX2_house_113 : decode cX2_house 113 = .ok (.ishl, 1) := dk_120 (dk_at dksX2_house_4 17 rfl rfl)
theorem dX2_house_114 : decode cX2_house 114 = .ok (.iload_n 2, 1) := dk_28 (dk_at dksX2_house_4 18 rfl rfl)
theorem dX2_house_115 : decode cX2_house 115 = .ok (.ifCond .ge 7, 3) := dk_156 0 7 (dk_at dksX2_house_4 19 rfl rfl)
theorem dX2_house_118 : decode cX2_house 118 = .ok (.iconst 0, 1) := dk_3 (dk_at dksX2_house_4 22 rfl rfl)
theorem dX2_house_119 : decode cX2_house 119 = .ok (.goto 6, 3) := dk_167 0 6 (dk_at dksX2_house_5 0 rfl rfl)
theorem dX2_house_122 : decode cX2_house 122 = .ok (.iconst 1, 1) := dk_4 (dk_at dksX2_house_5 3 rfl rfl)
theorem dX2_house_123 : decode cX2_house 123 = .ok (.iload_n 2, 1) := dk_28 (dk_at dksX2_house_5 4 rfl rfl)
theorem dX2_house_124 : decode cX2_house 124 = .ok (.ishl, 1) := dk_120 (dk_at dksX2_house_5 5 rfl rfl)
theorem dX2_house_125 : decode cX2_house 125 = .ok (.ior, 1) := dk_128 (dk_at dksX2_house_5 6 rfl rfl)
theorem dX2_house_126 : decode cX2_house 126 = .ok (.iload_n 3, 1) := dk_29 (dk_at dksX2_house_5 7 rfl rfl)
theorem dX2_house_127 : decode cX2_house 127 = .ok (.ifCond .ge 7, 3) := dk_156 0 7 (dk_at dksX2_house_5 8 rfl rfl)
theorem dX2_house_130 : decode cX2_house 130 = .ok (.iconst 0, 1) := dk_3 (dk_at dksX2_house_5 11 rfl rfl)
theorem dX2_house_131 : decode cX2_house 131 = .ok (.goto 6, 3) := dk_167 0 6 (dk_at dksX2_house_5 12 rfl rfl)
theorem dX2_house_134 : decode cX2_house 134 = .ok (.iconst 1, 1) := dk_4 (dk_at dksX2_house_5 15 rfl rfl)
theorem dX2_house_135 : decode cX2_house 135 = .ok (.iload_n 3, 1) := dk_29 (dk_at dksX2_house_5 16 rfl rfl)
theorem dX2_house_136 : decode cX2_house 136 = .ok (.ishl, 1) := dk_120 (dk_at dksX2_house_5 17 rfl rfl)
theorem dX2_house_137 : decode cX2_house 137 = .ok (.ior, 1) := dk_128 (dk_at dksX2_house_5 18 rfl rfl)
theorem dX2_house_138 : decode cX2_house 138 = .ok (.invokevirtual 84, 3) := dk_182 0 84 (dk_at dksX2_house_5 19 rfl rfl)
theorem dX2_house_141 : decode cX2_house 141 = .ok (.aload_n 0, 1) := dk_42 (dk_at dksX2_house_5 22 rfl rfl)
theorem dX2_house_142 : decode cX2_house 142 = .ok (.iload 6, 2) := dk_21 6 (dk_at dksX2_house_6 0 rfl rfl)
theorem dX2_house_144 : decode cX2_house 144 = .ok (.iconst 5, 1) := dk_8 (dk_at dksX2_house_6 2 rfl rfl)
theorem dX2_house_145 : decode cX2_house 145 = .ok (.iload 4, 2) := dk_21 4 (dk_at dksX2_house_6 3 rfl rfl)
theorem dX2_house_147 : decode cX2_house 147 = .ok (.invokevirtual 84, 3) := dk_182 0 84 (dk_at dksX2_house_6 5 rfl rfl)
theorem dX2_house_150 : decode cX2_house 150 = .ok (.aload_n 0, 1) := dk_42 (dk_at dksX2_house_6 8 rfl rfl)
theorem dX2_house_151 : decode cX2_house 151 = .ok (.iload 6, 2) := dk_21 6 (dk_at dksX2_house_6 9 rfl rfl)
theorem dX2_house_153 : decode cX2_house 153 = .ok (.bipush 6, 2) := dk_16 6 (dk_at dksX2_house_6 11 rfl rfl)
theorem dX2_house_155 : decode cX2_house 155 = .ok (.iload 5, 2) := dk_21 5 (dk_at dksX2_house_6 13 rfl rfl)
theorem dX2_house_157 : decode cX2_house 157 = .ok (.invokevirtual 84, 3) := dk_182 0 84 (dk_at dksX2_house_6 15 rfl rfl)
theorem dX2_house_160 : decode cX2_house 160 = .ok (.aload_n 0, 1) := dk_42 (dk_at dksX2_house_6 18 rfl rfl)
theorem dX2_house_161 : decode cX2_house 161 = .ok (.iload 6, 2) := dk_21 6 (dk_at dksX2_house_6 19 rfl rfl)
theorem dX2_house_163 : decode cX2_house 163 = .ok (.invokevirtual 88, 3) := dk_182 0 88 (dk_at dksX2_house_6 21 rfl rfl)
theorem dX2_house_166 : decode cX2_house 166 = .ok (.aload_n 0, 1) := dk_42 (dk_at dksX2_house_7 0 rfl rfl)
theorem dX2_house_167 : decode cX2_house 167 = .ok (.getfield 7, 3) := dk_180 0 7 (dk_at dksX2_house_7 1 rfl rfl)
theorem dX2_house_170 : decode cX2_house 170 = .ok (.iconst 0, 1) := dk_3 (dk_at dksX2_house_7 4 rfl rfl)
theorem dX2_house_171 : decode cX2_house 171 = .ok (.dup2, 1) := dk_92 (dk_at dksX2_house_7 5 rfl rfl)
theorem dX2_house_172 : decode cX2_house 172 = .ok (.iaload, 1) := dk_46 (dk_at dksX2_house_7 6 rfl rfl)
theorem dX2_house_173 : decode cX2_house 173 = .ok (.iconst 1, 1) := dk_4 (dk_at dksX2_house_7 7 rfl rfl)
theorem dX2_house_174 : decode cX2_house 174 = .ok (.iadd, 1) := dk_96 (dk_at dksX2_house_7 8 rfl rfl)
theorem dX2_house_175 : decode cX2_house 175 = .ok (.iastore, 1) := dk_79 (dk_at dksX2_house_7 9 rfl rfl)
theorem dX2_house_176 : decode cX2_house 176 = .ok (.iload 6, 2) := dk_21 6 (dk_at dksX2_house_7 10 rfl rfl)
theorem dX2_house_178 : decode cX2_house 178 = .ok (.ireturn, 1) := dk_172 (dk_at dksX2_house_7 12 rfl rfl)
abbrev cX2_isIn : ByteArray := prog_19_method_3_code
def yX2_isIn : MethodName := ⟨RX2, "isIn", "(III)Z"⟩
def dkwX2_isIn_0 : List UInt8 := [26, 27, 161, 0, 12, 26, 28, 163, 0, 7, 4, 167, 0, 4, 3, 172]
abbrev dktX2_isIn_0 : List UInt8 := dkwX2_isIn_0 ++ []
theorem dksX2_isIn_0 : cX2_isIn.data.toList.drop 0 = dktX2_isIn_0 := by decide +kernel
theorem dX2_isIn_0 : decode cX2_isIn 0 = .ok (.iload_n 0, 1) := dk_26 (dk_at dksX2_isIn_0 0 rfl rfl)
theorem dX2_isIn_1 : decode cX2_isIn 1 = .ok (.iload_n 1, 1) := dk_27 (dk_at dksX2_isIn_0 1 rfl rfl)
theorem dX2_isIn_2 : decode cX2_isIn 2 = .ok (.if_icmp .lt 12, 3) := dk_161 0 12 (dk_at dksX2_isIn_0 2 rfl rfl)
theorem dX2_isIn_5 : decode cX2_isIn 5 = .ok (.iload_n 0, 1) := dk_26 (dk_at dksX2_isIn_0 5 rfl rfl)
theorem dX2_isIn_6 : decode cX2_isIn 6 = .ok (.iload_n 2, 1) := dk_28 (dk_at dksX2_isIn_0 6 rfl rfl)
theorem dX2_isIn_7 : decode cX2_isIn 7 = .ok (.if_icmp .gt 7, 3) := dk_163 0 7 (dk_at dksX2_isIn_0 7 rfl rfl)
theorem dX2_isIn_10 : decode cX2_isIn 10 = .ok (.iconst 1, 1) := dk_4 (dk_at dksX2_isIn_0 10 rfl rfl)
theorem dX2_isIn_11 : decode cX2_isIn 11 = .ok (.goto 4, 3) := dk_167 0 4 (dk_at dksX2_isIn_0 11 rfl rfl)
theorem dX2_isIn_14 : decode cX2_isIn 14 = .ok (.iconst 0, 1) := dk_3 (dk_at dksX2_isIn_0 14 rfl rfl)
theorem dX2_isIn_15 : decode cX2_isIn 15 = .ok (.ireturn, 1) := dk_172 (dk_at dksX2_isIn_0 15 rfl rfl)
abbrev cX2_put : ByteArray := prog_19_method_9_code
def yX2_put : MethodName := ⟨RX2, "put", "(III)V"⟩
def dkwX2_put_0 : List UInt8 := [42, 180, 0, 7, 16, 12, 16, 8, 27, 104, 96, 28, 96, 29, 79, 177]
abbrev dktX2_put_0 : List UInt8 := dkwX2_put_0 ++ []
theorem dksX2_put_0 : cX2_put.data.toList.drop 0 = dktX2_put_0 := by decide +kernel
theorem dX2_put_0 : decode cX2_put 0 = .ok (.aload_n 0, 1) := dk_42 (dk_at dksX2_put_0 0 rfl rfl)
theorem dX2_put_1 : decode cX2_put 1 = .ok (.getfield 7, 3) := dk_180 0 7 (dk_at dksX2_put_0 1 rfl rfl)
theorem dX2_put_4 : decode cX2_put 4 = .ok (.bipush 12, 2) := dk_16 12 (dk_at dksX2_put_0 4 rfl rfl)
theorem dX2_put_6 : decode cX2_put 6 = .ok (.bipush 8, 2) := dk_16 8 (dk_at dksX2_put_0 6 rfl rfl)
theorem dX2_put_8 : decode cX2_put 8 = .ok (.iload_n 1, 1) := dk_27 (dk_at dksX2_put_0 8 rfl rfl)
theorem dX2_put_9 : decode cX2_put 9 = .ok (.imul, 1) := dk_104 (dk_at dksX2_put_0 9 rfl rfl)
theorem dX2_put_10 : decode cX2_put 10 = .ok (.iadd, 1) := dk_96 (dk_at dksX2_put_0 10 rfl rfl)
theorem dX2_put_11 : decode cX2_put 11 = .ok (.iload_n 2, 1) := dk_28 (dk_at dksX2_put_0 11 rfl rfl)
theorem dX2_put_12 : decode cX2_put 12 = .ok (.iadd, 1) := dk_96 (dk_at dksX2_put_0 12 rfl rfl)
theorem dX2_put_13 : decode cX2_put 13 = .ok (.iload_n 3, 1) := dk_29 (dk_at dksX2_put_0 13 rfl rfl)
theorem dX2_put_14 : decode cX2_put 14 = .ok (.iastore, 1) := dk_79 (dk_at dksX2_put_0 14 rfl rfl)
theorem dX2_put_15 : decode cX2_put 15 = .ok (.return_, 1) := dk_177 (dk_at dksX2_put_0 15 rfl rfl)
abbrev cX2_begin : ByteArray := prog_19_method_14_code
def yX2_begin : MethodName := ⟨RX2, "begin", "(I)V"⟩
def dkwX2_begin_1 : List UInt8 := [167, 255, 234, 42, 27, 6, 3, 182, 0, 84, 177]
abbrev dktX2_begin_1 : List UInt8 := dkwX2_begin_1 ++ []
def dkwX2_begin_0 : List UInt8 := [3, 61, 28, 6, 162, 0, 23, 42, 27, 28, 42, 27, 7, 28, 96, 182, 0, 73, 182, 0, 84, 132, 2, 1]
abbrev dktX2_begin_0 : List UInt8 := dkwX2_begin_0 ++ dktX2_begin_1
theorem dksX2_begin_0 : cX2_begin.data.toList.drop 0 = dktX2_begin_0 := by decide +kernel
theorem dksX2_begin_1 : cX2_begin.data.toList.drop 24 = dktX2_begin_1 := dk_seg dksX2_begin_0 24 rfl rfl
theorem dX2_begin_0 : decode cX2_begin 0 = .ok (.iconst 0, 1) := dk_3 (dk_at dksX2_begin_0 0 rfl rfl)
theorem dX2_begin_1 : decode cX2_begin 1 = .ok (.istore_n 2, 1) := dk_61 (dk_at dksX2_begin_0 1 rfl rfl)
theorem dX2_begin_2 : decode cX2_begin 2 = .ok (.iload_n 2, 1) := dk_28 (dk_at dksX2_begin_0 2 rfl rfl)
theorem dX2_begin_3 : decode cX2_begin 3 = .ok (.iconst 3, 1) := dk_6 (dk_at dksX2_begin_0 3 rfl rfl)
theorem dX2_begin_4 : decode cX2_begin 4 = .ok (.if_icmp .ge 23, 3) := dk_162 0 23 (dk_at dksX2_begin_0 4 rfl rfl)
theorem dX2_begin_7 : decode cX2_begin 7 = .ok (.aload_n 0, 1) := dk_42 (dk_at dksX2_begin_0 7 rfl rfl)
theorem dX2_begin_8 : decode cX2_begin 8 = .ok (.iload_n 1, 1) := dk_27 (dk_at dksX2_begin_0 8 rfl rfl)
theorem dX2_begin_9 : decode cX2_begin 9 = .ok (.iload_n 2, 1) := dk_28 (dk_at dksX2_begin_0 9 rfl rfl)
theorem dX2_begin_10 : decode cX2_begin 10 = .ok (.aload_n 0, 1) := dk_42 (dk_at dksX2_begin_0 10 rfl rfl)
theorem dX2_begin_11 : decode cX2_begin 11 = .ok (.iload_n 1, 1) := dk_27 (dk_at dksX2_begin_0 11 rfl rfl)
theorem dX2_begin_12 : decode cX2_begin 12 = .ok (.iconst 4, 1) := dk_7 (dk_at dksX2_begin_0 12 rfl rfl)
theorem dX2_begin_13 : decode cX2_begin 13 = .ok (.iload_n 2, 1) := dk_28 (dk_at dksX2_begin_0 13 rfl rfl)
theorem dX2_begin_14 : decode cX2_begin 14 = .ok (.iadd, 1) := dk_96 (dk_at dksX2_begin_0 14 rfl rfl)
theorem dX2_begin_15 : decode cX2_begin 15 = .ok (.invokevirtual 73, 3) := dk_182 0 73 (dk_at dksX2_begin_0 15 rfl rfl)
theorem dX2_begin_18 : decode cX2_begin 18 = .ok (.invokevirtual 84, 3) := dk_182 0 84 (dk_at dksX2_begin_0 18 rfl rfl)
theorem dX2_begin_21 : decode cX2_begin 21 = .ok (.iinc 2 1, 3) := dk_132 2 1 (dk_at dksX2_begin_0 21 rfl rfl)
theorem dX2_begin_24 : decode cX2_begin 24 = .ok (.goto (-22), 3) := dk_167 255 234 (dk_at dksX2_begin_1 0 rfl rfl)
theorem dX2_begin_27 : decode cX2_begin 27 = .ok (.aload_n 0, 1) := dk_42 (dk_at dksX2_begin_1 3 rfl rfl)
theorem dX2_begin_28 : decode cX2_begin 28 = .ok (.iload_n 1, 1) := dk_27 (dk_at dksX2_begin_1 4 rfl rfl)
theorem dX2_begin_29 : decode cX2_begin 29 = .ok (.iconst 3, 1) := dk_6 (dk_at dksX2_begin_1 5 rfl rfl)
theorem dX2_begin_30 : decode cX2_begin 30 = .ok (.iconst 0, 1) := dk_3 (dk_at dksX2_begin_1 6 rfl rfl)
theorem dX2_begin_31 : decode cX2_begin 31 = .ok (.invokevirtual 84, 3) := dk_182 0 84 (dk_at dksX2_begin_1 7 rfl rfl)
theorem dX2_begin_34 : decode cX2_begin 34 = .ok (.return_, 1) := dk_177 (dk_at dksX2_begin_1 10 rfl rfl)
abbrev cX2_get : ByteArray := prog_19_method_8_code
def yX2_get : MethodName := ⟨RX2, "get", "(II)I"⟩
def dkwX2_get_0 : List UInt8 := [42, 180, 0, 7, 16, 12, 16, 8, 27, 104, 96, 28, 96, 46, 172]
abbrev dktX2_get_0 : List UInt8 := dkwX2_get_0 ++ []
theorem dksX2_get_0 : cX2_get.data.toList.drop 0 = dktX2_get_0 := by decide +kernel
theorem dX2_get_0 : decode cX2_get 0 = .ok (.aload_n 0, 1) := dk_42 (dk_at dksX2_get_0 0 rfl rfl)
theorem dX2_get_1 : decode cX2_get 1 = .ok (.getfield 7, 3) := dk_180 0 7 (dk_at dksX2_get_0 1 rfl rfl)
theorem dX2_get_4 : decode cX2_get 4 = .ok (.bipush 12, 2) := dk_16 12 (dk_at dksX2_get_0 4 rfl rfl)
theorem dX2_get_6 : decode cX2_get 6 = .ok (.bipush 8, 2) := dk_16 8 (dk_at dksX2_get_0 6 rfl rfl)
theorem dX2_get_8 : decode cX2_get 8 = .ok (.iload_n 1, 1) := dk_27 (dk_at dksX2_get_0 8 rfl rfl)
theorem dX2_get_9 : decode cX2_get 9 = .ok (.imul, 1) := dk_104 (dk_at dksX2_get_0 9 rfl rfl)
theorem dX2_get_10 : decode cX2_get 10 = .ok (.iadd, 1) := dk_96 (dk_at dksX2_get_0 10 rfl rfl)
theorem dX2_get_11 : decode cX2_get 11 = .ok (.iload_n 2, 1) := dk_28 (dk_at dksX2_get_0 11 rfl rfl)
theorem dX2_get_12 : decode cX2_get 12 = .ok (.iadd, 1) := dk_96 (dk_at dksX2_get_0 12 rfl rfl)
theorem dX2_get_13 : decode cX2_get 13 = .ok (.iaload, 1) := dk_46 (dk_at dksX2_get_0 13 rfl rfl)
theorem dX2_get_14 : decode cX2_get 14 = .ok (.ireturn, 1) := dk_172 (dk_at dksX2_get_0 14 rfl rfl)
abbrev cX2_feed : ByteArray := prog_19_method_16_code
def yX2_feed : MethodName := ⟨RX2, "feed", "(IIIII)I"⟩
def dkwX2_feed_2 : List UInt8 := [172]
abbrev dktX2_feed_2 : List UInt8 := dkwX2_feed_2 ++ []
def dkwX2_feed_1 : List UInt8 := [182, 0, 95, 42, 29, 182, 0, 95, 42, 21, 4, 182, 0, 95, 42, 21, 5, 182, 0, 95, 42, 180, 0, 92]
abbrev dktX2_feed_1 : List UInt8 := dkwX2_feed_1 ++ dktX2_feed_2
def dkwX2_feed_0 : List UInt8 := [42, 180, 0, 92, 16, 20, 96, 17, 1, 44, 164, 0, 5, 2, 172, 42, 27, 182, 0, 95, 42, 28]
abbrev dktX2_feed_0 : List UInt8 := dkwX2_feed_0 ++ dktX2_feed_1
theorem dksX2_feed_0 : cX2_feed.data.toList.drop 0 = dktX2_feed_0 := by decide +kernel
theorem dksX2_feed_1 : cX2_feed.data.toList.drop 22 = dktX2_feed_1 := dk_seg dksX2_feed_0 22 rfl rfl
theorem dksX2_feed_2 : cX2_feed.data.toList.drop 46 = dktX2_feed_2 := dk_seg dksX2_feed_1 24 rfl rfl
theorem dX2_feed_0 : decode cX2_feed 0 = .ok (.aload_n 0, 1) := dk_42 (dk_at dksX2_feed_0 0 rfl rfl)
theorem dX2_feed_1 : decode cX2_feed 1 = .ok (.getfield 92, 3) := dk_180 0 92 (dk_at dksX2_feed_0 1 rfl rfl)
theorem dX2_feed_4 : decode cX2_feed 4 = .ok (.bipush 20, 2) := dk_16 20 (dk_at dksX2_feed_0 4 rfl rfl)
theorem dX2_feed_6 : decode cX2_feed 6 = .ok (.iadd, 1) := dk_96 (dk_at dksX2_feed_0 6 rfl rfl)
theorem dX2_feed_7 : decode cX2_feed 7 = .ok (.sipush 300, 3) := dk_17 1 44 (dk_at dksX2_feed_0 7 rfl rfl)
theorem dX2_feed_10 : decode cX2_feed 10 = .ok (.if_icmp .le 5, 3) := dk_164 0 5 (dk_at dksX2_feed_0 10 rfl rfl)
theorem dX2_feed_13 : decode cX2_feed 13 = .ok (.iconst (-1), 1) := dk_2 (dk_at dksX2_feed_0 13 rfl rfl)
theorem dX2_feed_14 : decode cX2_feed 14 = .ok (.ireturn, 1) := dk_172 (dk_at dksX2_feed_0 14 rfl rfl)
theorem dX2_feed_15 : decode cX2_feed 15 = .ok (.aload_n 0, 1) := dk_42 (dk_at dksX2_feed_0 15 rfl rfl)
theorem dX2_feed_16 : decode cX2_feed 16 = .ok (.iload_n 1, 1) := dk_27 (dk_at dksX2_feed_0 16 rfl rfl)
theorem dX2_feed_17 : decode cX2_feed 17 = .ok (.invokevirtual 95, 3) := dk_182 0 95 (dk_at dksX2_feed_0 17 rfl rfl)
theorem dX2_feed_20 : decode cX2_feed 20 = .ok (.aload_n 0, 1) := dk_42 (dk_at dksX2_feed_0 20 rfl rfl)
theorem dX2_feed_21 : decode cX2_feed 21 = .ok (.iload_n 2, 1) := dk_28 (dk_at dksX2_feed_0 21 rfl rfl)
theorem dX2_feed_22 : decode cX2_feed 22 = .ok (.invokevirtual 95, 3) := dk_182 0 95 (dk_at dksX2_feed_1 0 rfl rfl)
theorem dX2_feed_25 : decode cX2_feed 25 = .ok (.aload_n 0, 1) := dk_42 (dk_at dksX2_feed_1 3 rfl rfl)
theorem dX2_feed_26 : decode cX2_feed 26 = .ok (.iload_n 3, 1) := dk_29 (dk_at dksX2_feed_1 4 rfl rfl)
theorem dX2_feed_27 : decode cX2_feed 27 = .ok (.invokevirtual 95, 3) := dk_182 0 95 (dk_at dksX2_feed_1 5 rfl rfl)
theorem dX2_feed_30 : decode cX2_feed 30 = .ok (.aload_n 0, 1) := dk_42 (dk_at dksX2_feed_1 8 rfl rfl)
theorem dX2_feed_31 : decode cX2_feed 31 = .ok (.iload 4, 2) := dk_21 4 (dk_at dksX2_feed_1 9 rfl rfl)
theorem dX2_feed_33 : decode cX2_feed 33 = .ok (.invokevirtual 95, 3) := dk_182 0 95 (dk_at dksX2_feed_1 11 rfl rfl)
theorem dX2_feed_36 : decode cX2_feed 36 = .ok (.aload_n 0, 1) := dk_42 (dk_at dksX2_feed_1 14 rfl rfl)
theorem dX2_feed_37 : decode cX2_feed 37 = .ok (.iload 5, 2) := dk_21 5 (dk_at dksX2_feed_1 15 rfl rfl)
theorem dX2_feed_39 : decode cX2_feed 39 = .ok (.invokevirtual 95, 3) := dk_182 0 95 (dk_at dksX2_feed_1 17 rfl rfl)
theorem dX2_feed_42 : decode cX2_feed 42 = .ok (.aload_n 0, 1) := dk_42 (dk_at dksX2_feed_1 20 rfl rfl)
theorem dX2_feed_43 : decode cX2_feed 43 = .ok (.getfield 92, 3) := dk_180 0 92 (dk_at dksX2_feed_1 21 rfl rfl)
theorem dX2_feed_46 : decode cX2_feed 46 = .ok (.ireturn, 1) := dk_172 (dk_at dksX2_feed_2 0 rfl rfl)
abbrev cX2_four : ByteArray := prog_19_method_15_code
def yX2_four : MethodName := ⟨RX2, "four", "(I)V"⟩
def dkwX2_four_1 : List UInt8 := [89, 180, 0, 92, 4, 96, 181, 0, 92, 132, 2, 248, 167, 255, 223, 177]
abbrev dktX2_four_1 : List UInt8 := dkwX2_four_1 ++ []
def dkwX2_four_0 : List UInt8 := [16, 24, 61, 28, 155, 0, 35, 42, 180, 0, 19, 42, 180, 0, 92, 27, 28, 122, 17, 0, 255, 126, 79, 42]
abbrev dktX2_four_0 : List UInt8 := dkwX2_four_0 ++ dktX2_four_1
theorem dksX2_four_0 : cX2_four.data.toList.drop 0 = dktX2_four_0 := by decide +kernel
theorem dksX2_four_1 : cX2_four.data.toList.drop 24 = dktX2_four_1 := dk_seg dksX2_four_0 24 rfl rfl
theorem dX2_four_0 : decode cX2_four 0 = .ok (.bipush 24, 2) := dk_16 24 (dk_at dksX2_four_0 0 rfl rfl)
theorem dX2_four_2 : decode cX2_four 2 = .ok (.istore_n 2, 1) := dk_61 (dk_at dksX2_four_0 2 rfl rfl)
theorem dX2_four_3 : decode cX2_four 3 = .ok (.iload_n 2, 1) := dk_28 (dk_at dksX2_four_0 3 rfl rfl)
theorem dX2_four_4 : decode cX2_four 4 = .ok (.ifCond .lt 35, 3) := dk_155 0 35 (dk_at dksX2_four_0 4 rfl rfl)
theorem dX2_four_7 : decode cX2_four 7 = .ok (.aload_n 0, 1) := dk_42 (dk_at dksX2_four_0 7 rfl rfl)
theorem dX2_four_8 : decode cX2_four 8 = .ok (.getfield 19, 3) := dk_180 0 19 (dk_at dksX2_four_0 8 rfl rfl)
theorem dX2_four_11 : decode cX2_four 11 = .ok (.aload_n 0, 1) := dk_42 (dk_at dksX2_four_0 11 rfl rfl)
theorem dX2_four_12 : decode cX2_four 12 = .ok (.getfield 92, 3) := dk_180 0 92 (dk_at dksX2_four_0 12 rfl rfl)
theorem dX2_four_15 : decode cX2_four 15 = .ok (.iload_n 1, 1) := dk_27 (dk_at dksX2_four_0 15 rfl rfl)
theorem dX2_four_16 : decode cX2_four 16 = .ok (.iload_n 2, 1) := dk_28 (dk_at dksX2_four_0 16 rfl rfl)
theorem dX2_four_17 : decode cX2_four 17 = .ok (.ishr, 1) := dk_122 (dk_at dksX2_four_0 17 rfl rfl)
theorem dX2_four_18 : decode cX2_four 18 = .ok (.sipush 255, 3) := dk_17 0 255 (dk_at dksX2_four_0 18 rfl rfl)
theorem dX2_four_21 : decode cX2_four 21 = .ok (.iand, 1) := dk_126 (dk_at dksX2_four_0 21 rfl rfl)
theorem dX2_four_22 : decode cX2_four 22 = .ok (.iastore, 1) := dk_79 (dk_at dksX2_four_0 22 rfl rfl)
theorem dX2_four_23 : decode cX2_four 23 = .ok (.aload_n 0, 1) := dk_42 (dk_at dksX2_four_0 23 rfl rfl)
theorem dX2_four_24 : decode cX2_four 24 = .ok (.dup, 1) := dk_89 (dk_at dksX2_four_1 0 rfl rfl)
theorem dX2_four_25 : decode cX2_four 25 = .ok (.getfield 92, 3) := dk_180 0 92 (dk_at dksX2_four_1 1 rfl rfl)
theorem dX2_four_28 : decode cX2_four 28 = .ok (.iconst 1, 1) := dk_4 (dk_at dksX2_four_1 4 rfl rfl)
theorem dX2_four_29 : decode cX2_four 29 = .ok (.iadd, 1) := dk_96 (dk_at dksX2_four_1 5 rfl rfl)
theorem dX2_four_30 : decode cX2_four 30 = .ok (.putfield 92, 3) := dk_181 0 92 (dk_at dksX2_four_1 6 rfl rfl)
theorem dX2_four_33 : decode cX2_four 33 = .ok (.iinc 2 (-8), 3) := dk_132 2 248 (dk_at dksX2_four_1 9 rfl rfl)
theorem dX2_four_36 : decode cX2_four 36 = .ok (.goto (-33), 3) := dk_167 255 223 (dk_at dksX2_four_1 12 rfl rfl)
theorem dX2_four_39 : decode cX2_four 39 = .ok (.return_, 1) := dk_177 (dk_at dksX2_four_1 15 rfl rfl)
abbrev cX2_end : ByteArray := prog_19_method_17_code
def yX2_end : MethodName := ⟨RX2, "end", "(I)I"⟩
def dkwX2_end_0 : List UInt8 := [27, 3, 42, 180, 0, 92, 184, 0, 65, 154, 0, 5, 2, 172, 42, 27, 181, 0, 92, 27, 172]
abbrev dktX2_end_0 : List UInt8 := dkwX2_end_0 ++ []
theorem dksX2_end_0 : cX2_end.data.toList.drop 0 = dktX2_end_0 := by decide +kernel
theorem dX2_end_0 : decode cX2_end 0 = .ok (.iload_n 1, 1) := dk_27 (dk_at dksX2_end_0 0 rfl rfl)
theorem dX2_end_1 : decode cX2_end 1 = .ok (.iconst 0, 1) := dk_3 (dk_at dksX2_end_0 1 rfl rfl)
theorem dX2_end_2 : decode cX2_end 2 = .ok (.aload_n 0, 1) := dk_42 (dk_at dksX2_end_0 2 rfl rfl)
theorem dX2_end_3 : decode cX2_end 3 = .ok (.getfield 92, 3) := dk_180 0 92 (dk_at dksX2_end_0 3 rfl rfl)
theorem dX2_end_6 : decode cX2_end 6 = .ok (.invokestatic 65, 3) := dk_184 0 65 (dk_at dksX2_end_0 6 rfl rfl)
theorem dX2_end_9 : decode cX2_end 9 = .ok (.ifCond .ne 5, 3) := dk_154 0 5 (dk_at dksX2_end_0 9 rfl rfl)
theorem dX2_end_12 : decode cX2_end 12 = .ok (.iconst (-1), 1) := dk_2 (dk_at dksX2_end_0 12 rfl rfl)
theorem dX2_end_13 : decode cX2_end 13 = .ok (.ireturn, 1) := dk_172 (dk_at dksX2_end_0 13 rfl rfl)
theorem dX2_end_14 : decode cX2_end 14 = .ok (.aload_n 0, 1) := dk_42 (dk_at dksX2_end_0 14 rfl rfl)
theorem dX2_end_15 : decode cX2_end 15 = .ok (.iload_n 1, 1) := dk_27 (dk_at dksX2_end_0 15 rfl rfl)
theorem dX2_end_16 : decode cX2_end 16 = .ok (.putfield 92, 3) := dk_181 0 92 (dk_at dksX2_end_0 16 rfl rfl)
theorem dX2_end_19 : decode cX2_end 19 = .ok (.iload_n 1, 1) := dk_27 (dk_at dksX2_end_0 19 rfl rfl)
theorem dX2_end_20 : decode cX2_end 20 = .ok (.ireturn, 1) := dk_172 (dk_at dksX2_end_0 20 rfl rfl)
abbrev cX2_text : ByteArray := prog_19_method_53_code
def yX2_text : MethodName := ⟨RX2, "text", "()I"⟩
def dkwX2_text_3 : List UInt8 := [4, 100, 172]
abbrev dktX2_text_3 : List UInt8 := dkwX2_text_3 ++ []
def dkwX2_text_2 : List UInt8 := [180, 0, 22, 153, 0, 5, 2, 172, 42, 180, 0, 7, 4, 92, 46, 4, 96, 79, 42, 180, 0, 7, 4, 46]
abbrev dktX2_text_2 : List UInt8 := dkwX2_text_2 ++ dktX2_text_3
def dkwX2_text_1 : List UInt8 := [180, 0, 22, 154, 0, 7, 2, 167, 0, 7, 42, 180, 0, 105, 181, 0, 26, 42, 3, 181, 0, 92, 42]
abbrev dktX2_text_1 : List UInt8 := dkwX2_text_1 ++ dktX2_text_2
def dkwX2_text_0 : List UInt8 := [42, 180, 0, 7, 4, 46, 7, 160, 0, 5, 2, 172, 42, 42, 182, 1, 3, 181, 0, 22, 42, 42]
abbrev dktX2_text_0 : List UInt8 := dkwX2_text_0 ++ dktX2_text_1
theorem dksX2_text_0 : cX2_text.data.toList.drop 0 = dktX2_text_0 := by decide +kernel
theorem dksX2_text_1 : cX2_text.data.toList.drop 22 = dktX2_text_1 := dk_seg dksX2_text_0 22 rfl rfl
theorem dksX2_text_2 : cX2_text.data.toList.drop 45 = dktX2_text_2 := dk_seg dksX2_text_1 23 rfl rfl
theorem dksX2_text_3 : cX2_text.data.toList.drop 69 = dktX2_text_3 := dk_seg dksX2_text_2 24 rfl rfl
theorem dX2_text_0 : decode cX2_text 0 = .ok (.aload_n 0, 1) := dk_42 (dk_at dksX2_text_0 0 rfl rfl)
theorem dX2_text_1 : decode cX2_text 1 = .ok (.getfield 7, 3) := dk_180 0 7 (dk_at dksX2_text_0 1 rfl rfl)
theorem dX2_text_4 : decode cX2_text 4 = .ok (.iconst 1, 1) := dk_4 (dk_at dksX2_text_0 4 rfl rfl)
theorem dX2_text_5 : decode cX2_text 5 = .ok (.iaload, 1) := dk_46 (dk_at dksX2_text_0 5 rfl rfl)
theorem dX2_text_6 : decode cX2_text 6 = .ok (.iconst 4, 1) := dk_7 (dk_at dksX2_text_0 6 rfl rfl)
theorem dX2_text_7 : decode cX2_text 7 = .ok (.if_icmp .ne 5, 3) := dk_160 0 5 (dk_at dksX2_text_0 7 rfl rfl)
theorem dX2_text_10 : decode cX2_text 10 = .ok (.iconst (-1), 1) := dk_2 (dk_at dksX2_text_0 10 rfl rfl)
theorem dX2_text_11 : decode cX2_text 11 = .ok (.ireturn, 1) := dk_172 (dk_at dksX2_text_0 11 rfl rfl)
theorem dX2_text_12 : decode cX2_text 12 = .ok (.aload_n 0, 1) := dk_42 (dk_at dksX2_text_0 12 rfl rfl)
theorem dX2_text_13 : decode cX2_text 13 = .ok (.aload_n 0, 1) := dk_42 (dk_at dksX2_text_0 13 rfl rfl)
theorem dX2_text_14 : decode cX2_text 14 = .ok (.invokevirtual 259, 3) := dk_182 1 3 (dk_at dksX2_text_0 14 rfl rfl)
theorem dX2_text_17 : decode cX2_text 17 = .ok (.putfield 22, 3) := dk_181 0 22 (dk_at dksX2_text_0 17 rfl rfl)
theorem dX2_text_20 : decode cX2_text 20 = .ok (.aload_n 0, 1) := dk_42 (dk_at dksX2_text_0 20 rfl rfl)
theorem dX2_text_21 : decode cX2_text 21 = .ok (.aload_n 0, 1) := dk_42 (dk_at dksX2_text_0 21 rfl rfl)
theorem dX2_text_22 : decode cX2_text 22 = .ok (.getfield 22, 3) := dk_180 0 22 (dk_at dksX2_text_1 0 rfl rfl)
theorem dX2_text_25 : decode cX2_text 25 = .ok (.ifCond .ne 7, 3) := dk_154 0 7 (dk_at dksX2_text_1 3 rfl rfl)
theorem dX2_text_28 : decode cX2_text 28 = .ok (.iconst (-1), 1) := dk_2 (dk_at dksX2_text_1 6 rfl rfl)
theorem dX2_text_29 : decode cX2_text 29 = .ok (.goto 7, 3) := dk_167 0 7 (dk_at dksX2_text_1 7 rfl rfl)
theorem dX2_text_32 : decode cX2_text 32 = .ok (.aload_n 0, 1) := dk_42 (dk_at dksX2_text_1 10 rfl rfl)
theorem dX2_text_33 : decode cX2_text 33 = .ok (.getfield 105, 3) := dk_180 0 105 (dk_at dksX2_text_1 11 rfl rfl)
theorem dX2_text_36 : decode cX2_text 36 = .ok (.putfield 26, 3) := dk_181 0 26 (dk_at dksX2_text_1 14 rfl rfl)
theorem dX2_text_39 : decode cX2_text 39 = .ok (.aload_n 0, 1) := dk_42 (dk_at dksX2_text_1 17 rfl rfl)
theorem dX2_text_40 : decode cX2_text 40 = .ok (.iconst 0, 1) := dk_3 (dk_at dksX2_text_1 18 rfl rfl)
theorem dX2_text_41 : decode cX2_text 41 = .ok (.putfield 92, 3) := dk_181 0 92 (dk_at dksX2_text_1 19 rfl rfl)
theorem dX2_text_44 : decode cX2_text 44 = .ok (.aload_n 0, 1) := dk_42 (dk_at dksX2_text_1 22 rfl rfl)
theorem dX2_text_45 : decode cX2_text 45 = .ok (.getfield 22, 3) := dk_180 0 22 (dk_at dksX2_text_2 0 rfl rfl)
theorem dX2_text_48 : decode cX2_text 48 = .ok (.ifCond .eq 5, 3) := dk_153 0 5 (dk_at dksX2_text_2 3 rfl rfl)
theorem dX2_text_51 : decode cX2_text 51 = .ok (.iconst (-1), 1) := dk_2 (dk_at dksX2_text_2 6 rfl rfl)
theorem dX2_text_52 : decode cX2_text 52 = .ok (.ireturn, 1) := dk_172 (dk_at dksX2_text_2 7 rfl rfl)
theorem dX2_text_53 : decode cX2_text 53 = .ok (.aload_n 0, 1) := dk_42 (dk_at dksX2_text_2 8 rfl rfl)
theorem dX2_text_54 : decode cX2_text 54 = .ok (.getfield 7, 3) := dk_180 0 7 (dk_at dksX2_text_2 9 rfl rfl)
theorem dX2_text_57 : decode cX2_text 57 = .ok (.iconst 1, 1) := dk_4 (dk_at dksX2_text_2 12 rfl rfl)
theorem dX2_text_58 : decode cX2_text 58 = .ok (.dup2, 1) := dk_92 (dk_at dksX2_text_2 13 rfl rfl)
theorem dX2_text_59 : decode cX2_text 59 = .ok (.iaload, 1) := dk_46 (dk_at dksX2_text_2 14 rfl rfl)
theorem dX2_text_60 : decode cX2_text 60 = .ok (.iconst 1, 1) := dk_4 (dk_at dksX2_text_2 15 rfl rfl)
theorem dX2_text_61 : decode cX2_text 61 = .ok (.iadd, 1) := dk_96 (dk_at dksX2_text_2 16 rfl rfl)
theorem dX2_text_62 : decode cX2_text 62 = .ok (.iastore, 1) := dk_79 (dk_at dksX2_text_2 17 rfl rfl)
theorem dX2_text_63 : decode cX2_text 63 = .ok (.aload_n 0, 1) := dk_42 (dk_at dksX2_text_2 18 rfl rfl)
theorem dX2_text_64 : decode cX2_text 64 = .ok (.getfield 7, 3) := dk_180 0 7 (dk_at dksX2_text_2 19 rfl rfl)
theorem dX2_text_67 : decode cX2_text 67 = .ok (.iconst 1, 1) := dk_4 (dk_at dksX2_text_2 22 rfl rfl)
theorem dX2_text_68 : decode cX2_text 68 = .ok (.iaload, 1) := dk_46 (dk_at dksX2_text_2 23 rfl rfl)
theorem dX2_text_69 : decode cX2_text 69 = .ok (.iconst 1, 1) := dk_4 (dk_at dksX2_text_3 0 rfl rfl)
theorem dX2_text_70 : decode cX2_text 70 = .ok (.isub, 1) := dk_100 (dk_at dksX2_text_3 1 rfl rfl)
theorem dX2_text_71 : decode cX2_text 71 = .ok (.ireturn, 1) := dk_172 (dk_at dksX2_text_3 2 rfl rfl)
abbrev cX2_readText : ByteArray := prog_19_method_52_code
def yX2_readText : MethodName := ⟨RX2, "readText", "()I"⟩
def dkwX2_readText_2 : List UInt8 := [153, 0, 17, 42, 182, 1, 0, 60, 27, 153, 0, 5, 27, 172, 167, 255, 238, 3, 172]
abbrev dktX2_readText_2 : List UInt8 := dkwX2_readText_2 ++ []
def dkwX2_readText_1 : List UInt8 := [42, 3, 181, 0, 149, 42, 3, 181, 0, 250, 42, 3, 181, 0, 98, 42, 182, 0, 184, 42, 180, 0, 108]
abbrev dktX2_readText_1 : List UInt8 := dkwX2_readText_1 ++ dktX2_readText_2
def dkwX2_readText_0 : List UInt8 := [42, 17, 2, 193, 42, 180, 0, 7, 4, 46, 104, 181, 0, 146, 42, 180, 0, 16, 42, 180, 0, 146, 3, 79]
abbrev dktX2_readText_0 : List UInt8 := dkwX2_readText_0 ++ dktX2_readText_1
theorem dksX2_readText_0 : cX2_readText.data.toList.drop 0 = dktX2_readText_0 := by decide +kernel
theorem dksX2_readText_1 : cX2_readText.data.toList.drop 24 = dktX2_readText_1 := dk_seg dksX2_readText_0 24 rfl rfl
theorem dksX2_readText_2 : cX2_readText.data.toList.drop 47 = dktX2_readText_2 := dk_seg dksX2_readText_1 23 rfl rfl
theorem dX2_readText_0 : decode cX2_readText 0 = .ok (.aload_n 0, 1) := dk_42 (dk_at dksX2_readText_0 0 rfl rfl)
theorem dX2_readText_1 : decode cX2_readText 1 = .ok (.sipush 705, 3) := dk_17 2 193 (dk_at dksX2_readText_0 1 rfl rfl)
theorem dX2_readText_4 : decode cX2_readText 4 = .ok (.aload_n 0, 1) := dk_42 (dk_at dksX2_readText_0 4 rfl rfl)
theorem dX2_readText_5 : decode cX2_readText 5 = .ok (.getfield 7, 3) := dk_180 0 7 (dk_at dksX2_readText_0 5 rfl rfl)
theorem dX2_readText_8 : decode cX2_readText 8 = .ok (.iconst 1, 1) := dk_4 (dk_at dksX2_readText_0 8 rfl rfl)
theorem dX2_readText_9 : decode cX2_readText 9 = .ok (.iaload, 1) := dk_46 (dk_at dksX2_readText_0 9 rfl rfl)
theorem dX2_readText_10 : decode cX2_readText 10 = .ok (.imul, 1) := dk_104 (dk_at dksX2_readText_0 10 rfl rfl)
theorem dX2_readText_11 : decode cX2_readText 11 = .ok (.putfield 146, 3) := dk_181 0 146 (dk_at dksX2_readText_0 11 rfl rfl)
theorem dX2_readText_14 : decode cX2_readText 14 = .ok (.aload_n 0, 1) := dk_42 (dk_at dksX2_readText_0 14 rfl rfl)
theorem dX2_readText_15 : decode cX2_readText 15 = .ok (.getfield 16, 3) := dk_180 0 16 (dk_at dksX2_readText_0 15 rfl rfl)
theorem dX2_readText_18 : decode cX2_readText 18 = .ok (.aload_n 0, 1) := dk_42 (dk_at dksX2_readText_0 18 rfl rfl)
theorem dX2_readText_19 : decode cX2_readText 19 = .ok (.getfield 146, 3) := dk_180 0 146 (dk_at dksX2_readText_0 19 rfl rfl)
theorem dX2_readText_22 : decode cX2_readText 22 = .ok (.iconst 0, 1) := dk_3 (dk_at dksX2_readText_0 22 rfl rfl)
theorem dX2_readText_23 : decode cX2_readText 23 = .ok (.iastore, 1) := dk_79 (dk_at dksX2_readText_0 23 rfl rfl)
theorem dX2_readText_24 : decode cX2_readText 24 = .ok (.aload_n 0, 1) := dk_42 (dk_at dksX2_readText_1 0 rfl rfl)
theorem dX2_readText_25 : decode cX2_readText 25 = .ok (.iconst 0, 1) := dk_3 (dk_at dksX2_readText_1 1 rfl rfl)
theorem dX2_readText_26 : decode cX2_readText 26 = .ok (.putfield 149, 3) := dk_181 0 149 (dk_at dksX2_readText_1 2 rfl rfl)
theorem dX2_readText_29 : decode cX2_readText 29 = .ok (.aload_n 0, 1) := dk_42 (dk_at dksX2_readText_1 5 rfl rfl)
theorem dX2_readText_30 : decode cX2_readText 30 = .ok (.iconst 0, 1) := dk_3 (dk_at dksX2_readText_1 6 rfl rfl)
theorem dX2_readText_31 : decode cX2_readText 31 = .ok (.putfield 250, 3) := dk_181 0 250 (dk_at dksX2_readText_1 7 rfl rfl)
theorem dX2_readText_34 : decode cX2_readText 34 = .ok (.aload_n 0, 1) := dk_42 (dk_at dksX2_readText_1 10 rfl rfl)
theorem dX2_readText_35 : decode cX2_readText 35 = .ok (.iconst 0, 1) := dk_3 (dk_at dksX2_readText_1 11 rfl rfl)
theorem dX2_readText_36 : decode cX2_readText 36 = .ok (.putfield 98, 3) := dk_181 0 98 (dk_at dksX2_readText_1 12 rfl rfl)
theorem dX2_readText_39 : decode cX2_readText 39 = .ok (.aload_n 0, 1) := dk_42 (dk_at dksX2_readText_1 15 rfl rfl)
theorem dX2_readText_40 : decode cX2_readText 40 = .ok (.invokevirtual 184, 3) := dk_182 0 184 (dk_at dksX2_readText_1 16 rfl rfl)
theorem dX2_readText_43 : decode cX2_readText 43 = .ok (.aload_n 0, 1) := dk_42 (dk_at dksX2_readText_1 19 rfl rfl)
theorem dX2_readText_44 : decode cX2_readText 44 = .ok (.getfield 108, 3) := dk_180 0 108 (dk_at dksX2_readText_1 20 rfl rfl)
theorem dX2_readText_47 : decode cX2_readText 47 = .ok (.ifCond .eq 17, 3) := dk_153 0 17 (dk_at dksX2_readText_2 0 rfl rfl)
theorem dX2_readText_50 : decode cX2_readText 50 = .ok (.aload_n 0, 1) := dk_42 (dk_at dksX2_readText_2 3 rfl rfl)
theorem dX2_readText_51 : decode cX2_readText 51 = .ok (.invokevirtual 256, 3) := dk_182 1 0 (dk_at dksX2_readText_2 4 rfl rfl)
theorem dX2_readText_54 : decode cX2_readText 54 = .ok (.istore_n 1, 1) := dk_60 (dk_at dksX2_readText_2 7 rfl rfl)
theorem dX2_readText_55 : decode cX2_readText 55 = .ok (.iload_n 1, 1) := dk_27 (dk_at dksX2_readText_2 8 rfl rfl)
theorem dX2_readText_56 : decode cX2_readText 56 = .ok (.ifCond .eq 5, 3) := dk_153 0 5 (dk_at dksX2_readText_2 9 rfl rfl)
theorem dX2_readText_59 : decode cX2_readText 59 = .ok (.iload_n 1, 1) := dk_27 (dk_at dksX2_readText_2 12 rfl rfl)
theorem dX2_readText_60 : decode cX2_readText 60 = .ok (.ireturn, 1) := dk_172 (dk_at dksX2_readText_2 13 rfl rfl)
theorem dX2_readText_61 : decode cX2_readText 61 = .ok (.goto (-18), 3) := dk_167 255 238 (dk_at dksX2_readText_2 14 rfl rfl)
theorem dX2_readText_64 : decode cX2_readText 64 = .ok (.iconst 0, 1) := dk_3 (dk_at dksX2_readText_2 17 rfl rfl)
theorem dX2_readText_65 : decode cX2_readText 65 = .ok (.ireturn, 1) := dk_172 (dk_at dksX2_readText_2 18 rfl rfl)
abbrev cX2_nextToken : ByteArray := prog_19_method_22_code
def yX2_nextToken : MethodName := ⟨RX2, "nextToken", "()V"⟩
def dkwX2_nextToken_13 : List UInt8 := [180, 0, 98, 4, 96, 181, 0, 98, 177]
abbrev dktX2_nextToken_13 : List UInt8 := dkwX2_nextToken_13 ++ []
def dkwX2_nextToken_12 : List UInt8 := [16, 61, 160, 0, 28, 42, 27, 16, 60, 160, 0, 7, 7, 167, 0, 4, 8, 181, 0, 108, 42, 89]
abbrev dktX2_nextToken_12 : List UInt8 := dkwX2_nextToken_12 ++ dktX2_nextToken_13
def dkwX2_nextToken_11 : List UInt8 := [181, 0, 98, 27, 16, 60, 159, 0, 9, 27, 16, 62, 160, 0, 41, 42, 42, 180, 0, 98, 182, 0, 101]
abbrev dktX2_nextToken_11 : List UInt8 := dkwX2_nextToken_11 ++ dktX2_nextToken_12
def dkwX2_nextToken_10 : List UInt8 := [42, 27, 184, 0, 127, 153, 0, 7, 27, 167, 0, 4, 6, 181, 0, 108, 42, 89, 180, 0, 98, 4, 96]
abbrev dktX2_nextToken_10 : List UInt8 := dkwX2_nextToken_10 ++ dktX2_nextToken_11
def dkwX2_nextToken_9 : List UInt8 := [180, 0, 98, 182, 0, 101, 133, 129, 181, 0, 121, 42, 89, 180, 0, 98, 4, 96, 181, 0, 98, 167, 255, 193]
abbrev dktX2_nextToken_9 : List UInt8 := dkwX2_nextToken_9 ++ dktX2_nextToken_10
def dkwX2_nextToken_8 : List UInt8 := [16, 48, 123, 9, 148, 153, 0, 9, 20, 0, 125, 167, 0, 20, 42, 180, 0, 121, 16, 8, 121, 42, 42]
abbrev dktX2_nextToken_8 : List UInt8 := dkwX2_nextToken_8 ++ dktX2_nextToken_9
def dkwX2_nextToken_7 : List UInt8 := [9, 181, 0, 121, 42, 42, 180, 0, 98, 182, 0, 101, 184, 0, 118, 153, 0, 131, 42, 42, 180, 0, 121]
abbrev dktX2_nextToken_7 : List UInt8 := dkwX2_nextToken_7 ++ dktX2_nextToken_8
def dkwX2_nextToken_6 : List UInt8 := [180, 0, 98, 4, 96, 181, 0, 98, 167, 255, 193, 27, 184, 0, 118, 153, 0, 79, 42, 5, 181, 0, 108, 42]
abbrev dktX2_nextToken_6 : List UInt8 := dkwX2_nextToken_6 ++ dktX2_nextToken_7
def dkwX2_nextToken_5 : List UInt8 := [16, 10, 42, 180, 0, 114, 104, 42, 42, 180, 0, 98, 182, 0, 101, 96, 16, 48, 100, 181, 0, 114, 42, 89]
abbrev dktX2_nextToken_5 : List UInt8 := dkwX2_nextToken_5 ++ dktX2_nextToken_6
def dkwX2_nextToken_4 : List UInt8 := [184, 0, 111, 153, 0, 214, 42, 42, 180, 0, 114, 18, 117, 164, 0, 10, 42, 180, 0, 114, 167, 0, 22]
abbrev dktX2_nextToken_4 : List UInt8 := dkwX2_nextToken_4 ++ dktX2_nextToken_5
def dkwX2_nextToken_3 : List UInt8 := [184, 0, 111, 153, 0, 79, 42, 4, 181, 0, 108, 42, 3, 181, 0, 114, 42, 42, 180, 0, 98, 182, 0, 101]
abbrev dktX2_nextToken_3 : List UInt8 := dkwX2_nextToken_3 ++ dktX2_nextToken_4
def dkwX2_nextToken_2 : List UInt8 := [42, 42, 180, 0, 98, 182, 0, 101, 60, 27, 156, 0, 11, 42, 3, 181, 0, 108, 167, 0, 245, 27]
abbrev dktX2_nextToken_2 : List UInt8 := dkwX2_nextToken_2 ++ dktX2_nextToken_3
def dkwX2_nextToken_1 : List UInt8 := [160, 0, 16, 42, 89, 180, 0, 98, 4, 96, 181, 0, 98, 167, 255, 220, 42, 42, 180, 0, 98, 181, 0, 105]
abbrev dktX2_nextToken_1 : List UInt8 := dkwX2_nextToken_1 ++ dktX2_nextToken_2
def dkwX2_nextToken_0 : List UInt8 := [42, 42, 180, 0, 98, 182, 0, 101, 16, 32, 159, 0, 16, 42, 42, 180, 0, 98, 182, 0, 101, 16, 10]
abbrev dktX2_nextToken_0 : List UInt8 := dkwX2_nextToken_0 ++ dktX2_nextToken_1
theorem dksX2_nextToken_0 : cX2_nextToken.data.toList.drop 0 = dktX2_nextToken_0 := by decide +kernel
theorem dksX2_nextToken_1 : cX2_nextToken.data.toList.drop 23 = dktX2_nextToken_1 := dk_seg dksX2_nextToken_0 23 rfl rfl
theorem dksX2_nextToken_2 : cX2_nextToken.data.toList.drop 47 = dktX2_nextToken_2 := dk_seg dksX2_nextToken_1 24 rfl rfl
theorem dksX2_nextToken_3 : cX2_nextToken.data.toList.drop 69 = dktX2_nextToken_3 := dk_seg dksX2_nextToken_2 22 rfl rfl
theorem dksX2_nextToken_4 : cX2_nextToken.data.toList.drop 93 = dktX2_nextToken_4 := dk_seg dksX2_nextToken_3 24 rfl rfl
theorem dksX2_nextToken_5 : cX2_nextToken.data.toList.drop 116 = dktX2_nextToken_5 := dk_seg dksX2_nextToken_4 23 rfl rfl
theorem dksX2_nextToken_6 : cX2_nextToken.data.toList.drop 140 = dktX2_nextToken_6 := dk_seg dksX2_nextToken_5 24 rfl rfl
theorem dksX2_nextToken_7 : cX2_nextToken.data.toList.drop 164 = dktX2_nextToken_7 := dk_seg dksX2_nextToken_6 24 rfl rfl
theorem dksX2_nextToken_8 : cX2_nextToken.data.toList.drop 187 = dktX2_nextToken_8 := dk_seg dksX2_nextToken_7 23 rfl rfl
theorem dksX2_nextToken_9 : cX2_nextToken.data.toList.drop 210 = dktX2_nextToken_9 := dk_seg dksX2_nextToken_8 23 rfl rfl
theorem dksX2_nextToken_10 : cX2_nextToken.data.toList.drop 234 = dktX2_nextToken_10 := dk_seg dksX2_nextToken_9 24 rfl rfl
theorem dksX2_nextToken_11 : cX2_nextToken.data.toList.drop 257 = dktX2_nextToken_11 := dk_seg dksX2_nextToken_10 23 rfl rfl
theorem dksX2_nextToken_12 : cX2_nextToken.data.toList.drop 280 = dktX2_nextToken_12 := dk_seg dksX2_nextToken_11 23 rfl rfl
theorem dksX2_nextToken_13 : cX2_nextToken.data.toList.drop 302 = dktX2_nextToken_13 := dk_seg dksX2_nextToken_12 22 rfl rfl
theorem dX2_nextToken_0 : decode cX2_nextToken 0 = .ok (.aload_n 0, 1) := dk_42 (dk_at dksX2_nextToken_0 0 rfl rfl)
theorem dX2_nextToken_1 : decode cX2_nextToken 1 = .ok (.aload_n 0, 1) := dk_42 (dk_at dksX2_nextToken_0 1 rfl rfl)
theorem dX2_nextToken_2 : decode cX2_nextToken 2 = .ok (.getfield 98, 3) := dk_180 0 98 (dk_at dksX2_nextToken_0 2 rfl rfl)
theorem dX2_nextToken_5 : decode cX2_nextToken 5 = .ok (.invokevirtual 101, 3) := dk_182 0 101 (dk_at dksX2_nextToken_0 5 rfl rfl)
theorem dX2_nextToken_8 : decode cX2_nextToken 8 = .ok (.bipush 32, 2) := dk_16 32 (dk_at dksX2_nextToken_0 8 rfl rfl)
theorem dX2_nextToken_10 : decode cX2_nextToken 10 = .ok (.if_icmp .eq 16, 3) := dk_159 0 16 (dk_at dksX2_nextToken_0 10 rfl rfl)
theorem dX2_nextToken_13 : decode cX2_nextToken 13 = .ok (.aload_n 0, 1) := dk_42 (dk_at dksX2_nextToken_0 13 rfl rfl)
theorem dX2_nextToken_14 : decode cX2_nextToken 14 = .ok (.aload_n 0, 1) := dk_42 (dk_at dksX2_nextToken_0 14 rfl rfl)
theorem dX2_nextToken_15 : decode cX2_nextToken 15 = .ok (.getfield 98, 3) := dk_180 0 98 (dk_at dksX2_nextToken_0 15 rfl rfl)
theorem dX2_nextToken_18 : decode cX2_nextToken 18 = .ok (.invokevirtual 101, 3) := dk_182 0 101 (dk_at dksX2_nextToken_0 18 rfl rfl)
theorem dX2_nextToken_21 : decode cX2_nextToken 21 = .ok (.bipush 10, 2) := dk_16 10 (dk_at dksX2_nextToken_0 21 rfl rfl)
theorem dX2_nextToken_23 : decode cX2_nextToken 23 = .ok (.if_icmp .ne 16, 3) := dk_160 0 16 (dk_at dksX2_nextToken_1 0 rfl rfl)
theorem dX2_nextToken_26 : decode cX2_nextToken 26 = .ok (.aload_n 0, 1) := dk_42 (dk_at dksX2_nextToken_1 3 rfl rfl)
theorem dX2_nextToken_27 : decode cX2_nextToken 27 = .ok (.dup, 1) := dk_89 (dk_at dksX2_nextToken_1 4 rfl rfl)
theorem dX2_nextToken_28 : decode cX2_nextToken 28 = .ok (.getfield 98, 3) := dk_180 0 98 (dk_at dksX2_nextToken_1 5 rfl rfl)
theorem dX2_nextToken_31 : decode cX2_nextToken 31 = .ok (.iconst 1, 1) := dk_4 (dk_at dksX2_nextToken_1 8 rfl rfl)
theorem dX2_nextToken_32 : decode cX2_nextToken 32 = .ok (.iadd, 1) := dk_96 (dk_at dksX2_nextToken_1 9 rfl rfl)
theorem dX2_nextToken_33 : decode cX2_nextToken 33 = .ok (.putfield 98, 3) := dk_181 0 98 (dk_at dksX2_nextToken_1 10 rfl rfl)
theorem dX2_nextToken_36 : decode cX2_nextToken 36 = .ok (.goto (-36), 3) := dk_167 255 220 (dk_at dksX2_nextToken_1 13 rfl rfl)
theorem dX2_nextToken_39 : decode cX2_nextToken 39 = .ok (.aload_n 0, 1) := dk_42 (dk_at dksX2_nextToken_1 16 rfl rfl)
theorem dX2_nextToken_40 : decode cX2_nextToken 40 = .ok (.aload_n 0, 1) := dk_42 (dk_at dksX2_nextToken_1 17 rfl rfl)
theorem dX2_nextToken_41 : decode cX2_nextToken 41 = .ok (.getfield 98, 3) := dk_180 0 98 (dk_at dksX2_nextToken_1 18 rfl rfl)
theorem dX2_nextToken_44 : decode cX2_nextToken 44 = .ok (.putfield 105, 3) := dk_181 0 105 (dk_at dksX2_nextToken_1 21 rfl rfl)
theorem dX2_nextToken_47 : decode cX2_nextToken 47 = .ok (.aload_n 0, 1) := dk_42 (dk_at dksX2_nextToken_2 0 rfl rfl)
theorem dX2_nextToken_48 : decode cX2_nextToken 48 = .ok (.aload_n 0, 1) := dk_42 (dk_at dksX2_nextToken_2 1 rfl rfl)
theorem dX2_nextToken_49 : decode cX2_nextToken 49 = .ok (.getfield 98, 3) := dk_180 0 98 (dk_at dksX2_nextToken_2 2 rfl rfl)
theorem dX2_nextToken_52 : decode cX2_nextToken 52 = .ok (.invokevirtual 101, 3) := dk_182 0 101 (dk_at dksX2_nextToken_2 5 rfl rfl)
theorem dX2_nextToken_55 : decode cX2_nextToken 55 = .ok (.istore_n 1, 1) := dk_60 (dk_at dksX2_nextToken_2 8 rfl rfl)
theorem dX2_nextToken_56 : decode cX2_nextToken 56 = .ok (.iload_n 1, 1) := dk_27 (dk_at dksX2_nextToken_2 9 rfl rfl)
theorem dX2_nextToken_57 : decode cX2_nextToken 57 = .ok (.ifCond .ge 11, 3) := dk_156 0 11 (dk_at dksX2_nextToken_2 10 rfl rfl)
theorem dX2_nextToken_60 : decode cX2_nextToken 60 = .ok (.aload_n 0, 1) := dk_42 (dk_at dksX2_nextToken_2 13 rfl rfl)
theorem dX2_nextToken_61 : decode cX2_nextToken 61 = .ok (.iconst 0, 1) := dk_3 (dk_at dksX2_nextToken_2 14 rfl rfl)
theorem dX2_nextToken_62 : decode cX2_nextToken 62 = .ok (.putfield 108, 3) := dk_181 0 108 (dk_at dksX2_nextToken_2 15 rfl rfl)
theorem dX2_nextToken_65 : decode cX2_nextToken 65 = .ok (.goto 245, 3) := dk_167 0 245 (dk_at dksX2_nextToken_2 18 rfl rfl)
theorem dX2_nextToken_68 : decode cX2_nextToken 68 = .ok (.iload_n 1, 1) := dk_27 (dk_at dksX2_nextToken_2 21 rfl rfl)
theorem dX2_nextToken_69 : decode cX2_nextToken 69 = .ok (.invokestatic 111, 3) := dk_184 0 111 (dk_at dksX2_nextToken_3 0 rfl rfl)
theorem dX2_nextToken_72 : decode cX2_nextToken 72 = .ok (.ifCond .eq 79, 3) := dk_153 0 79 (dk_at dksX2_nextToken_3 3 rfl rfl)
theorem dX2_nextToken_75 : decode cX2_nextToken 75 = .ok (.aload_n 0, 1) := dk_42 (dk_at dksX2_nextToken_3 6 rfl rfl)
theorem dX2_nextToken_76 : decode cX2_nextToken 76 = .ok (.iconst 1, 1) := dk_4 (dk_at dksX2_nextToken_3 7 rfl rfl)
theorem dX2_nextToken_77 : decode cX2_nextToken 77 = .ok (.putfield 108, 3) := dk_181 0 108 (dk_at dksX2_nextToken_3 8 rfl rfl)
theorem dX2_nextToken_80 : decode cX2_nextToken 80 = .ok (.aload_n 0, 1) := dk_42 (dk_at dksX2_nextToken_3 11 rfl rfl)
theorem dX2_nextToken_81 : decode cX2_nextToken 81 = .ok (.iconst 0, 1) := dk_3 (dk_at dksX2_nextToken_3 12 rfl rfl)
theorem dX2_nextToken_82 : decode cX2_nextToken 82 = .ok (.putfield 114, 3) := dk_181 0 114 (dk_at dksX2_nextToken_3 13 rfl rfl)
theorem dX2_nextToken_85 : decode cX2_nextToken 85 = .ok (.aload_n 0, 1) := dk_42 (dk_at dksX2_nextToken_3 16 rfl rfl)
theorem dX2_nextToken_86 : decode cX2_nextToken 86 = .ok (.aload_n 0, 1) := dk_42 (dk_at dksX2_nextToken_3 17 rfl rfl)
theorem dX2_nextToken_87 : decode cX2_nextToken 87 = .ok (.getfield 98, 3) := dk_180 0 98 (dk_at dksX2_nextToken_3 18 rfl rfl)
theorem dX2_nextToken_90 : decode cX2_nextToken 90 = .ok (.invokevirtual 101, 3) := dk_182 0 101 (dk_at dksX2_nextToken_3 21 rfl rfl)
theorem dX2_nextToken_93 : decode cX2_nextToken 93 = .ok (.invokestatic 111, 3) := dk_184 0 111 (dk_at dksX2_nextToken_4 0 rfl rfl)
theorem dX2_nextToken_96 : decode cX2_nextToken 96 = .ok (.ifCond .eq 214, 3) := dk_153 0 214 (dk_at dksX2_nextToken_4 3 rfl rfl)
theorem dX2_nextToken_99 : decode cX2_nextToken 99 = .ok (.aload_n 0, 1) := dk_42 (dk_at dksX2_nextToken_4 6 rfl rfl)
theorem dX2_nextToken_100 : decode cX2_nextToken 100 = .ok (.aload_n 0, 1) := dk_42 (dk_at dksX2_nextToken_4 7 rfl rfl)
theorem dX2_nextToken_101 : decode cX2_nextToken 101 = .ok (.getfield 114, 3) := dk_180 0 114 (dk_at dksX2_nextToken_4 8 rfl rfl)
theorem dX2_nextToken_104 : decode cX2_nextToken 104 = .ok (.ldc 117, 2) := dk_18 117 (dk_at dksX2_nextToken_4 11 rfl rfl)
theorem dX2_nextToken_106 : decode cX2_nextToken 106 = .ok (.if_icmp .le 10, 3) := dk_164 0 10 (dk_at dksX2_nextToken_4 13 rfl rfl)
theorem dX2_nextToken_109 : decode cX2_nextToken 109 = .ok (.aload_n 0, 1) := dk_42 (dk_at dksX2_nextToken_4 16 rfl rfl)
theorem dX2_nextToken_110 : decode cX2_nextToken 110 = .ok (.getfield 114, 3) := dk_180 0 114 (dk_at dksX2_nextToken_4 17 rfl rfl)
theorem dX2_nextToken_113 : decode cX2_nextToken 113 = .ok (.goto 22, 3) := dk_167 0 22 (dk_at dksX2_nextToken_4 20 rfl rfl)
theorem dX2_nextToken_116 : decode cX2_nextToken 116 = .ok (.bipush 10, 2) := dk_16 10 (dk_at dksX2_nextToken_5 0 rfl rfl)
theorem dX2_nextToken_118 : decode cX2_nextToken 118 = .ok (.aload_n 0, 1) := dk_42 (dk_at dksX2_nextToken_5 2 rfl rfl)
theorem dX2_nextToken_119 : decode cX2_nextToken 119 = .ok (.getfield 114, 3) := dk_180 0 114 (dk_at dksX2_nextToken_5 3 rfl rfl)
theorem dX2_nextToken_122 : decode cX2_nextToken 122 = .ok (.imul, 1) := dk_104 (dk_at dksX2_nextToken_5 6 rfl rfl)
theorem dX2_nextToken_123 : decode cX2_nextToken 123 = .ok (.aload_n 0, 1) := dk_42 (dk_at dksX2_nextToken_5 7 rfl rfl)
theorem dX2_nextToken_124 : decode cX2_nextToken 124 = .ok (.aload_n 0, 1) := dk_42 (dk_at dksX2_nextToken_5 8 rfl rfl)
theorem dX2_nextToken_125 : decode cX2_nextToken 125 = .ok (.getfield 98, 3) := dk_180 0 98 (dk_at dksX2_nextToken_5 9 rfl rfl)
theorem dX2_nextToken_128 : decode cX2_nextToken 128 = .ok (.invokevirtual 101, 3) := dk_182 0 101 (dk_at dksX2_nextToken_5 12 rfl rfl)
theorem dX2_nextToken_131 : decode cX2_nextToken 131 = .ok (.iadd, 1) := dk_96 (dk_at dksX2_nextToken_5 15 rfl rfl)
theorem dX2_nextToken_132 : decode cX2_nextToken 132 = .ok (.bipush 48, 2) := dk_16 48 (dk_at dksX2_nextToken_5 16 rfl rfl)
theorem dX2_nextToken_134 : decode cX2_nextToken 134 = .ok (.isub, 1) := dk_100 (dk_at dksX2_nextToken_5 18 rfl rfl)
theorem dX2_nextToken_135 : decode cX2_nextToken 135 = .ok (.putfield 114, 3) := dk_181 0 114 (dk_at dksX2_nextToken_5 19 rfl rfl)
theorem dX2_nextToken_138 : decode cX2_nextToken 138 = .ok (.aload_n 0, 1) := dk_42 (dk_at dksX2_nextToken_5 22 rfl rfl)
theorem dX2_nextToken_139 : decode cX2_nextToken 139 = .ok (.dup, 1) := dk_89 (dk_at dksX2_nextToken_5 23 rfl rfl)
theorem dX2_nextToken_140 : decode cX2_nextToken 140 = .ok (.getfield 98, 3) := dk_180 0 98 (dk_at dksX2_nextToken_6 0 rfl rfl)
theorem dX2_nextToken_143 : decode cX2_nextToken 143 = .ok (.iconst 1, 1) := dk_4 (dk_at dksX2_nextToken_6 3 rfl rfl)
theorem dX2_nextToken_144 : decode cX2_nextToken 144 = .ok (.iadd, 1) := dk_96 (dk_at dksX2_nextToken_6 4 rfl rfl)
theorem dX2_nextToken_145 : decode cX2_nextToken 145 = .ok (.putfield 98, 3) := dk_181 0 98 (dk_at dksX2_nextToken_6 5 rfl rfl)
theorem dX2_nextToken_148 : decode cX2_nextToken 148 = .ok (.goto (-63), 3) := dk_167 255 193 (dk_at dksX2_nextToken_6 8 rfl rfl)
theorem dX2_nextToken_151 : decode cX2_nextToken 151 = .ok (.iload_n 1, 1) := dk_27 (dk_at dksX2_nextToken_6 11 rfl rfl)
theorem dX2_nextToken_152 : decode cX2_nextToken 152 = .ok (.invokestatic 118, 3) := dk_184 0 118 (dk_at dksX2_nextToken_6 12 rfl rfl)
theorem dX2_nextToken_155 : decode cX2_nextToken 155 = .ok (.ifCond .eq 79, 3) := dk_153 0 79 (dk_at dksX2_nextToken_6 15 rfl rfl)
theorem dX2_nextToken_158 : decode cX2_nextToken 158 = .ok (.aload_n 0, 1) := dk_42 (dk_at dksX2_nextToken_6 18 rfl rfl)
theorem dX2_nextToken_159 : decode cX2_nextToken 159 = .ok (.iconst 2, 1) := dk_5 (dk_at dksX2_nextToken_6 19 rfl rfl)
theorem dX2_nextToken_160 : decode cX2_nextToken 160 = .ok (.putfield 108, 3) := dk_181 0 108 (dk_at dksX2_nextToken_6 20 rfl rfl)
theorem dX2_nextToken_163 : decode cX2_nextToken 163 = .ok (.aload_n 0, 1) := dk_42 (dk_at dksX2_nextToken_6 23 rfl rfl)
theorem dX2_nextToken_164 : decode cX2_nextToken 164 = .ok (.lconst 0, 1) := dk_9 (dk_at dksX2_nextToken_7 0 rfl rfl)
theorem dX2_nextToken_165 : decode cX2_nextToken 165 = .ok (.putfield 121, 3) := dk_181 0 121 (dk_at dksX2_nextToken_7 1 rfl rfl)
theorem dX2_nextToken_168 : decode cX2_nextToken 168 = .ok (.aload_n 0, 1) := dk_42 (dk_at dksX2_nextToken_7 4 rfl rfl)
theorem dX2_nextToken_169 : decode cX2_nextToken 169 = .ok (.aload_n 0, 1) := dk_42 (dk_at dksX2_nextToken_7 5 rfl rfl)
theorem dX2_nextToken_170 : decode cX2_nextToken 170 = .ok (.getfield 98, 3) := dk_180 0 98 (dk_at dksX2_nextToken_7 6 rfl rfl)
theorem dX2_nextToken_173 : decode cX2_nextToken 173 = .ok (.invokevirtual 101, 3) := dk_182 0 101 (dk_at dksX2_nextToken_7 9 rfl rfl)
theorem dX2_nextToken_176 : decode cX2_nextToken 176 = .ok (.invokestatic 118, 3) := dk_184 0 118 (dk_at dksX2_nextToken_7 12 rfl rfl)
theorem dX2_nextToken_179 : decode cX2_nextToken 179 = .ok (.ifCond .eq 131, 3) := dk_153 0 131 (dk_at dksX2_nextToken_7 15 rfl rfl)
theorem dX2_nextToken_182 : decode cX2_nextToken 182 = .ok (.aload_n 0, 1) := dk_42 (dk_at dksX2_nextToken_7 18 rfl rfl)
theorem dX2_nextToken_183 : decode cX2_nextToken 183 = .ok (.aload_n 0, 1) := dk_42 (dk_at dksX2_nextToken_7 19 rfl rfl)
theorem dX2_nextToken_184 : decode cX2_nextToken 184 = .ok (.getfield 121, 3) := dk_180 0 121 (dk_at dksX2_nextToken_7 20 rfl rfl)
theorem dX2_nextToken_187 : decode cX2_nextToken 187 = .ok (.bipush 48, 2) := dk_16 48 (dk_at dksX2_nextToken_8 0 rfl rfl)
theorem dX2_nextToken_189 : decode cX2_nextToken 189 = .ok (.lshr, 1) := dk_123 (dk_at dksX2_nextToken_8 2 rfl rfl)
theorem dX2_nextToken_190 : decode cX2_nextToken 190 = .ok (.lconst 0, 1) := dk_9 (dk_at dksX2_nextToken_8 3 rfl rfl)
theorem dX2_nextToken_191 : decode cX2_nextToken 191 = .ok (.lcmp, 1) := dk_148 (dk_at dksX2_nextToken_8 4 rfl rfl)
theorem dX2_nextToken_192 : decode cX2_nextToken 192 = .ok (.ifCond .eq 9, 3) := dk_153 0 9 (dk_at dksX2_nextToken_8 5 rfl rfl)
theorem dX2_nextToken_195 : decode cX2_nextToken 195 = .ok (.ldc2_w 125, 3) := dk_20 0 125 (dk_at dksX2_nextToken_8 8 rfl rfl)
theorem dX2_nextToken_198 : decode cX2_nextToken 198 = .ok (.goto 20, 3) := dk_167 0 20 (dk_at dksX2_nextToken_8 11 rfl rfl)
theorem dX2_nextToken_201 : decode cX2_nextToken 201 = .ok (.aload_n 0, 1) := dk_42 (dk_at dksX2_nextToken_8 14 rfl rfl)
theorem dX2_nextToken_202 : decode cX2_nextToken 202 = .ok (.getfield 121, 3) := dk_180 0 121 (dk_at dksX2_nextToken_8 15 rfl rfl)
theorem dX2_nextToken_205 : decode cX2_nextToken 205 = .ok (.bipush 8, 2) := dk_16 8 (dk_at dksX2_nextToken_8 18 rfl rfl)
theorem dX2_nextToken_207 : decode cX2_nextToken 207 = .ok (.lshl, 1) := dk_121 (dk_at dksX2_nextToken_8 20 rfl rfl)
theorem dX2_nextToken_208 : decode cX2_nextToken 208 = .ok (.aload_n 0, 1) := dk_42 (dk_at dksX2_nextToken_8 21 rfl rfl)
theorem dX2_nextToken_209 : decode cX2_nextToken 209 = .ok (.aload_n 0, 1) := dk_42 (dk_at dksX2_nextToken_8 22 rfl rfl)
theorem dX2_nextToken_210 : decode cX2_nextToken 210 = .ok (.getfield 98, 3) := dk_180 0 98 (dk_at dksX2_nextToken_9 0 rfl rfl)
theorem dX2_nextToken_213 : decode cX2_nextToken 213 = .ok (.invokevirtual 101, 3) := dk_182 0 101 (dk_at dksX2_nextToken_9 3 rfl rfl)
theorem dX2_nextToken_216 : decode cX2_nextToken 216 = .ok (.i2l, 1) := dk_133 (dk_at dksX2_nextToken_9 6 rfl rfl)
theorem dX2_nextToken_217 : decode cX2_nextToken 217 = .ok (.lor, 1) := dk_129 (dk_at dksX2_nextToken_9 7 rfl rfl)
theorem dX2_nextToken_218 : decode cX2_nextToken 218 = .ok (.putfield 121, 3) := dk_181 0 121 (dk_at dksX2_nextToken_9 8 rfl rfl)
theorem dX2_nextToken_221 : decode cX2_nextToken 221 = .ok (.aload_n 0, 1) := dk_42 (dk_at dksX2_nextToken_9 11 rfl rfl)
theorem dX2_nextToken_222 : decode cX2_nextToken 222 = .ok (.dup, 1) := dk_89 (dk_at dksX2_nextToken_9 12 rfl rfl)
theorem dX2_nextToken_223 : decode cX2_nextToken 223 = .ok (.getfield 98, 3) := dk_180 0 98 (dk_at dksX2_nextToken_9 13 rfl rfl)
theorem dX2_nextToken_226 : decode cX2_nextToken 226 = .ok (.iconst 1, 1) := dk_4 (dk_at dksX2_nextToken_9 16 rfl rfl)
theorem dX2_nextToken_227 : decode cX2_nextToken 227 = .ok (.iadd, 1) := dk_96 (dk_at dksX2_nextToken_9 17 rfl rfl)
theorem dX2_nextToken_228 : decode cX2_nextToken 228 = .ok (.putfield 98, 3) := dk_181 0 98 (dk_at dksX2_nextToken_9 18 rfl rfl)
theorem dX2_nextToken_231 : decode cX2_nextToken 231 = .ok (.goto (-63), 3) := dk_167 255 193 (dk_at dksX2_nextToken_9 21 rfl rfl)
theorem dX2_nextToken_234 : decode cX2_nextToken 234 = .ok (.aload_n 0, 1) := dk_42 (dk_at dksX2_nextToken_10 0 rfl rfl)
theorem dX2_nextToken_235 : decode cX2_nextToken 235 = .ok (.iload_n 1, 1) := dk_27 (dk_at dksX2_nextToken_10 1 rfl rfl)
theorem dX2_nextToken_236 : decode cX2_nextToken 236 = .ok (.invokestatic 127, 3) := dk_184 0 127 (dk_at dksX2_nextToken_10 2 rfl rfl)
theorem dX2_nextToken_239 : decode cX2_nextToken 239 = .ok (.ifCond .eq 7, 3) := dk_153 0 7 (dk_at dksX2_nextToken_10 5 rfl rfl)
theorem dX2_nextToken_242 : decode cX2_nextToken 242 = .ok (.iload_n 1, 1) := dk_27 (dk_at dksX2_nextToken_10 8 rfl rfl)
theorem dX2_nextToken_243 : decode cX2_nextToken 243 = .ok (.goto 4, 3) := dk_167 0 4 (dk_at dksX2_nextToken_10 9 rfl rfl)
theorem dX2_nextToken_246 : decode cX2_nextToken 246 = .ok (.iconst 3, 1) := dk_6 (dk_at dksX2_nextToken_10 12 rfl rfl)
theorem dX2_nextToken_247 : decode cX2_nextToken 247 = .ok (.putfield 108, 3) := dk_181 0 108 (dk_at dksX2_nextToken_10 13 rfl rfl)
theorem dX2_nextToken_250 : decode cX2_nextToken 250 = .ok (.aload_n 0, 1) := dk_42 (dk_at dksX2_nextToken_10 16 rfl rfl)
theorem dX2_nextToken_251 : decode cX2_nextToken 251 = .ok (.dup, 1) := dk_89 (dk_at dksX2_nextToken_10 17 rfl rfl)
theorem dX2_nextToken_252 : decode cX2_nextToken 252 = .ok (.getfield 98, 3) := dk_180 0 98 (dk_at dksX2_nextToken_10 18 rfl rfl)
theorem dX2_nextToken_255 : decode cX2_nextToken 255 = .ok (.iconst 1, 1) := dk_4 (dk_at dksX2_nextToken_10 21 rfl rfl)
theorem dX2_nextToken_256 : decode cX2_nextToken 256 = .ok (.iadd, 1) := dk_96 (dk_at dksX2_nextToken_10 22 rfl rfl)
theorem dX2_nextToken_257 : decode cX2_nextToken 257 = .ok (.putfield 98, 3) := dk_181 0 98 (dk_at dksX2_nextToken_11 0 rfl rfl)
theorem dX2_nextToken_260 : decode cX2_nextToken 260 = .ok (.iload_n 1, 1) := dk_27 (dk_at dksX2_nextToken_11 3 rfl rfl)
theorem dX2_nextToken_261 : decode cX2_nextToken 261 = .ok (.bipush 60, 2) := dk_16 60 (dk_at dksX2_nextToken_11 4 rfl rfl)
theorem dX2_nextToken_263 : decode cX2_nextToken 263 = .ok (.if_icmp .eq 9, 3) := dk_159 0 9 (dk_at dksX2_nextToken_11 6 rfl rfl)
theorem dX2_nextToken_266 : decode cX2_nextToken 266 = .ok (.iload_n 1, 1) := dk_27 (dk_at dksX2_nextToken_11 9 rfl rfl)
theorem dX2_nextToken_267 : decode cX2_nextToken 267 = .ok (.bipush 62, 2) := dk_16 62 (dk_at dksX2_nextToken_11 10 rfl rfl)
theorem dX2_nextToken_269 : decode cX2_nextToken 269 = .ok (.if_icmp .ne 41, 3) := dk_160 0 41 (dk_at dksX2_nextToken_11 12 rfl rfl)
theorem dX2_nextToken_272 : decode cX2_nextToken 272 = .ok (.aload_n 0, 1) := dk_42 (dk_at dksX2_nextToken_11 15 rfl rfl)
theorem dX2_nextToken_273 : decode cX2_nextToken 273 = .ok (.aload_n 0, 1) := dk_42 (dk_at dksX2_nextToken_11 16 rfl rfl)
theorem dX2_nextToken_274 : decode cX2_nextToken 274 = .ok (.getfield 98, 3) := dk_180 0 98 (dk_at dksX2_nextToken_11 17 rfl rfl)
theorem dX2_nextToken_277 : decode cX2_nextToken 277 = .ok (.invokevirtual 101, 3) := dk_182 0 101 (dk_at dksX2_nextToken_11 20 rfl rfl)
theorem dX2_nextToken_280 : decode cX2_nextToken 280 = .ok (.bipush 61, 2) := dk_16 61 (dk_at dksX2_nextToken_12 0 rfl rfl)
theorem dX2_nextToken_282 : decode cX2_nextToken 282 = .ok (.if_icmp .ne 28, 3) := dk_160 0 28 (dk_at dksX2_nextToken_12 2 rfl rfl)
theorem dX2_nextToken_285 : decode cX2_nextToken 285 = .ok (.aload_n 0, 1) := dk_42 (dk_at dksX2_nextToken_12 5 rfl rfl)
theorem dX2_nextToken_286 : decode cX2_nextToken 286 = .ok (.iload_n 1, 1) := dk_27 (dk_at dksX2_nextToken_12 6 rfl rfl)
theorem dX2_nextToken_287 : decode cX2_nextToken 287 = .ok (.bipush 60, 2) := dk_16 60 (dk_at dksX2_nextToken_12 7 rfl rfl)
theorem dX2_nextToken_289 : decode cX2_nextToken 289 = .ok (.if_icmp .ne 7, 3) := dk_160 0 7 (dk_at dksX2_nextToken_12 9 rfl rfl)
theorem dX2_nextToken_292 : decode cX2_nextToken 292 = .ok (.iconst 4, 1) := dk_7 (dk_at dksX2_nextToken_12 12 rfl rfl)
theorem dX2_nextToken_293 : decode cX2_nextToken 293 = .ok (.goto 4, 3) := dk_167 0 4 (dk_at dksX2_nextToken_12 13 rfl rfl)
theorem dX2_nextToken_296 : decode cX2_nextToken 296 = .ok (.iconst 5, 1) := dk_8 (dk_at dksX2_nextToken_12 16 rfl rfl)
theorem dX2_nextToken_297 : decode cX2_nextToken 297 = .ok (.putfield 108, 3) := dk_181 0 108 (dk_at dksX2_nextToken_12 17 rfl rfl)
theorem dX2_nextToken_300 : decode cX2_nextToken 300 = .ok (.aload_n 0, 1) := dk_42 (dk_at dksX2_nextToken_12 20 rfl rfl)
theorem dX2_nextToken_301 : decode cX2_nextToken 301 = .ok (.dup, 1) := dk_89 (dk_at dksX2_nextToken_12 21 rfl rfl)
theorem dX2_nextToken_302 : decode cX2_nextToken 302 = .ok (.getfield 98, 3) := dk_180 0 98 (dk_at dksX2_nextToken_13 0 rfl rfl)
theorem dX2_nextToken_305 : decode cX2_nextToken 305 = .ok (.iconst 1, 1) := dk_4 (dk_at dksX2_nextToken_13 3 rfl rfl)
theorem dX2_nextToken_306 : decode cX2_nextToken 306 = .ok (.iadd, 1) := dk_96 (dk_at dksX2_nextToken_13 4 rfl rfl)
theorem dX2_nextToken_307 : decode cX2_nextToken 307 = .ok (.putfield 98, 3) := dk_181 0 98 (dk_at dksX2_nextToken_13 5 rfl rfl)
theorem dX2_nextToken_310 : decode cX2_nextToken 310 = .ok (.return_, 1) := dk_177 (dk_at dksX2_nextToken_13 8 rfl rfl)
abbrev cX2_byteAt : ByteArray := prog_19_method_18_code
def yX2_byteAt : MethodName := ⟨RX2, "byteAt", "(I)I"⟩
def dkwX2_byteAt_0 : List UInt8 := [27, 42, 180, 0, 92, 162, 0, 12, 42, 180, 0, 19, 27, 46, 167, 0, 4, 2, 172]
abbrev dktX2_byteAt_0 : List UInt8 := dkwX2_byteAt_0 ++ []
theorem dksX2_byteAt_0 : cX2_byteAt.data.toList.drop 0 = dktX2_byteAt_0 := by decide +kernel
theorem dX2_byteAt_0 : decode cX2_byteAt 0 = .ok (.iload_n 1, 1) := dk_27 (dk_at dksX2_byteAt_0 0 rfl rfl)
theorem dX2_byteAt_1 : decode cX2_byteAt 1 = .ok (.aload_n 0, 1) := dk_42 (dk_at dksX2_byteAt_0 1 rfl rfl)
theorem dX2_byteAt_2 : decode cX2_byteAt 2 = .ok (.getfield 92, 3) := dk_180 0 92 (dk_at dksX2_byteAt_0 2 rfl rfl)
theorem dX2_byteAt_5 : decode cX2_byteAt 5 = .ok (.if_icmp .ge 12, 3) := dk_162 0 12 (dk_at dksX2_byteAt_0 5 rfl rfl)
theorem dX2_byteAt_8 : decode cX2_byteAt 8 = .ok (.aload_n 0, 1) := dk_42 (dk_at dksX2_byteAt_0 8 rfl rfl)
theorem dX2_byteAt_9 : decode cX2_byteAt 9 = .ok (.getfield 19, 3) := dk_180 0 19 (dk_at dksX2_byteAt_0 9 rfl rfl)
theorem dX2_byteAt_12 : decode cX2_byteAt 12 = .ok (.iload_n 1, 1) := dk_27 (dk_at dksX2_byteAt_0 12 rfl rfl)
theorem dX2_byteAt_13 : decode cX2_byteAt 13 = .ok (.iaload, 1) := dk_46 (dk_at dksX2_byteAt_0 13 rfl rfl)
theorem dX2_byteAt_14 : decode cX2_byteAt 14 = .ok (.goto 4, 3) := dk_167 0 4 (dk_at dksX2_byteAt_0 14 rfl rfl)
theorem dX2_byteAt_17 : decode cX2_byteAt 17 = .ok (.iconst (-1), 1) := dk_2 (dk_at dksX2_byteAt_0 17 rfl rfl)
theorem dX2_byteAt_18 : decode cX2_byteAt 18 = .ok (.ireturn, 1) := dk_172 (dk_at dksX2_byteAt_0 18 rfl rfl)
abbrev cX2_isFigure : ByteArray := prog_19_method_20_code
def yX2_isFigure : MethodName := ⟨RX2, "isFigure", "(I)Z"⟩
def dkwX2_isFigure_0 : List UInt8 := [26, 16, 48, 161, 0, 13, 26, 16, 57, 163, 0, 7, 4, 167, 0, 4, 3, 172]
abbrev dktX2_isFigure_0 : List UInt8 := dkwX2_isFigure_0 ++ []
theorem dksX2_isFigure_0 : cX2_isFigure.data.toList.drop 0 = dktX2_isFigure_0 := by decide +kernel
theorem dX2_isFigure_0 : decode cX2_isFigure 0 = .ok (.iload_n 0, 1) := dk_26 (dk_at dksX2_isFigure_0 0 rfl rfl)
theorem dX2_isFigure_1 : decode cX2_isFigure 1 = .ok (.bipush 48, 2) := dk_16 48 (dk_at dksX2_isFigure_0 1 rfl rfl)
theorem dX2_isFigure_3 : decode cX2_isFigure 3 = .ok (.if_icmp .lt 13, 3) := dk_161 0 13 (dk_at dksX2_isFigure_0 3 rfl rfl)
theorem dX2_isFigure_6 : decode cX2_isFigure 6 = .ok (.iload_n 0, 1) := dk_26 (dk_at dksX2_isFigure_0 6 rfl rfl)
theorem dX2_isFigure_7 : decode cX2_isFigure 7 = .ok (.bipush 57, 2) := dk_16 57 (dk_at dksX2_isFigure_0 7 rfl rfl)
theorem dX2_isFigure_9 : decode cX2_isFigure 9 = .ok (.if_icmp .gt 7, 3) := dk_163 0 7 (dk_at dksX2_isFigure_0 9 rfl rfl)
theorem dX2_isFigure_12 : decode cX2_isFigure 12 = .ok (.iconst 1, 1) := dk_4 (dk_at dksX2_isFigure_0 12 rfl rfl)
theorem dX2_isFigure_13 : decode cX2_isFigure 13 = .ok (.goto 4, 3) := dk_167 0 4 (dk_at dksX2_isFigure_0 13 rfl rfl)
theorem dX2_isFigure_16 : decode cX2_isFigure 16 = .ok (.iconst 0, 1) := dk_3 (dk_at dksX2_isFigure_0 16 rfl rfl)
theorem dX2_isFigure_17 : decode cX2_isFigure 17 = .ok (.ireturn, 1) := dk_172 (dk_at dksX2_isFigure_0 17 rfl rfl)
abbrev cX2_isLetterByte : ByteArray := prog_19_method_19_code
def yX2_isLetterByte : MethodName := ⟨RX2, "isLetterByte", "(I)Z"⟩
def dkwX2_isLetterByte_1 : List UInt8 := [4, 167, 0, 4, 3, 172]
abbrev dktX2_isLetterByte_1 : List UInt8 := dkwX2_isLetterByte_1 ++ []
def dkwX2_isLetterByte_0 : List UInt8 := [26, 16, 97, 161, 0, 9, 26, 16, 122, 164, 0, 15, 26, 16, 65, 161, 0, 13, 26, 16, 90, 163, 0, 7]
abbrev dktX2_isLetterByte_0 : List UInt8 := dkwX2_isLetterByte_0 ++ dktX2_isLetterByte_1
theorem dksX2_isLetterByte_0 : cX2_isLetterByte.data.toList.drop 0 = dktX2_isLetterByte_0 := by decide +kernel
theorem dksX2_isLetterByte_1 : cX2_isLetterByte.data.toList.drop 24 = dktX2_isLetterByte_1 := dk_seg dksX2_isLetterByte_0 24 rfl rfl
theorem dX2_isLetterByte_0 : decode cX2_isLetterByte 0 = .ok (.iload_n 0, 1) := dk_26 (dk_at dksX2_isLetterByte_0 0 rfl rfl)
theorem dX2_isLetterByte_1 : decode cX2_isLetterByte 1 = .ok (.bipush 97, 2) := dk_16 97 (dk_at dksX2_isLetterByte_0 1 rfl rfl)
theorem dX2_isLetterByte_3 : decode cX2_isLetterByte 3 = .ok (.if_icmp .lt 9, 3) := dk_161 0 9 (dk_at dksX2_isLetterByte_0 3 rfl rfl)
theorem dX2_isLetterByte_6 : decode cX2_isLetterByte 6 = .ok (.iload_n 0, 1) := dk_26 (dk_at dksX2_isLetterByte_0 6 rfl rfl)
theorem dX2_isLetterByte_7 : decode cX2_isLetterByte 7 = .ok (.bipush 122, 2) := dk_16 122 (dk_at dksX2_isLetterByte_0 7 rfl rfl)
theorem dX2_isLetterByte_9 : decode cX2_isLetterByte 9 = .ok (.if_icmp .le 15, 3) := dk_164 0 15 (dk_at dksX2_isLetterByte_0 9 rfl rfl)
theorem dX2_isLetterByte_12 : decode cX2_isLetterByte 12 = .ok (.iload_n 0, 1) := dk_26 (dk_at dksX2_isLetterByte_0 12 rfl rfl)
theorem dX2_isLetterByte_13 : decode cX2_isLetterByte 13 = .ok (.bipush 65, 2) := dk_16 65 (dk_at dksX2_isLetterByte_0 13 rfl rfl)
theorem dX2_isLetterByte_15 : decode cX2_isLetterByte 15 = .ok (.if_icmp .lt 13, 3) := dk_161 0 13 (dk_at dksX2_isLetterByte_0 15 rfl rfl)
theorem dX2_isLetterByte_18 : decode cX2_isLetterByte 18 = .ok (.iload_n 0, 1) := dk_26 (dk_at dksX2_isLetterByte_0 18 rfl rfl)
theorem dX2_isLetterByte_19 : decode cX2_isLetterByte 19 = .ok (.bipush 90, 2) := dk_16 90 (dk_at dksX2_isLetterByte_0 19 rfl rfl)
theorem dX2_isLetterByte_21 : decode cX2_isLetterByte 21 = .ok (.if_icmp .gt 7, 3) := dk_163 0 7 (dk_at dksX2_isLetterByte_0 21 rfl rfl)
theorem dX2_isLetterByte_24 : decode cX2_isLetterByte 24 = .ok (.iconst 1, 1) := dk_4 (dk_at dksX2_isLetterByte_1 0 rfl rfl)
theorem dX2_isLetterByte_25 : decode cX2_isLetterByte 25 = .ok (.goto 4, 3) := dk_167 0 4 (dk_at dksX2_isLetterByte_1 1 rfl rfl)
theorem dX2_isLetterByte_28 : decode cX2_isLetterByte 28 = .ok (.iconst 0, 1) := dk_3 (dk_at dksX2_isLetterByte_1 4 rfl rfl)
theorem dX2_isLetterByte_29 : decode cX2_isLetterByte 29 = .ok (.ireturn, 1) := dk_172 (dk_at dksX2_isLetterByte_1 5 rfl rfl)
abbrev cX2_isSign : ByteArray := prog_19_method_21_code
def yX2_isSign : MethodName := ⟨RX2, "isSign", "(I)Z"⟩
def dkwX2_isSign_2 : List UInt8 := [4, 172, 3, 172]
abbrev dktX2_isSign_2 : List UInt8 := dkwX2_isSign_2 ++ []
def dkwX2_isSign_1 : List UInt8 := [170, 0, 0, 0, 0, 0, 129, 0, 0, 0, 35, 0, 0, 0, 62, 0, 0, 0, 127, 0, 0, 0, 129, 0, 0, 0, 129, 0, 0, 0, 129, 0, 0, 0, 129, 0, 0, 0, 127, 0, 0, 0, 127, 0, 0, 0, 127, 0, 0, 0, 127, 0, 0, 0, 129, 0, 0, 0, 127, 0, 0, 0, 129, 0, 0, 0, 127, 0, 0, 0, 129, 0, 0, 0, 129, 0, 0, 0, 129, 0, 0, 0, 129, 0, 0, 0, 129, 0, 0, 0, 129, 0, 0, 0, 129, 0, 0, 0, 129, 0, 0, 0, 129, 0, 0, 0, 129, 0, 0, 0, 127, 0, 0, 0, 127, 0, 0, 0, 127, 0, 0, 0, 127, 0, 0, 0, 127]
abbrev dktX2_isSign_1 : List UInt8 := dkwX2_isSign_1 ++ dktX2_isSign_2
def dkwX2_isSign_0 : List UInt8 := [26]
abbrev dktX2_isSign_0 : List UInt8 := dkwX2_isSign_0 ++ dktX2_isSign_1
theorem dksX2_isSign_0 : cX2_isSign.data.toList.drop 0 = dktX2_isSign_0 := by decide +kernel
theorem dksX2_isSign_1 : cX2_isSign.data.toList.drop 1 = dktX2_isSign_1 := dk_seg dksX2_isSign_0 1 rfl rfl
theorem dksX2_isSign_2 : cX2_isSign.data.toList.drop 128 = dktX2_isSign_2 := dk_seg dksX2_isSign_1 127 rfl rfl
theorem dX2_isSign_0 : decode cX2_isSign 0 = .ok (.iload_n 0, 1) := dk_26 (dk_at dksX2_isSign_0 0 rfl rfl)
theorem dX2_isSign_1 : decode cX2_isSign 1 = .ok (.tableswitch 129 35 62 #[127, 129, 129, 129, 129, 127, 127, 127, 127, 129, 127, 129, 127, 129, 129, 129, 129, 129, 129, 129, 129, 129, 129, 127, 127, 127, 127, 127], 127) := by decide +kernel
theorem dX2_isSign_128 : decode cX2_isSign 128 = .ok (.iconst 1, 1) := dk_4 (dk_at dksX2_isSign_2 0 rfl rfl)
theorem dX2_isSign_129 : decode cX2_isSign 129 = .ok (.ireturn, 1) := dk_172 (dk_at dksX2_isSign_2 1 rfl rfl)
theorem dX2_isSign_130 : decode cX2_isSign 130 = .ok (.iconst 0, 1) := dk_3 (dk_at dksX2_isSign_2 2 rfl rfl)
theorem dX2_isSign_131 : decode cX2_isSign 131 = .ok (.ireturn, 1) := dk_172 (dk_at dksX2_isSign_2 3 rfl rfl)
abbrev cX2_clause : ByteArray := prog_19_method_51_code
def yX2_clause : MethodName := ⟨RX2, "clause", "()I"⟩
def dkwX2_clause_5 : List UInt8 := [96, 79, 42, 180, 0, 108, 16, 59, 159, 0, 5, 4, 172, 42, 182, 0, 184, 3, 172]
abbrev dktX2_clause_5 : List UInt8 := dkwX2_clause_5 ++ []
def dkwX2_clause_4 : List UInt8 := [182, 0, 253, 54, 4, 21, 4, 153, 0, 6, 21, 4, 172, 42, 180, 0, 16, 42, 180, 0, 146, 92, 46, 4]
abbrev dktX2_clause_4 : List UInt8 := dkwX2_clause_4 ++ dktX2_clause_5
def dkwX2_clause_3 : List UInt8 := [182, 0, 184, 42, 180, 0, 146, 4, 96, 7, 28, 104, 96, 62, 42, 180, 0, 16, 29, 27, 79, 42, 27, 29]
abbrev dktX2_clause_3 : List UInt8 := dkwX2_clause_3 ++ dktX2_clause_4
def dkwX2_clause_2 : List UInt8 := [27, 5, 163, 0, 15, 42, 89, 180, 0, 250, 4, 27, 120, 128, 181, 0, 250, 42, 27, 181, 0, 191, 42]
abbrev dktX2_clause_2 : List UInt8 := dkwX2_clause_2 ++ dktX2_clause_3
def dkwX2_clause_1 : List UInt8 := [153, 0, 5, 7, 172, 42, 180, 0, 16, 42, 180, 0, 146, 46, 61, 28, 16, 24, 160, 0, 6, 16, 6, 172]
abbrev dktX2_clause_1 : List UInt8 := dkwX2_clause_1 ++ dktX2_clause_2
def dkwX2_clause_0 : List UInt8 := [42, 182, 0, 247, 60, 27, 156, 0, 5, 4, 172, 27, 5, 163, 0, 16, 42, 180, 0, 250, 27, 184, 0, 80]
abbrev dktX2_clause_0 : List UInt8 := dkwX2_clause_0 ++ dktX2_clause_1
theorem dksX2_clause_0 : cX2_clause.data.toList.drop 0 = dktX2_clause_0 := by decide +kernel
theorem dksX2_clause_1 : cX2_clause.data.toList.drop 24 = dktX2_clause_1 := dk_seg dksX2_clause_0 24 rfl rfl
theorem dksX2_clause_2 : cX2_clause.data.toList.drop 48 = dktX2_clause_2 := dk_seg dksX2_clause_1 24 rfl rfl
theorem dksX2_clause_3 : cX2_clause.data.toList.drop 71 = dktX2_clause_3 := dk_seg dksX2_clause_2 23 rfl rfl
theorem dksX2_clause_4 : cX2_clause.data.toList.drop 95 = dktX2_clause_4 := dk_seg dksX2_clause_3 24 rfl rfl
theorem dksX2_clause_5 : cX2_clause.data.toList.drop 119 = dktX2_clause_5 := dk_seg dksX2_clause_4 24 rfl rfl
theorem dX2_clause_0 : decode cX2_clause 0 = .ok (.aload_n 0, 1) := dk_42 (dk_at dksX2_clause_0 0 rfl rfl)
theorem dX2_clause_1 : decode cX2_clause 1 = .ok (.invokevirtual 247, 3) := dk_182 0 247 (dk_at dksX2_clause_0 1 rfl rfl)
theorem dX2_clause_4 : decode cX2_clause 4 = .ok (.istore_n 1, 1) := dk_60 (dk_at dksX2_clause_0 4 rfl rfl)
theorem dX2_clause_5 : decode cX2_clause 5 = .ok (.iload_n 1, 1) := dk_27 (dk_at dksX2_clause_0 5 rfl rfl)
theorem dX2_clause_6 : decode cX2_clause 6 = .ok (.ifCond .ge 5, 3) := dk_156 0 5 (dk_at dksX2_clause_0 6 rfl rfl)
theorem dX2_clause_9 : decode cX2_clause 9 = .ok (.iconst 1, 1) := dk_4 (dk_at dksX2_clause_0 9 rfl rfl)
theorem dX2_clause_10 : decode cX2_clause 10 = .ok (.ireturn, 1) := dk_172 (dk_at dksX2_clause_0 10 rfl rfl)
theorem dX2_clause_11 : decode cX2_clause 11 = .ok (.iload_n 1, 1) := dk_27 (dk_at dksX2_clause_0 11 rfl rfl)
theorem dX2_clause_12 : decode cX2_clause 12 = .ok (.iconst 2, 1) := dk_5 (dk_at dksX2_clause_0 12 rfl rfl)
theorem dX2_clause_13 : decode cX2_clause 13 = .ok (.if_icmp .gt 16, 3) := dk_163 0 16 (dk_at dksX2_clause_0 13 rfl rfl)
theorem dX2_clause_16 : decode cX2_clause 16 = .ok (.aload_n 0, 1) := dk_42 (dk_at dksX2_clause_0 16 rfl rfl)
theorem dX2_clause_17 : decode cX2_clause 17 = .ok (.getfield 250, 3) := dk_180 0 250 (dk_at dksX2_clause_0 17 rfl rfl)
theorem dX2_clause_20 : decode cX2_clause 20 = .ok (.iload_n 1, 1) := dk_27 (dk_at dksX2_clause_0 20 rfl rfl)
theorem dX2_clause_21 : decode cX2_clause 21 = .ok (.invokestatic 80, 3) := dk_184 0 80 (dk_at dksX2_clause_0 21 rfl rfl)
theorem dX2_clause_24 : decode cX2_clause 24 = .ok (.ifCond .eq 5, 3) := dk_153 0 5 (dk_at dksX2_clause_1 0 rfl rfl)
theorem dX2_clause_27 : decode cX2_clause 27 = .ok (.iconst 4, 1) := dk_7 (dk_at dksX2_clause_1 3 rfl rfl)
theorem dX2_clause_28 : decode cX2_clause 28 = .ok (.ireturn, 1) := dk_172 (dk_at dksX2_clause_1 4 rfl rfl)
theorem dX2_clause_29 : decode cX2_clause 29 = .ok (.aload_n 0, 1) := dk_42 (dk_at dksX2_clause_1 5 rfl rfl)
theorem dX2_clause_30 : decode cX2_clause 30 = .ok (.getfield 16, 3) := dk_180 0 16 (dk_at dksX2_clause_1 6 rfl rfl)
theorem dX2_clause_33 : decode cX2_clause 33 = .ok (.aload_n 0, 1) := dk_42 (dk_at dksX2_clause_1 9 rfl rfl)
theorem dX2_clause_34 : decode cX2_clause 34 = .ok (.getfield 146, 3) := dk_180 0 146 (dk_at dksX2_clause_1 10 rfl rfl)
theorem dX2_clause_37 : decode cX2_clause 37 = .ok (.iaload, 1) := dk_46 (dk_at dksX2_clause_1 13 rfl rfl)
theorem dX2_clause_38 : decode cX2_clause 38 = .ok (.istore_n 2, 1) := dk_61 (dk_at dksX2_clause_1 14 rfl rfl)
theorem dX2_clause_39 : decode cX2_clause 39 = .ok (.iload_n 2, 1) := dk_28 (dk_at dksX2_clause_1 15 rfl rfl)
theorem dX2_clause_40 : decode cX2_clause 40 = .ok (.bipush 24, 2) := dk_16 24 (dk_at dksX2_clause_1 16 rfl rfl)
theorem dX2_clause_42 : decode cX2_clause 42 = .ok (.if_icmp .ne 6, 3) := dk_160 0 6 (dk_at dksX2_clause_1 18 rfl rfl)
theorem dX2_clause_45 : decode cX2_clause 45 = .ok (.bipush 6, 2) := dk_16 6 (dk_at dksX2_clause_1 21 rfl rfl)
theorem dX2_clause_47 : decode cX2_clause 47 = .ok (.ireturn, 1) := dk_172 (dk_at dksX2_clause_1 23 rfl rfl)
theorem dX2_clause_48 : decode cX2_clause 48 = .ok (.iload_n 1, 1) := dk_27 (dk_at dksX2_clause_2 0 rfl rfl)
theorem dX2_clause_49 : decode cX2_clause 49 = .ok (.iconst 2, 1) := dk_5 (dk_at dksX2_clause_2 1 rfl rfl)
theorem dX2_clause_50 : decode cX2_clause 50 = .ok (.if_icmp .gt 15, 3) := dk_163 0 15 (dk_at dksX2_clause_2 2 rfl rfl)
theorem dX2_clause_53 : decode cX2_clause 53 = .ok (.aload_n 0, 1) := dk_42 (dk_at dksX2_clause_2 5 rfl rfl)
theorem dX2_clause_54 : decode cX2_clause 54 = .ok (.dup, 1) := dk_89 (dk_at dksX2_clause_2 6 rfl rfl)
theorem dX2_clause_55 : decode cX2_clause 55 = .ok (.getfield 250, 3) := dk_180 0 250 (dk_at dksX2_clause_2 7 rfl rfl)
theorem dX2_clause_58 : decode cX2_clause 58 = .ok (.iconst 1, 1) := dk_4 (dk_at dksX2_clause_2 10 rfl rfl)
theorem dX2_clause_59 : decode cX2_clause 59 = .ok (.iload_n 1, 1) := dk_27 (dk_at dksX2_clause_2 11 rfl rfl)
theorem dX2_clause_60 : decode cX2_clause 60 = .ok (.ishl, 1) := dk_120 (dk_at dksX2_clause_2 12 rfl rfl)
theorem dX2_clause_61 : decode cX2_clause 61 = .ok (.ior, 1) := dk_128 (dk_at dksX2_clause_2 13 rfl rfl)
theorem dX2_clause_62 : decode cX2_clause 62 = .ok (.putfield 250, 3) := dk_181 0 250 (dk_at dksX2_clause_2 14 rfl rfl)
theorem dX2_clause_65 : decode cX2_clause 65 = .ok (.aload_n 0, 1) := dk_42 (dk_at dksX2_clause_2 17 rfl rfl)
theorem dX2_clause_66 : decode cX2_clause 66 = .ok (.iload_n 1, 1) := dk_27 (dk_at dksX2_clause_2 18 rfl rfl)
theorem dX2_clause_67 : decode cX2_clause 67 = .ok (.putfield 191, 3) := dk_181 0 191 (dk_at dksX2_clause_2 19 rfl rfl)
theorem dX2_clause_70 : decode cX2_clause 70 = .ok (.aload_n 0, 1) := dk_42 (dk_at dksX2_clause_2 22 rfl rfl)
theorem dX2_clause_71 : decode cX2_clause 71 = .ok (.invokevirtual 184, 3) := dk_182 0 184 (dk_at dksX2_clause_3 0 rfl rfl)
theorem dX2_clause_74 : decode cX2_clause 74 = .ok (.aload_n 0, 1) := dk_42 (dk_at dksX2_clause_3 3 rfl rfl)
theorem dX2_clause_75 : decode cX2_clause 75 = .ok (.getfield 146, 3) := dk_180 0 146 (dk_at dksX2_clause_3 4 rfl rfl)
theorem dX2_clause_78 : decode cX2_clause 78 = .ok (.iconst 1, 1) := dk_4 (dk_at dksX2_clause_3 7 rfl rfl)
theorem dX2_clause_79 : decode cX2_clause 79 = .ok (.iadd, 1) := dk_96 (dk_at dksX2_clause_3 8 rfl rfl)
theorem dX2_clause_80 : decode cX2_clause 80 = .ok (.iconst 4, 1) := dk_7 (dk_at dksX2_clause_3 9 rfl rfl)
theorem dX2_clause_81 : decode cX2_clause 81 = .ok (.iload_n 2, 1) := dk_28 (dk_at dksX2_clause_3 10 rfl rfl)
theorem dX2_clause_82 : decode cX2_clause 82 = .ok (.imul, 1) := dk_104 (dk_at dksX2_clause_3 11 rfl rfl)
theorem dX2_clause_83 : decode cX2_clause 83 = .ok (.iadd, 1) := dk_96 (dk_at dksX2_clause_3 12 rfl rfl)
theorem dX2_clause_84 : decode cX2_clause 84 = .ok (.istore_n 3, 1) := dk_62 (dk_at dksX2_clause_3 13 rfl rfl)
theorem dX2_clause_85 : decode cX2_clause 85 = .ok (.aload_n 0, 1) := dk_42 (dk_at dksX2_clause_3 14 rfl rfl)
theorem dX2_clause_86 : decode cX2_clause 86 = .ok (.getfield 16, 3) := dk_180 0 16 (dk_at dksX2_clause_3 15 rfl rfl)
theorem dX2_clause_89 : decode cX2_clause 89 = .ok (.iload_n 3, 1) := dk_29 (dk_at dksX2_clause_3 18 rfl rfl)
theorem dX2_clause_90 : decode cX2_clause 90 = .ok (.iload_n 1, 1) := dk_27 (dk_at dksX2_clause_3 19 rfl rfl)
theorem dX2_clause_91 : decode cX2_clause 91 = .ok (.iastore, 1) := dk_79 (dk_at dksX2_clause_3 20 rfl rfl)
theorem dX2_clause_92 : decode cX2_clause 92 = .ok (.aload_n 0, 1) := dk_42 (dk_at dksX2_clause_3 21 rfl rfl)
theorem dX2_clause_93 : decode cX2_clause 93 = .ok (.iload_n 1, 1) := dk_27 (dk_at dksX2_clause_3 22 rfl rfl)
theorem dX2_clause_94 : decode cX2_clause 94 = .ok (.iload_n 3, 1) := dk_29 (dk_at dksX2_clause_3 23 rfl rfl)
theorem dX2_clause_95 : decode cX2_clause 95 = .ok (.invokevirtual 253, 3) := dk_182 0 253 (dk_at dksX2_clause_4 0 rfl rfl)
theorem dX2_clause_98 : decode cX2_clause 98 = .ok (.istore 4, 2) := dk_54 4 (dk_at dksX2_clause_4 3 rfl rfl)
theorem dX2_clause_100 : decode cX2_clause 100 = .ok (.iload 4, 2) := dk_21 4 (dk_at dksX2_clause_4 5 rfl rfl)
theorem dX2_clause_102 : decode cX2_clause 102 = .ok (.ifCond .eq 6, 3) := dk_153 0 6 (dk_at dksX2_clause_4 7 rfl rfl)
theorem dX2_clause_105 : decode cX2_clause 105 = .ok (.iload 4, 2) := dk_21 4 (dk_at dksX2_clause_4 10 rfl rfl)
theorem dX2_clause_107 : decode cX2_clause 107 = .ok (.ireturn, 1) := dk_172 (dk_at dksX2_clause_4 12 rfl rfl)
theorem dX2_clause_108 : decode cX2_clause 108 = .ok (.aload_n 0, 1) := dk_42 (dk_at dksX2_clause_4 13 rfl rfl)
theorem dX2_clause_109 : decode cX2_clause 109 = .ok (.getfield 16, 3) := dk_180 0 16 (dk_at dksX2_clause_4 14 rfl rfl)
theorem dX2_clause_112 : decode cX2_clause 112 = .ok (.aload_n 0, 1) := dk_42 (dk_at dksX2_clause_4 17 rfl rfl)
theorem dX2_clause_113 : decode cX2_clause 113 = .ok (.getfield 146, 3) := dk_180 0 146 (dk_at dksX2_clause_4 18 rfl rfl)
theorem dX2_clause_116 : decode cX2_clause 116 = .ok (.dup2, 1) := dk_92 (dk_at dksX2_clause_4 21 rfl rfl)
theorem dX2_clause_117 : decode cX2_clause 117 = .ok (.iaload, 1) := dk_46 (dk_at dksX2_clause_4 22 rfl rfl)
theorem dX2_clause_118 : decode cX2_clause 118 = .ok (.iconst 1, 1) := dk_4 (dk_at dksX2_clause_4 23 rfl rfl)
theorem dX2_clause_119 : decode cX2_clause 119 = .ok (.iadd, 1) := dk_96 (dk_at dksX2_clause_5 0 rfl rfl)
theorem dX2_clause_120 : decode cX2_clause 120 = .ok (.iastore, 1) := dk_79 (dk_at dksX2_clause_5 1 rfl rfl)
theorem dX2_clause_121 : decode cX2_clause 121 = .ok (.aload_n 0, 1) := dk_42 (dk_at dksX2_clause_5 2 rfl rfl)
theorem dX2_clause_122 : decode cX2_clause 122 = .ok (.getfield 108, 3) := dk_180 0 108 (dk_at dksX2_clause_5 3 rfl rfl)
theorem dX2_clause_125 : decode cX2_clause 125 = .ok (.bipush 59, 2) := dk_16 59 (dk_at dksX2_clause_5 6 rfl rfl)
theorem dX2_clause_127 : decode cX2_clause 127 = .ok (.if_icmp .eq 5, 3) := dk_159 0 5 (dk_at dksX2_clause_5 8 rfl rfl)
theorem dX2_clause_130 : decode cX2_clause 130 = .ok (.iconst 1, 1) := dk_4 (dk_at dksX2_clause_5 11 rfl rfl)
theorem dX2_clause_131 : decode cX2_clause 131 = .ok (.ireturn, 1) := dk_172 (dk_at dksX2_clause_5 12 rfl rfl)
theorem dX2_clause_132 : decode cX2_clause 132 = .ok (.aload_n 0, 1) := dk_42 (dk_at dksX2_clause_5 13 rfl rfl)
theorem dX2_clause_133 : decode cX2_clause 133 = .ok (.invokevirtual 184, 3) := dk_182 0 184 (dk_at dksX2_clause_5 14 rfl rfl)
theorem dX2_clause_136 : decode cX2_clause 136 = .ok (.iconst 0, 1) := dk_3 (dk_at dksX2_clause_5 17 rfl rfl)
theorem dX2_clause_137 : decode cX2_clause 137 = .ok (.ireturn, 1) := dk_172 (dk_at dksX2_clause_5 18 rfl rfl)
abbrev cX2_sortOf : ByteArray := prog_19_method_50_code
def yX2_sortOf : MethodName := ⟨RX2, "sortOf", "()I"⟩
def dkwX2_sortOf_8 : List UInt8 := [153, 0, 8, 16, 8, 167, 0, 4, 2, 172]
abbrev dktX2_sortOf_8 : List UInt8 := dkwX2_sortOf_8 ++ []
def dkwX2_sortOf_7 : List UInt8 := [182, 0, 200, 153, 0, 8, 16, 7, 167, 0, 25, 42, 16, 100, 16, 97, 16, 121, 184, 0, 134, 182, 0, 200]
abbrev dktX2_sortOf_7 : List UInt8 := dkwX2_sortOf_7 ++ dktX2_sortOf_8
def dkwX2_sortOf_6 : List UInt8 := [153, 0, 6, 16, 6, 172, 42, 16, 102, 16, 111, 16, 114, 16, 103, 16, 101, 16, 116, 184, 0, 160]
abbrev dktX2_sortOf_6 : List UInt8 := dkwX2_sortOf_6 ++ dktX2_sortOf_7
def dkwX2_sortOf_5 : List UInt8 := [184, 0, 142, 182, 0, 200, 153, 0, 5, 8, 172, 42, 16, 104, 16, 97, 16, 116, 184, 0, 134, 182, 0, 200]
abbrev dktX2_sortOf_5 : List UInt8 := dkwX2_sortOf_5 ++ dktX2_sortOf_6
def dkwX2_sortOf_4 : List UInt8 := [16, 107, 184, 0, 142, 182, 0, 200, 153, 0, 5, 7, 172, 42, 16, 109, 16, 97, 16, 114, 16, 114, 16, 121]
abbrev dktX2_sortOf_4 : List UInt8 := dkwX2_sortOf_4 ++ dktX2_sortOf_5
def dkwX2_sortOf_3 : List UInt8 := [16, 115, 16, 101, 184, 0, 142, 182, 0, 200, 153, 0, 5, 6, 172, 42, 16, 107, 16, 110, 16, 111, 16, 99]
abbrev dktX2_sortOf_3 : List UInt8 := dkwX2_sortOf_3 ++ dktX2_sortOf_4
def dkwX2_sortOf_2 : List UInt8 := [16, 101, 16, 116, 16, 115, 184, 0, 138, 182, 0, 200, 153, 0, 5, 5, 172, 42, 16, 104, 16, 111, 16, 117]
abbrev dktX2_sortOf_2 : List UInt8 := dkwX2_sortOf_2 ++ dktX2_sortOf_3
def dkwX2_sortOf_1 : List UInt8 := [16, 108, 16, 111, 16, 115, 16, 101, 16, 115, 184, 0, 142, 182, 0, 200, 153, 0, 5, 4, 172, 42, 16, 108]
abbrev dktX2_sortOf_1 : List UInt8 := dkwX2_sortOf_1 ++ dktX2_sortOf_2
def dkwX2_sortOf_0 : List UInt8 := [42, 16, 101, 16, 97, 16, 114, 16, 110, 16, 115, 184, 0, 142, 182, 0, 200, 153, 0, 5, 3, 172, 42]
abbrev dktX2_sortOf_0 : List UInt8 := dkwX2_sortOf_0 ++ dktX2_sortOf_1
theorem dksX2_sortOf_0 : cX2_sortOf.data.toList.drop 0 = dktX2_sortOf_0 := by decide +kernel
theorem dksX2_sortOf_1 : cX2_sortOf.data.toList.drop 23 = dktX2_sortOf_1 := dk_seg dksX2_sortOf_0 23 rfl rfl
theorem dksX2_sortOf_2 : cX2_sortOf.data.toList.drop 47 = dktX2_sortOf_2 := dk_seg dksX2_sortOf_1 24 rfl rfl
theorem dksX2_sortOf_3 : cX2_sortOf.data.toList.drop 71 = dktX2_sortOf_3 := dk_seg dksX2_sortOf_2 24 rfl rfl
theorem dksX2_sortOf_4 : cX2_sortOf.data.toList.drop 95 = dktX2_sortOf_4 := dk_seg dksX2_sortOf_3 24 rfl rfl
theorem dksX2_sortOf_5 : cX2_sortOf.data.toList.drop 119 = dktX2_sortOf_5 := dk_seg dksX2_sortOf_4 24 rfl rfl
theorem dksX2_sortOf_6 : cX2_sortOf.data.toList.drop 143 = dktX2_sortOf_6 := dk_seg dksX2_sortOf_5 24 rfl rfl
theorem dksX2_sortOf_7 : cX2_sortOf.data.toList.drop 165 = dktX2_sortOf_7 := dk_seg dksX2_sortOf_6 22 rfl rfl
theorem dksX2_sortOf_8 : cX2_sortOf.data.toList.drop 189 = dktX2_sortOf_8 := dk_seg dksX2_sortOf_7 24 rfl rfl
theorem dX2_sortOf_0 : decode cX2_sortOf 0 = .ok (.aload_n 0, 1) := dk_42 (dk_at dksX2_sortOf_0 0 rfl rfl)
theorem dX2_sortOf_1 : decode cX2_sortOf 1 = .ok (.bipush 101, 2) := dk_16 101 (dk_at dksX2_sortOf_0 1 rfl rfl)
theorem dX2_sortOf_3 : decode cX2_sortOf 3 = .ok (.bipush 97, 2) := dk_16 97 (dk_at dksX2_sortOf_0 3 rfl rfl)
theorem dX2_sortOf_5 : decode cX2_sortOf 5 = .ok (.bipush 114, 2) := dk_16 114 (dk_at dksX2_sortOf_0 5 rfl rfl)
theorem dX2_sortOf_7 : decode cX2_sortOf 7 = .ok (.bipush 110, 2) := dk_16 110 (dk_at dksX2_sortOf_0 7 rfl rfl)
theorem dX2_sortOf_9 : decode cX2_sortOf 9 = .ok (.bipush 115, 2) := dk_16 115 (dk_at dksX2_sortOf_0 9 rfl rfl)
theorem dX2_sortOf_11 : decode cX2_sortOf 11 = .ok (.invokestatic 142, 3) := dk_184 0 142 (dk_at dksX2_sortOf_0 11 rfl rfl)
theorem dX2_sortOf_14 : decode cX2_sortOf 14 = .ok (.invokevirtual 200, 3) := dk_182 0 200 (dk_at dksX2_sortOf_0 14 rfl rfl)
theorem dX2_sortOf_17 : decode cX2_sortOf 17 = .ok (.ifCond .eq 5, 3) := dk_153 0 5 (dk_at dksX2_sortOf_0 17 rfl rfl)
theorem dX2_sortOf_20 : decode cX2_sortOf 20 = .ok (.iconst 0, 1) := dk_3 (dk_at dksX2_sortOf_0 20 rfl rfl)
theorem dX2_sortOf_21 : decode cX2_sortOf 21 = .ok (.ireturn, 1) := dk_172 (dk_at dksX2_sortOf_0 21 rfl rfl)
theorem dX2_sortOf_22 : decode cX2_sortOf 22 = .ok (.aload_n 0, 1) := dk_42 (dk_at dksX2_sortOf_0 22 rfl rfl)
theorem dX2_sortOf_23 : decode cX2_sortOf 23 = .ok (.bipush 108, 2) := dk_16 108 (dk_at dksX2_sortOf_1 0 rfl rfl)
theorem dX2_sortOf_25 : decode cX2_sortOf 25 = .ok (.bipush 111, 2) := dk_16 111 (dk_at dksX2_sortOf_1 2 rfl rfl)
theorem dX2_sortOf_27 : decode cX2_sortOf 27 = .ok (.bipush 115, 2) := dk_16 115 (dk_at dksX2_sortOf_1 4 rfl rfl)
theorem dX2_sortOf_29 : decode cX2_sortOf 29 = .ok (.bipush 101, 2) := dk_16 101 (dk_at dksX2_sortOf_1 6 rfl rfl)
theorem dX2_sortOf_31 : decode cX2_sortOf 31 = .ok (.bipush 115, 2) := dk_16 115 (dk_at dksX2_sortOf_1 8 rfl rfl)
theorem dX2_sortOf_33 : decode cX2_sortOf 33 = .ok (.invokestatic 142, 3) := dk_184 0 142 (dk_at dksX2_sortOf_1 10 rfl rfl)
theorem dX2_sortOf_36 : decode cX2_sortOf 36 = .ok (.invokevirtual 200, 3) := dk_182 0 200 (dk_at dksX2_sortOf_1 13 rfl rfl)
theorem dX2_sortOf_39 : decode cX2_sortOf 39 = .ok (.ifCond .eq 5, 3) := dk_153 0 5 (dk_at dksX2_sortOf_1 16 rfl rfl)
theorem dX2_sortOf_42 : decode cX2_sortOf 42 = .ok (.iconst 1, 1) := dk_4 (dk_at dksX2_sortOf_1 19 rfl rfl)
theorem dX2_sortOf_43 : decode cX2_sortOf 43 = .ok (.ireturn, 1) := dk_172 (dk_at dksX2_sortOf_1 20 rfl rfl)
theorem dX2_sortOf_44 : decode cX2_sortOf 44 = .ok (.aload_n 0, 1) := dk_42 (dk_at dksX2_sortOf_1 21 rfl rfl)
theorem dX2_sortOf_45 : decode cX2_sortOf 45 = .ok (.bipush 108, 2) := dk_16 108 (dk_at dksX2_sortOf_1 22 rfl rfl)
theorem dX2_sortOf_47 : decode cX2_sortOf 47 = .ok (.bipush 101, 2) := dk_16 101 (dk_at dksX2_sortOf_2 0 rfl rfl)
theorem dX2_sortOf_49 : decode cX2_sortOf 49 = .ok (.bipush 116, 2) := dk_16 116 (dk_at dksX2_sortOf_2 2 rfl rfl)
theorem dX2_sortOf_51 : decode cX2_sortOf 51 = .ok (.bipush 115, 2) := dk_16 115 (dk_at dksX2_sortOf_2 4 rfl rfl)
theorem dX2_sortOf_53 : decode cX2_sortOf 53 = .ok (.invokestatic 138, 3) := dk_184 0 138 (dk_at dksX2_sortOf_2 6 rfl rfl)
theorem dX2_sortOf_56 : decode cX2_sortOf 56 = .ok (.invokevirtual 200, 3) := dk_182 0 200 (dk_at dksX2_sortOf_2 9 rfl rfl)
theorem dX2_sortOf_59 : decode cX2_sortOf 59 = .ok (.ifCond .eq 5, 3) := dk_153 0 5 (dk_at dksX2_sortOf_2 12 rfl rfl)
theorem dX2_sortOf_62 : decode cX2_sortOf 62 = .ok (.iconst 2, 1) := dk_5 (dk_at dksX2_sortOf_2 15 rfl rfl)
theorem dX2_sortOf_63 : decode cX2_sortOf 63 = .ok (.ireturn, 1) := dk_172 (dk_at dksX2_sortOf_2 16 rfl rfl)
theorem dX2_sortOf_64 : decode cX2_sortOf 64 = .ok (.aload_n 0, 1) := dk_42 (dk_at dksX2_sortOf_2 17 rfl rfl)
theorem dX2_sortOf_65 : decode cX2_sortOf 65 = .ok (.bipush 104, 2) := dk_16 104 (dk_at dksX2_sortOf_2 18 rfl rfl)
theorem dX2_sortOf_67 : decode cX2_sortOf 67 = .ok (.bipush 111, 2) := dk_16 111 (dk_at dksX2_sortOf_2 20 rfl rfl)
theorem dX2_sortOf_69 : decode cX2_sortOf 69 = .ok (.bipush 117, 2) := dk_16 117 (dk_at dksX2_sortOf_2 22 rfl rfl)
theorem dX2_sortOf_71 : decode cX2_sortOf 71 = .ok (.bipush 115, 2) := dk_16 115 (dk_at dksX2_sortOf_3 0 rfl rfl)
theorem dX2_sortOf_73 : decode cX2_sortOf 73 = .ok (.bipush 101, 2) := dk_16 101 (dk_at dksX2_sortOf_3 2 rfl rfl)
theorem dX2_sortOf_75 : decode cX2_sortOf 75 = .ok (.invokestatic 142, 3) := dk_184 0 142 (dk_at dksX2_sortOf_3 4 rfl rfl)
theorem dX2_sortOf_78 : decode cX2_sortOf 78 = .ok (.invokevirtual 200, 3) := dk_182 0 200 (dk_at dksX2_sortOf_3 7 rfl rfl)
theorem dX2_sortOf_81 : decode cX2_sortOf 81 = .ok (.ifCond .eq 5, 3) := dk_153 0 5 (dk_at dksX2_sortOf_3 10 rfl rfl)
theorem dX2_sortOf_84 : decode cX2_sortOf 84 = .ok (.iconst 3, 1) := dk_6 (dk_at dksX2_sortOf_3 13 rfl rfl)
theorem dX2_sortOf_85 : decode cX2_sortOf 85 = .ok (.ireturn, 1) := dk_172 (dk_at dksX2_sortOf_3 14 rfl rfl)
theorem dX2_sortOf_86 : decode cX2_sortOf 86 = .ok (.aload_n 0, 1) := dk_42 (dk_at dksX2_sortOf_3 15 rfl rfl)
theorem dX2_sortOf_87 : decode cX2_sortOf 87 = .ok (.bipush 107, 2) := dk_16 107 (dk_at dksX2_sortOf_3 16 rfl rfl)
theorem dX2_sortOf_89 : decode cX2_sortOf 89 = .ok (.bipush 110, 2) := dk_16 110 (dk_at dksX2_sortOf_3 18 rfl rfl)
theorem dX2_sortOf_91 : decode cX2_sortOf 91 = .ok (.bipush 111, 2) := dk_16 111 (dk_at dksX2_sortOf_3 20 rfl rfl)
theorem dX2_sortOf_93 : decode cX2_sortOf 93 = .ok (.bipush 99, 2) := dk_16 99 (dk_at dksX2_sortOf_3 22 rfl rfl)
theorem dX2_sortOf_95 : decode cX2_sortOf 95 = .ok (.bipush 107, 2) := dk_16 107 (dk_at dksX2_sortOf_4 0 rfl rfl)
theorem dX2_sortOf_97 : decode cX2_sortOf 97 = .ok (.invokestatic 142, 3) := dk_184 0 142 (dk_at dksX2_sortOf_4 2 rfl rfl)
theorem dX2_sortOf_100 : decode cX2_sortOf 100 = .ok (.invokevirtual 200, 3) := dk_182 0 200 (dk_at dksX2_sortOf_4 5 rfl rfl)
theorem dX2_sortOf_103 : decode cX2_sortOf 103 = .ok (.ifCond .eq 5, 3) := dk_153 0 5 (dk_at dksX2_sortOf_4 8 rfl rfl)
theorem dX2_sortOf_106 : decode cX2_sortOf 106 = .ok (.iconst 4, 1) := dk_7 (dk_at dksX2_sortOf_4 11 rfl rfl)
theorem dX2_sortOf_107 : decode cX2_sortOf 107 = .ok (.ireturn, 1) := dk_172 (dk_at dksX2_sortOf_4 12 rfl rfl)
theorem dX2_sortOf_108 : decode cX2_sortOf 108 = .ok (.aload_n 0, 1) := dk_42 (dk_at dksX2_sortOf_4 13 rfl rfl)
theorem dX2_sortOf_109 : decode cX2_sortOf 109 = .ok (.bipush 109, 2) := dk_16 109 (dk_at dksX2_sortOf_4 14 rfl rfl)
theorem dX2_sortOf_111 : decode cX2_sortOf 111 = .ok (.bipush 97, 2) := dk_16 97 (dk_at dksX2_sortOf_4 16 rfl rfl)
theorem dX2_sortOf_113 : decode cX2_sortOf 113 = .ok (.bipush 114, 2) := dk_16 114 (dk_at dksX2_sortOf_4 18 rfl rfl)
theorem dX2_sortOf_115 : decode cX2_sortOf 115 = .ok (.bipush 114, 2) := dk_16 114 (dk_at dksX2_sortOf_4 20 rfl rfl)
theorem dX2_sortOf_117 : decode cX2_sortOf 117 = .ok (.bipush 121, 2) := dk_16 121 (dk_at dksX2_sortOf_4 22 rfl rfl)
theorem dX2_sortOf_119 : decode cX2_sortOf 119 = .ok (.invokestatic 142, 3) := dk_184 0 142 (dk_at dksX2_sortOf_5 0 rfl rfl)
theorem dX2_sortOf_122 : decode cX2_sortOf 122 = .ok (.invokevirtual 200, 3) := dk_182 0 200 (dk_at dksX2_sortOf_5 3 rfl rfl)
theorem dX2_sortOf_125 : decode cX2_sortOf 125 = .ok (.ifCond .eq 5, 3) := dk_153 0 5 (dk_at dksX2_sortOf_5 6 rfl rfl)
theorem dX2_sortOf_128 : decode cX2_sortOf 128 = .ok (.iconst 5, 1) := dk_8 (dk_at dksX2_sortOf_5 9 rfl rfl)
theorem dX2_sortOf_129 : decode cX2_sortOf 129 = .ok (.ireturn, 1) := dk_172 (dk_at dksX2_sortOf_5 10 rfl rfl)
theorem dX2_sortOf_130 : decode cX2_sortOf 130 = .ok (.aload_n 0, 1) := dk_42 (dk_at dksX2_sortOf_5 11 rfl rfl)
theorem dX2_sortOf_131 : decode cX2_sortOf 131 = .ok (.bipush 104, 2) := dk_16 104 (dk_at dksX2_sortOf_5 12 rfl rfl)
theorem dX2_sortOf_133 : decode cX2_sortOf 133 = .ok (.bipush 97, 2) := dk_16 97 (dk_at dksX2_sortOf_5 14 rfl rfl)
theorem dX2_sortOf_135 : decode cX2_sortOf 135 = .ok (.bipush 116, 2) := dk_16 116 (dk_at dksX2_sortOf_5 16 rfl rfl)
theorem dX2_sortOf_137 : decode cX2_sortOf 137 = .ok (.invokestatic 134, 3) := dk_184 0 134 (dk_at dksX2_sortOf_5 18 rfl rfl)
theorem dX2_sortOf_140 : decode cX2_sortOf 140 = .ok (.invokevirtual 200, 3) := dk_182 0 200 (dk_at dksX2_sortOf_5 21 rfl rfl)
theorem dX2_sortOf_143 : decode cX2_sortOf 143 = .ok (.ifCond .eq 6, 3) := dk_153 0 6 (dk_at dksX2_sortOf_6 0 rfl rfl)
theorem dX2_sortOf_146 : decode cX2_sortOf 146 = .ok (.bipush 6, 2) := dk_16 6 (dk_at dksX2_sortOf_6 3 rfl rfl)
theorem dX2_sortOf_148 : decode cX2_sortOf 148 = .ok (.ireturn, 1) := dk_172 (dk_at dksX2_sortOf_6 5 rfl rfl)
theorem dX2_sortOf_149 : decode cX2_sortOf 149 = .ok (.aload_n 0, 1) := dk_42 (dk_at dksX2_sortOf_6 6 rfl rfl)
theorem dX2_sortOf_150 : decode cX2_sortOf 150 = .ok (.bipush 102, 2) := dk_16 102 (dk_at dksX2_sortOf_6 7 rfl rfl)
theorem dX2_sortOf_152 : decode cX2_sortOf 152 = .ok (.bipush 111, 2) := dk_16 111 (dk_at dksX2_sortOf_6 9 rfl rfl)
theorem dX2_sortOf_154 : decode cX2_sortOf 154 = .ok (.bipush 114, 2) := dk_16 114 (dk_at dksX2_sortOf_6 11 rfl rfl)
theorem dX2_sortOf_156 : decode cX2_sortOf 156 = .ok (.bipush 103, 2) := dk_16 103 (dk_at dksX2_sortOf_6 13 rfl rfl)
theorem dX2_sortOf_158 : decode cX2_sortOf 158 = .ok (.bipush 101, 2) := dk_16 101 (dk_at dksX2_sortOf_6 15 rfl rfl)
theorem dX2_sortOf_160 : decode cX2_sortOf 160 = .ok (.bipush 116, 2) := dk_16 116 (dk_at dksX2_sortOf_6 17 rfl rfl)
theorem dX2_sortOf_162 : decode cX2_sortOf 162 = .ok (.invokestatic 160, 3) := dk_184 0 160 (dk_at dksX2_sortOf_6 19 rfl rfl)
theorem dX2_sortOf_165 : decode cX2_sortOf 165 = .ok (.invokevirtual 200, 3) := dk_182 0 200 (dk_at dksX2_sortOf_7 0 rfl rfl)
theorem dX2_sortOf_168 : decode cX2_sortOf 168 = .ok (.ifCond .eq 8, 3) := dk_153 0 8 (dk_at dksX2_sortOf_7 3 rfl rfl)
theorem dX2_sortOf_171 : decode cX2_sortOf 171 = .ok (.bipush 7, 2) := dk_16 7 (dk_at dksX2_sortOf_7 6 rfl rfl)
theorem dX2_sortOf_173 : decode cX2_sortOf 173 = .ok (.goto 25, 3) := dk_167 0 25 (dk_at dksX2_sortOf_7 8 rfl rfl)
theorem dX2_sortOf_176 : decode cX2_sortOf 176 = .ok (.aload_n 0, 1) := dk_42 (dk_at dksX2_sortOf_7 11 rfl rfl)
theorem dX2_sortOf_177 : decode cX2_sortOf 177 = .ok (.bipush 100, 2) := dk_16 100 (dk_at dksX2_sortOf_7 12 rfl rfl)
theorem dX2_sortOf_179 : decode cX2_sortOf 179 = .ok (.bipush 97, 2) := dk_16 97 (dk_at dksX2_sortOf_7 14 rfl rfl)
theorem dX2_sortOf_181 : decode cX2_sortOf 181 = .ok (.bipush 121, 2) := dk_16 121 (dk_at dksX2_sortOf_7 16 rfl rfl)
theorem dX2_sortOf_183 : decode cX2_sortOf 183 = .ok (.invokestatic 134, 3) := dk_184 0 134 (dk_at dksX2_sortOf_7 18 rfl rfl)
theorem dX2_sortOf_186 : decode cX2_sortOf 186 = .ok (.invokevirtual 200, 3) := dk_182 0 200 (dk_at dksX2_sortOf_7 21 rfl rfl)
theorem dX2_sortOf_189 : decode cX2_sortOf 189 = .ok (.ifCond .eq 8, 3) := dk_153 0 8 (dk_at dksX2_sortOf_8 0 rfl rfl)
theorem dX2_sortOf_192 : decode cX2_sortOf 192 = .ok (.bipush 8, 2) := dk_16 8 (dk_at dksX2_sortOf_8 3 rfl rfl)
theorem dX2_sortOf_194 : decode cX2_sortOf 194 = .ok (.goto 4, 3) := dk_167 0 4 (dk_at dksX2_sortOf_8 5 rfl rfl)
theorem dX2_sortOf_197 : decode cX2_sortOf 197 = .ok (.iconst (-1), 1) := dk_2 (dk_at dksX2_sortOf_8 8 rfl rfl)
theorem dX2_sortOf_198 : decode cX2_sortOf 198 = .ok (.ireturn, 1) := dk_172 (dk_at dksX2_sortOf_8 9 rfl rfl)
abbrev cX2_w5 : ByteArray := prog_19_method_26_code
def yX2_w5 : MethodName := ⟨RX2, "w5", "(IIIII)J"⟩
def dkwX2_w5_0 : List UInt8 := [26, 27, 28, 29, 184, 0, 138, 16, 8, 121, 21, 4, 133, 129, 173]
abbrev dktX2_w5_0 : List UInt8 := dkwX2_w5_0 ++ []
theorem dksX2_w5_0 : cX2_w5.data.toList.drop 0 = dktX2_w5_0 := by decide +kernel
theorem dX2_w5_0 : decode cX2_w5 0 = .ok (.iload_n 0, 1) := dk_26 (dk_at dksX2_w5_0 0 rfl rfl)
theorem dX2_w5_1 : decode cX2_w5 1 = .ok (.iload_n 1, 1) := dk_27 (dk_at dksX2_w5_0 1 rfl rfl)
theorem dX2_w5_2 : decode cX2_w5 2 = .ok (.iload_n 2, 1) := dk_28 (dk_at dksX2_w5_0 2 rfl rfl)
theorem dX2_w5_3 : decode cX2_w5 3 = .ok (.iload_n 3, 1) := dk_29 (dk_at dksX2_w5_0 3 rfl rfl)
theorem dX2_w5_4 : decode cX2_w5 4 = .ok (.invokestatic 138, 3) := dk_184 0 138 (dk_at dksX2_w5_0 4 rfl rfl)
theorem dX2_w5_7 : decode cX2_w5 7 = .ok (.bipush 8, 2) := dk_16 8 (dk_at dksX2_w5_0 7 rfl rfl)
theorem dX2_w5_9 : decode cX2_w5 9 = .ok (.lshl, 1) := dk_121 (dk_at dksX2_w5_0 9 rfl rfl)
theorem dX2_w5_10 : decode cX2_w5 10 = .ok (.iload 4, 2) := dk_21 4 (dk_at dksX2_w5_0 10 rfl rfl)
theorem dX2_w5_12 : decode cX2_w5 12 = .ok (.i2l, 1) := dk_133 (dk_at dksX2_w5_0 12 rfl rfl)
theorem dX2_w5_13 : decode cX2_w5 13 = .ok (.lor, 1) := dk_129 (dk_at dksX2_w5_0 13 rfl rfl)
theorem dX2_w5_14 : decode cX2_w5 14 = .ok (.lreturn, 1) := dk_173 (dk_at dksX2_w5_0 14 rfl rfl)
abbrev cX2_w4 : ByteArray := prog_19_method_25_code
def yX2_w4 : MethodName := ⟨RX2, "w4", "(IIII)J"⟩
def dkwX2_w4_0 : List UInt8 := [26, 27, 28, 184, 0, 134, 16, 8, 121, 29, 133, 129, 173]
abbrev dktX2_w4_0 : List UInt8 := dkwX2_w4_0 ++ []
theorem dksX2_w4_0 : cX2_w4.data.toList.drop 0 = dktX2_w4_0 := by decide +kernel
theorem dX2_w4_0 : decode cX2_w4 0 = .ok (.iload_n 0, 1) := dk_26 (dk_at dksX2_w4_0 0 rfl rfl)
theorem dX2_w4_1 : decode cX2_w4 1 = .ok (.iload_n 1, 1) := dk_27 (dk_at dksX2_w4_0 1 rfl rfl)
theorem dX2_w4_2 : decode cX2_w4 2 = .ok (.iload_n 2, 1) := dk_28 (dk_at dksX2_w4_0 2 rfl rfl)
theorem dX2_w4_3 : decode cX2_w4 3 = .ok (.invokestatic 134, 3) := dk_184 0 134 (dk_at dksX2_w4_0 3 rfl rfl)
theorem dX2_w4_6 : decode cX2_w4 6 = .ok (.bipush 8, 2) := dk_16 8 (dk_at dksX2_w4_0 6 rfl rfl)
theorem dX2_w4_8 : decode cX2_w4 8 = .ok (.lshl, 1) := dk_121 (dk_at dksX2_w4_0 8 rfl rfl)
theorem dX2_w4_9 : decode cX2_w4 9 = .ok (.iload_n 3, 1) := dk_29 (dk_at dksX2_w4_0 9 rfl rfl)
theorem dX2_w4_10 : decode cX2_w4 10 = .ok (.i2l, 1) := dk_133 (dk_at dksX2_w4_0 10 rfl rfl)
theorem dX2_w4_11 : decode cX2_w4 11 = .ok (.lor, 1) := dk_129 (dk_at dksX2_w4_0 11 rfl rfl)
theorem dX2_w4_12 : decode cX2_w4 12 = .ok (.lreturn, 1) := dk_173 (dk_at dksX2_w4_0 12 rfl rfl)
abbrev cX2_w3 : ByteArray := prog_19_method_24_code
def yX2_w3 : MethodName := ⟨RX2, "w3", "(III)J"⟩
def dkwX2_w3_0 : List UInt8 := [26, 27, 184, 0, 130, 16, 8, 121, 28, 133, 129, 173]
abbrev dktX2_w3_0 : List UInt8 := dkwX2_w3_0 ++ []
theorem dksX2_w3_0 : cX2_w3.data.toList.drop 0 = dktX2_w3_0 := by decide +kernel
theorem dX2_w3_0 : decode cX2_w3 0 = .ok (.iload_n 0, 1) := dk_26 (dk_at dksX2_w3_0 0 rfl rfl)
theorem dX2_w3_1 : decode cX2_w3 1 = .ok (.iload_n 1, 1) := dk_27 (dk_at dksX2_w3_0 1 rfl rfl)
theorem dX2_w3_2 : decode cX2_w3 2 = .ok (.invokestatic 130, 3) := dk_184 0 130 (dk_at dksX2_w3_0 2 rfl rfl)
theorem dX2_w3_5 : decode cX2_w3 5 = .ok (.bipush 8, 2) := dk_16 8 (dk_at dksX2_w3_0 5 rfl rfl)
theorem dX2_w3_7 : decode cX2_w3 7 = .ok (.lshl, 1) := dk_121 (dk_at dksX2_w3_0 7 rfl rfl)
theorem dX2_w3_8 : decode cX2_w3 8 = .ok (.iload_n 2, 1) := dk_28 (dk_at dksX2_w3_0 8 rfl rfl)
theorem dX2_w3_9 : decode cX2_w3 9 = .ok (.i2l, 1) := dk_133 (dk_at dksX2_w3_0 9 rfl rfl)
theorem dX2_w3_10 : decode cX2_w3 10 = .ok (.lor, 1) := dk_129 (dk_at dksX2_w3_0 10 rfl rfl)
theorem dX2_w3_11 : decode cX2_w3 11 = .ok (.lreturn, 1) := dk_173 (dk_at dksX2_w3_0 11 rfl rfl)
abbrev cX2_w2 : ByteArray := prog_19_method_23_code
def yX2_w2 : MethodName := ⟨RX2, "w2", "(II)J"⟩
def dkwX2_w2_0 : List UInt8 := [26, 133, 16, 8, 121, 27, 133, 129, 173]
abbrev dktX2_w2_0 : List UInt8 := dkwX2_w2_0 ++ []
theorem dksX2_w2_0 : cX2_w2.data.toList.drop 0 = dktX2_w2_0 := by decide +kernel
theorem dX2_w2_0 : decode cX2_w2 0 = .ok (.iload_n 0, 1) := dk_26 (dk_at dksX2_w2_0 0 rfl rfl)
theorem dX2_w2_1 : decode cX2_w2 1 = .ok (.i2l, 1) := dk_133 (dk_at dksX2_w2_0 1 rfl rfl)
theorem dX2_w2_2 : decode cX2_w2 2 = .ok (.bipush 8, 2) := dk_16 8 (dk_at dksX2_w2_0 2 rfl rfl)
theorem dX2_w2_4 : decode cX2_w2 4 = .ok (.lshl, 1) := dk_121 (dk_at dksX2_w2_0 4 rfl rfl)
theorem dX2_w2_5 : decode cX2_w2 5 = .ok (.iload_n 1, 1) := dk_27 (dk_at dksX2_w2_0 5 rfl rfl)
theorem dX2_w2_6 : decode cX2_w2 6 = .ok (.i2l, 1) := dk_133 (dk_at dksX2_w2_0 6 rfl rfl)
theorem dX2_w2_7 : decode cX2_w2 7 = .ok (.lor, 1) := dk_129 (dk_at dksX2_w2_0 7 rfl rfl)
theorem dX2_w2_8 : decode cX2_w2 8 = .ok (.lreturn, 1) := dk_173 (dk_at dksX2_w2_0 8 rfl rfl)
abbrev cX2_isWord : ByteArray := prog_19_method_28_code
def yX2_isWord : MethodName := ⟨RX2, "isWord", "(J)Z"⟩
def dkwX2_isWord_0 : List UInt8 := [42, 180, 0, 108, 5, 160, 0, 16, 42, 180, 0, 121, 31, 148, 154, 0, 7, 4, 167, 0, 4, 3, 172]
abbrev dktX2_isWord_0 : List UInt8 := dkwX2_isWord_0 ++ []
theorem dksX2_isWord_0 : cX2_isWord.data.toList.drop 0 = dktX2_isWord_0 := by decide +kernel
theorem dX2_isWord_0 : decode cX2_isWord 0 = .ok (.aload_n 0, 1) := dk_42 (dk_at dksX2_isWord_0 0 rfl rfl)
theorem dX2_isWord_1 : decode cX2_isWord 1 = .ok (.getfield 108, 3) := dk_180 0 108 (dk_at dksX2_isWord_0 1 rfl rfl)
theorem dX2_isWord_4 : decode cX2_isWord 4 = .ok (.iconst 2, 1) := dk_5 (dk_at dksX2_isWord_0 4 rfl rfl)
theorem dX2_isWord_5 : decode cX2_isWord 5 = .ok (.if_icmp .ne 16, 3) := dk_160 0 16 (dk_at dksX2_isWord_0 5 rfl rfl)
theorem dX2_isWord_8 : decode cX2_isWord 8 = .ok (.aload_n 0, 1) := dk_42 (dk_at dksX2_isWord_0 8 rfl rfl)
theorem dX2_isWord_9 : decode cX2_isWord 9 = .ok (.getfield 121, 3) := dk_180 0 121 (dk_at dksX2_isWord_0 9 rfl rfl)
theorem dX2_isWord_12 : decode cX2_isWord 12 = .ok (.lload_n 1, 1) := dk_31 (dk_at dksX2_isWord_0 12 rfl rfl)
theorem dX2_isWord_13 : decode cX2_isWord 13 = .ok (.lcmp, 1) := dk_148 (dk_at dksX2_isWord_0 13 rfl rfl)
theorem dX2_isWord_14 : decode cX2_isWord 14 = .ok (.ifCond .ne 7, 3) := dk_154 0 7 (dk_at dksX2_isWord_0 14 rfl rfl)
theorem dX2_isWord_17 : decode cX2_isWord 17 = .ok (.iconst 1, 1) := dk_4 (dk_at dksX2_isWord_0 17 rfl rfl)
theorem dX2_isWord_18 : decode cX2_isWord 18 = .ok (.goto 4, 3) := dk_167 0 4 (dk_at dksX2_isWord_0 18 rfl rfl)
theorem dX2_isWord_21 : decode cX2_isWord 21 = .ok (.iconst 0, 1) := dk_3 (dk_at dksX2_isWord_0 21 rfl rfl)
theorem dX2_isWord_22 : decode cX2_isWord 22 = .ok (.ireturn, 1) := dk_172 (dk_at dksX2_isWord_0 22 rfl rfl)
abbrev cX2_w6 : ByteArray := prog_19_method_27_code
def yX2_w6 : MethodName := ⟨RX2, "w6", "(IIIIII)J"⟩
def dkwX2_w6_0 : List UInt8 := [26, 27, 28, 29, 21, 4, 184, 0, 142, 16, 8, 121, 21, 5, 133, 129, 173]
abbrev dktX2_w6_0 : List UInt8 := dkwX2_w6_0 ++ []
theorem dksX2_w6_0 : cX2_w6.data.toList.drop 0 = dktX2_w6_0 := by decide +kernel
theorem dX2_w6_0 : decode cX2_w6 0 = .ok (.iload_n 0, 1) := dk_26 (dk_at dksX2_w6_0 0 rfl rfl)
theorem dX2_w6_1 : decode cX2_w6 1 = .ok (.iload_n 1, 1) := dk_27 (dk_at dksX2_w6_0 1 rfl rfl)
theorem dX2_w6_2 : decode cX2_w6 2 = .ok (.iload_n 2, 1) := dk_28 (dk_at dksX2_w6_0 2 rfl rfl)
theorem dX2_w6_3 : decode cX2_w6 3 = .ok (.iload_n 3, 1) := dk_29 (dk_at dksX2_w6_0 3 rfl rfl)
theorem dX2_w6_4 : decode cX2_w6 4 = .ok (.iload 4, 2) := dk_21 4 (dk_at dksX2_w6_0 4 rfl rfl)
theorem dX2_w6_6 : decode cX2_w6 6 = .ok (.invokestatic 142, 3) := dk_184 0 142 (dk_at dksX2_w6_0 6 rfl rfl)
theorem dX2_w6_9 : decode cX2_w6 9 = .ok (.bipush 8, 2) := dk_16 8 (dk_at dksX2_w6_0 9 rfl rfl)
theorem dX2_w6_11 : decode cX2_w6 11 = .ok (.lshl, 1) := dk_121 (dk_at dksX2_w6_0 11 rfl rfl)
theorem dX2_w6_12 : decode cX2_w6 12 = .ok (.iload 5, 2) := dk_21 5 (dk_at dksX2_w6_0 12 rfl rfl)
theorem dX2_w6_14 : decode cX2_w6 14 = .ok (.i2l, 1) := dk_133 (dk_at dksX2_w6_0 14 rfl rfl)
theorem dX2_w6_15 : decode cX2_w6 15 = .ok (.lor, 1) := dk_129 (dk_at dksX2_w6_0 15 rfl rfl)
theorem dX2_w6_16 : decode cX2_w6 16 = .ok (.lreturn, 1) := dk_173 (dk_at dksX2_w6_0 16 rfl rfl)
abbrev cX2_has : ByteArray := prog_19_method_5_code
def yX2_has : MethodName := ⟨RX2, "has", "(II)Z"⟩
def dkwX2_has_0 : List UInt8 := [26, 27, 122, 4, 126, 4, 160, 0, 7, 4, 167, 0, 4, 3, 172]
abbrev dktX2_has_0 : List UInt8 := dkwX2_has_0 ++ []
theorem dksX2_has_0 : cX2_has.data.toList.drop 0 = dktX2_has_0 := by decide +kernel
theorem dX2_has_0 : decode cX2_has 0 = .ok (.iload_n 0, 1) := dk_26 (dk_at dksX2_has_0 0 rfl rfl)
theorem dX2_has_1 : decode cX2_has 1 = .ok (.iload_n 1, 1) := dk_27 (dk_at dksX2_has_0 1 rfl rfl)
theorem dX2_has_2 : decode cX2_has 2 = .ok (.ishr, 1) := dk_122 (dk_at dksX2_has_0 2 rfl rfl)
theorem dX2_has_3 : decode cX2_has 3 = .ok (.iconst 1, 1) := dk_4 (dk_at dksX2_has_0 3 rfl rfl)
theorem dX2_has_4 : decode cX2_has 4 = .ok (.iand, 1) := dk_126 (dk_at dksX2_has_0 4 rfl rfl)
theorem dX2_has_5 : decode cX2_has 5 = .ok (.iconst 1, 1) := dk_4 (dk_at dksX2_has_0 5 rfl rfl)
theorem dX2_has_6 : decode cX2_has 6 = .ok (.if_icmp .ne 7, 3) := dk_160 0 7 (dk_at dksX2_has_0 6 rfl rfl)
theorem dX2_has_9 : decode cX2_has 9 = .ok (.iconst 1, 1) := dk_4 (dk_at dksX2_has_0 9 rfl rfl)
theorem dX2_has_10 : decode cX2_has 10 = .ok (.goto 4, 3) := dk_167 0 4 (dk_at dksX2_has_0 10 rfl rfl)
theorem dX2_has_13 : decode cX2_has 13 = .ok (.iconst 0, 1) := dk_3 (dk_at dksX2_has_0 13 rfl rfl)
theorem dX2_has_14 : decode cX2_has 14 = .ok (.ireturn, 1) := dk_172 (dk_at dksX2_has_0 14 rfl rfl)
abbrev cX2_body : ByteArray := prog_19_method_49_code
def yX2_body : MethodName := ⟨RX2, "body", "(II)I"⟩
def dkwX2_body_7 : List UInt8 := [4, 167, 0, 4, 3, 182, 0, 243, 172]
abbrev dktX2_body_7 : List UInt8 := dkwX2_body_7 ++ []
def dkwX2_body_6 : List UInt8 := [16, 6, 182, 0, 236, 172, 42, 28, 4, 96, 4, 16, 60, 182, 0, 228, 172, 42, 28, 27, 5, 160, 0, 7]
abbrev dktX2_body_6 : List UInt8 := dkwX2_body_6 ++ dktX2_body_7
def dkwX2_body_5 : List UInt8 := [182, 0, 228, 62, 29, 153, 0, 7, 29, 167, 0, 19, 42, 16, 111, 16, 102, 184, 0, 130, 28, 5, 96]
abbrev dktX2_body_5 : List UInt8 := dkwX2_body_5 ++ dktX2_body_6
def dkwX2_body_4 : List UInt8 := [16, 6, 182, 0, 236, 172, 42, 28, 4, 96, 3, 16, 6, 182, 0, 228, 172, 42, 28, 4, 96, 3, 16, 19]
abbrev dktX2_body_4 : List UInt8 := dkwX2_body_4 ++ dktX2_body_5
def dkwX2_body_3 : List UInt8 := [182, 0, 228, 62, 29, 153, 0, 7, 29, 167, 0, 19, 42, 16, 116, 16, 111, 184, 0, 130, 28, 5, 96]
abbrev dktX2_body_3 : List UInt8 := dkwX2_body_3 ++ dktX2_body_4
def dkwX2_body_2 : List UInt8 := [42, 28, 182, 0, 240, 172, 42, 28, 4, 96, 3, 16, 6, 182, 0, 228, 172, 42, 28, 4, 96, 3, 16, 6]
abbrev dktX2_body_2 : List UInt8 := dkwX2_body_2 ++ dktX2_body_3
def dkwX2_body_1 : List UInt8 := [170, 0, 0, 0, 0, 0, 150, 0, 0, 0, 3, 0, 0, 0, 8, 0, 0, 0, 39, 0, 0, 0, 45, 0, 0, 0, 56, 0, 0, 0, 92, 0, 0, 0, 103, 0, 0, 0, 139]
abbrev dktX2_body_1 : List UInt8 := dkwX2_body_1 ++ dktX2_body_2
def dkwX2_body_0 : List UInt8 := [27]
abbrev dktX2_body_0 : List UInt8 := dkwX2_body_0 ++ dktX2_body_1
theorem dksX2_body_0 : cX2_body.data.toList.drop 0 = dktX2_body_0 := by decide +kernel
theorem dksX2_body_1 : cX2_body.data.toList.drop 1 = dktX2_body_1 := dk_seg dksX2_body_0 1 rfl rfl
theorem dksX2_body_2 : cX2_body.data.toList.drop 40 = dktX2_body_2 := dk_seg dksX2_body_1 39 rfl rfl
theorem dksX2_body_3 : cX2_body.data.toList.drop 64 = dktX2_body_3 := dk_seg dksX2_body_2 24 rfl rfl
theorem dksX2_body_4 : cX2_body.data.toList.drop 87 = dktX2_body_4 := dk_seg dksX2_body_3 23 rfl rfl
theorem dksX2_body_5 : cX2_body.data.toList.drop 111 = dktX2_body_5 := dk_seg dksX2_body_4 24 rfl rfl
theorem dksX2_body_6 : cX2_body.data.toList.drop 134 = dktX2_body_6 := dk_seg dksX2_body_5 23 rfl rfl
theorem dksX2_body_7 : cX2_body.data.toList.drop 158 = dktX2_body_7 := dk_seg dksX2_body_6 24 rfl rfl
theorem dX2_body_0 : decode cX2_body 0 = .ok (.iload_n 1, 1) := dk_27 (dk_at dksX2_body_0 0 rfl rfl)
theorem dX2_body_1 : decode cX2_body 1 = .ok (.tableswitch 150 3 8 #[39, 45, 56, 92, 103, 139], 39) := by decide +kernel
theorem dX2_body_40 : decode cX2_body 40 = .ok (.aload_n 0, 1) := dk_42 (dk_at dksX2_body_2 0 rfl rfl)
theorem dX2_body_41 : decode cX2_body 41 = .ok (.iload_n 2, 1) := dk_28 (dk_at dksX2_body_2 1 rfl rfl)
theorem dX2_body_42 : decode cX2_body 42 = .ok (.invokevirtual 240, 3) := dk_182 0 240 (dk_at dksX2_body_2 2 rfl rfl)
theorem dX2_body_45 : decode cX2_body 45 = .ok (.ireturn, 1) := dk_172 (dk_at dksX2_body_2 5 rfl rfl)
theorem dX2_body_46 : decode cX2_body 46 = .ok (.aload_n 0, 1) := dk_42 (dk_at dksX2_body_2 6 rfl rfl)
theorem dX2_body_47 : decode cX2_body 47 = .ok (.iload_n 2, 1) := dk_28 (dk_at dksX2_body_2 7 rfl rfl)
theorem dX2_body_48 : decode cX2_body 48 = .ok (.iconst 1, 1) := dk_4 (dk_at dksX2_body_2 8 rfl rfl)
theorem dX2_body_49 : decode cX2_body 49 = .ok (.iadd, 1) := dk_96 (dk_at dksX2_body_2 9 rfl rfl)
theorem dX2_body_50 : decode cX2_body 50 = .ok (.iconst 0, 1) := dk_3 (dk_at dksX2_body_2 10 rfl rfl)
theorem dX2_body_51 : decode cX2_body 51 = .ok (.bipush 6, 2) := dk_16 6 (dk_at dksX2_body_2 11 rfl rfl)
theorem dX2_body_53 : decode cX2_body 53 = .ok (.invokevirtual 228, 3) := dk_182 0 228 (dk_at dksX2_body_2 13 rfl rfl)
theorem dX2_body_56 : decode cX2_body 56 = .ok (.ireturn, 1) := dk_172 (dk_at dksX2_body_2 16 rfl rfl)
theorem dX2_body_57 : decode cX2_body 57 = .ok (.aload_n 0, 1) := dk_42 (dk_at dksX2_body_2 17 rfl rfl)
theorem dX2_body_58 : decode cX2_body 58 = .ok (.iload_n 2, 1) := dk_28 (dk_at dksX2_body_2 18 rfl rfl)
theorem dX2_body_59 : decode cX2_body 59 = .ok (.iconst 1, 1) := dk_4 (dk_at dksX2_body_2 19 rfl rfl)
theorem dX2_body_60 : decode cX2_body 60 = .ok (.iadd, 1) := dk_96 (dk_at dksX2_body_2 20 rfl rfl)
theorem dX2_body_61 : decode cX2_body 61 = .ok (.iconst 0, 1) := dk_3 (dk_at dksX2_body_2 21 rfl rfl)
theorem dX2_body_62 : decode cX2_body 62 = .ok (.bipush 6, 2) := dk_16 6 (dk_at dksX2_body_2 22 rfl rfl)
theorem dX2_body_64 : decode cX2_body 64 = .ok (.invokevirtual 228, 3) := dk_182 0 228 (dk_at dksX2_body_3 0 rfl rfl)
theorem dX2_body_67 : decode cX2_body 67 = .ok (.istore_n 3, 1) := dk_62 (dk_at dksX2_body_3 3 rfl rfl)
theorem dX2_body_68 : decode cX2_body 68 = .ok (.iload_n 3, 1) := dk_29 (dk_at dksX2_body_3 4 rfl rfl)
theorem dX2_body_69 : decode cX2_body 69 = .ok (.ifCond .eq 7, 3) := dk_153 0 7 (dk_at dksX2_body_3 5 rfl rfl)
theorem dX2_body_72 : decode cX2_body 72 = .ok (.iload_n 3, 1) := dk_29 (dk_at dksX2_body_3 8 rfl rfl)
theorem dX2_body_73 : decode cX2_body 73 = .ok (.goto 19, 3) := dk_167 0 19 (dk_at dksX2_body_3 9 rfl rfl)
theorem dX2_body_76 : decode cX2_body 76 = .ok (.aload_n 0, 1) := dk_42 (dk_at dksX2_body_3 12 rfl rfl)
theorem dX2_body_77 : decode cX2_body 77 = .ok (.bipush 116, 2) := dk_16 116 (dk_at dksX2_body_3 13 rfl rfl)
theorem dX2_body_79 : decode cX2_body 79 = .ok (.bipush 111, 2) := dk_16 111 (dk_at dksX2_body_3 15 rfl rfl)
theorem dX2_body_81 : decode cX2_body 81 = .ok (.invokestatic 130, 3) := dk_184 0 130 (dk_at dksX2_body_3 17 rfl rfl)
theorem dX2_body_84 : decode cX2_body 84 = .ok (.iload_n 2, 1) := dk_28 (dk_at dksX2_body_3 20 rfl rfl)
theorem dX2_body_85 : decode cX2_body 85 = .ok (.iconst 2, 1) := dk_5 (dk_at dksX2_body_3 21 rfl rfl)
theorem dX2_body_86 : decode cX2_body 86 = .ok (.iadd, 1) := dk_96 (dk_at dksX2_body_3 22 rfl rfl)
theorem dX2_body_87 : decode cX2_body 87 = .ok (.bipush 6, 2) := dk_16 6 (dk_at dksX2_body_4 0 rfl rfl)
theorem dX2_body_89 : decode cX2_body 89 = .ok (.invokevirtual 236, 3) := dk_182 0 236 (dk_at dksX2_body_4 2 rfl rfl)
theorem dX2_body_92 : decode cX2_body 92 = .ok (.ireturn, 1) := dk_172 (dk_at dksX2_body_4 5 rfl rfl)
theorem dX2_body_93 : decode cX2_body 93 = .ok (.aload_n 0, 1) := dk_42 (dk_at dksX2_body_4 6 rfl rfl)
theorem dX2_body_94 : decode cX2_body 94 = .ok (.iload_n 2, 1) := dk_28 (dk_at dksX2_body_4 7 rfl rfl)
theorem dX2_body_95 : decode cX2_body 95 = .ok (.iconst 1, 1) := dk_4 (dk_at dksX2_body_4 8 rfl rfl)
theorem dX2_body_96 : decode cX2_body 96 = .ok (.iadd, 1) := dk_96 (dk_at dksX2_body_4 9 rfl rfl)
theorem dX2_body_97 : decode cX2_body 97 = .ok (.iconst 0, 1) := dk_3 (dk_at dksX2_body_4 10 rfl rfl)
theorem dX2_body_98 : decode cX2_body 98 = .ok (.bipush 6, 2) := dk_16 6 (dk_at dksX2_body_4 11 rfl rfl)
theorem dX2_body_100 : decode cX2_body 100 = .ok (.invokevirtual 228, 3) := dk_182 0 228 (dk_at dksX2_body_4 13 rfl rfl)
theorem dX2_body_103 : decode cX2_body 103 = .ok (.ireturn, 1) := dk_172 (dk_at dksX2_body_4 16 rfl rfl)
theorem dX2_body_104 : decode cX2_body 104 = .ok (.aload_n 0, 1) := dk_42 (dk_at dksX2_body_4 17 rfl rfl)
theorem dX2_body_105 : decode cX2_body 105 = .ok (.iload_n 2, 1) := dk_28 (dk_at dksX2_body_4 18 rfl rfl)
theorem dX2_body_106 : decode cX2_body 106 = .ok (.iconst 1, 1) := dk_4 (dk_at dksX2_body_4 19 rfl rfl)
theorem dX2_body_107 : decode cX2_body 107 = .ok (.iadd, 1) := dk_96 (dk_at dksX2_body_4 20 rfl rfl)
theorem dX2_body_108 : decode cX2_body 108 = .ok (.iconst 0, 1) := dk_3 (dk_at dksX2_body_4 21 rfl rfl)
theorem dX2_body_109 : decode cX2_body 109 = .ok (.bipush 19, 2) := dk_16 19 (dk_at dksX2_body_4 22 rfl rfl)
theorem dX2_body_111 : decode cX2_body 111 = .ok (.invokevirtual 228, 3) := dk_182 0 228 (dk_at dksX2_body_5 0 rfl rfl)
theorem dX2_body_114 : decode cX2_body 114 = .ok (.istore_n 3, 1) := dk_62 (dk_at dksX2_body_5 3 rfl rfl)
theorem dX2_body_115 : decode cX2_body 115 = .ok (.iload_n 3, 1) := dk_29 (dk_at dksX2_body_5 4 rfl rfl)
theorem dX2_body_116 : decode cX2_body 116 = .ok (.ifCond .eq 7, 3) := dk_153 0 7 (dk_at dksX2_body_5 5 rfl rfl)
theorem dX2_body_119 : decode cX2_body 119 = .ok (.iload_n 3, 1) := dk_29 (dk_at dksX2_body_5 8 rfl rfl)
theorem dX2_body_120 : decode cX2_body 120 = .ok (.goto 19, 3) := dk_167 0 19 (dk_at dksX2_body_5 9 rfl rfl)
theorem dX2_body_123 : decode cX2_body 123 = .ok (.aload_n 0, 1) := dk_42 (dk_at dksX2_body_5 12 rfl rfl)
theorem dX2_body_124 : decode cX2_body 124 = .ok (.bipush 111, 2) := dk_16 111 (dk_at dksX2_body_5 13 rfl rfl)
theorem dX2_body_126 : decode cX2_body 126 = .ok (.bipush 102, 2) := dk_16 102 (dk_at dksX2_body_5 15 rfl rfl)
theorem dX2_body_128 : decode cX2_body 128 = .ok (.invokestatic 130, 3) := dk_184 0 130 (dk_at dksX2_body_5 17 rfl rfl)
theorem dX2_body_131 : decode cX2_body 131 = .ok (.iload_n 2, 1) := dk_28 (dk_at dksX2_body_5 20 rfl rfl)
theorem dX2_body_132 : decode cX2_body 132 = .ok (.iconst 2, 1) := dk_5 (dk_at dksX2_body_5 21 rfl rfl)
theorem dX2_body_133 : decode cX2_body 133 = .ok (.iadd, 1) := dk_96 (dk_at dksX2_body_5 22 rfl rfl)
theorem dX2_body_134 : decode cX2_body 134 = .ok (.bipush 6, 2) := dk_16 6 (dk_at dksX2_body_6 0 rfl rfl)
theorem dX2_body_136 : decode cX2_body 136 = .ok (.invokevirtual 236, 3) := dk_182 0 236 (dk_at dksX2_body_6 2 rfl rfl)
theorem dX2_body_139 : decode cX2_body 139 = .ok (.ireturn, 1) := dk_172 (dk_at dksX2_body_6 5 rfl rfl)
theorem dX2_body_140 : decode cX2_body 140 = .ok (.aload_n 0, 1) := dk_42 (dk_at dksX2_body_6 6 rfl rfl)
theorem dX2_body_141 : decode cX2_body 141 = .ok (.iload_n 2, 1) := dk_28 (dk_at dksX2_body_6 7 rfl rfl)
theorem dX2_body_142 : decode cX2_body 142 = .ok (.iconst 1, 1) := dk_4 (dk_at dksX2_body_6 8 rfl rfl)
theorem dX2_body_143 : decode cX2_body 143 = .ok (.iadd, 1) := dk_96 (dk_at dksX2_body_6 9 rfl rfl)
theorem dX2_body_144 : decode cX2_body 144 = .ok (.iconst 1, 1) := dk_4 (dk_at dksX2_body_6 10 rfl rfl)
theorem dX2_body_145 : decode cX2_body 145 = .ok (.bipush 60, 2) := dk_16 60 (dk_at dksX2_body_6 11 rfl rfl)
theorem dX2_body_147 : decode cX2_body 147 = .ok (.invokevirtual 228, 3) := dk_182 0 228 (dk_at dksX2_body_6 13 rfl rfl)
theorem dX2_body_150 : decode cX2_body 150 = .ok (.ireturn, 1) := dk_172 (dk_at dksX2_body_6 16 rfl rfl)
theorem dX2_body_151 : decode cX2_body 151 = .ok (.aload_n 0, 1) := dk_42 (dk_at dksX2_body_6 17 rfl rfl)
theorem dX2_body_152 : decode cX2_body 152 = .ok (.iload_n 2, 1) := dk_28 (dk_at dksX2_body_6 18 rfl rfl)
theorem dX2_body_153 : decode cX2_body 153 = .ok (.iload_n 1, 1) := dk_27 (dk_at dksX2_body_6 19 rfl rfl)
theorem dX2_body_154 : decode cX2_body 154 = .ok (.iconst 2, 1) := dk_5 (dk_at dksX2_body_6 20 rfl rfl)
theorem dX2_body_155 : decode cX2_body 155 = .ok (.if_icmp .ne 7, 3) := dk_160 0 7 (dk_at dksX2_body_6 21 rfl rfl)
theorem dX2_body_158 : decode cX2_body 158 = .ok (.iconst 1, 1) := dk_4 (dk_at dksX2_body_7 0 rfl rfl)
theorem dX2_body_159 : decode cX2_body 159 = .ok (.goto 4, 3) := dk_167 0 4 (dk_at dksX2_body_7 1 rfl rfl)
theorem dX2_body_162 : decode cX2_body 162 = .ok (.iconst 0, 1) := dk_3 (dk_at dksX2_body_7 4 rfl rfl)
theorem dX2_body_163 : decode cX2_body 163 = .ok (.invokevirtual 243, 3) := dk_182 0 243 (dk_at dksX2_body_7 5 rfl rfl)
theorem dX2_body_166 : decode cX2_body 166 = .ok (.ireturn, 1) := dk_172 (dk_at dksX2_body_7 8 rfl rfl)
abbrev cX2_houseClause : ByteArray := prog_19_method_48_code
def yX2_houseClause : MethodName := ⟨RX2, "houseClause", "(I)I"⟩
def dkwX2_houseClause_2 : List UInt8 := [182, 0, 156, 154, 0, 5, 4, 172, 42, 182, 0, 184, 42, 27, 6, 96, 3, 16, 99, 182, 0, 228, 172]
abbrev dktX2_houseClause_2 : List UInt8 := dkwX2_houseClause_2 ++ []
def dkwX2_houseClause_1 : List UInt8 := [16, 101, 184, 0, 142, 27, 5, 96, 17, 39, 15, 182, 0, 236, 61, 28, 153, 0, 5, 28, 172, 42]
abbrev dktX2_houseClause_1 : List UInt8 := dkwX2_houseClause_1 ++ dktX2_houseClause_2
def dkwX2_houseClause_0 : List UInt8 := [42, 27, 4, 96, 3, 16, 19, 182, 0, 228, 61, 28, 154, 0, 27, 42, 16, 112, 16, 117, 16, 114, 16, 115]
abbrev dktX2_houseClause_0 : List UInt8 := dkwX2_houseClause_0 ++ dktX2_houseClause_1
theorem dksX2_houseClause_0 : cX2_houseClause.data.toList.drop 0 = dktX2_houseClause_0 := by decide +kernel
theorem dksX2_houseClause_1 : cX2_houseClause.data.toList.drop 24 = dktX2_houseClause_1 := dk_seg dksX2_houseClause_0 24 rfl rfl
theorem dksX2_houseClause_2 : cX2_houseClause.data.toList.drop 46 = dktX2_houseClause_2 := dk_seg dksX2_houseClause_1 22 rfl rfl
theorem dX2_houseClause_0 : decode cX2_houseClause 0 = .ok (.aload_n 0, 1) := dk_42 (dk_at dksX2_houseClause_0 0 rfl rfl)
theorem dX2_houseClause_1 : decode cX2_houseClause 1 = .ok (.iload_n 1, 1) := dk_27 (dk_at dksX2_houseClause_0 1 rfl rfl)
theorem dX2_houseClause_2 : decode cX2_houseClause 2 = .ok (.iconst 1, 1) := dk_4 (dk_at dksX2_houseClause_0 2 rfl rfl)
theorem dX2_houseClause_3 : decode cX2_houseClause 3 = .ok (.iadd, 1) := dk_96 (dk_at dksX2_houseClause_0 3 rfl rfl)
theorem dX2_houseClause_4 : decode cX2_houseClause 4 = .ok (.iconst 0, 1) := dk_3 (dk_at dksX2_houseClause_0 4 rfl rfl)
theorem dX2_houseClause_5 : decode cX2_houseClause 5 = .ok (.bipush 19, 2) := dk_16 19 (dk_at dksX2_houseClause_0 5 rfl rfl)
theorem dX2_houseClause_7 : decode cX2_houseClause 7 = .ok (.invokevirtual 228, 3) := dk_182 0 228 (dk_at dksX2_houseClause_0 7 rfl rfl)
theorem dX2_houseClause_10 : decode cX2_houseClause 10 = .ok (.istore_n 2, 1) := dk_61 (dk_at dksX2_houseClause_0 10 rfl rfl)
theorem dX2_houseClause_11 : decode cX2_houseClause 11 = .ok (.iload_n 2, 1) := dk_28 (dk_at dksX2_houseClause_0 11 rfl rfl)
theorem dX2_houseClause_12 : decode cX2_houseClause 12 = .ok (.ifCond .ne 27, 3) := dk_154 0 27 (dk_at dksX2_houseClause_0 12 rfl rfl)
theorem dX2_houseClause_15 : decode cX2_houseClause 15 = .ok (.aload_n 0, 1) := dk_42 (dk_at dksX2_houseClause_0 15 rfl rfl)
theorem dX2_houseClause_16 : decode cX2_houseClause 16 = .ok (.bipush 112, 2) := dk_16 112 (dk_at dksX2_houseClause_0 16 rfl rfl)
theorem dX2_houseClause_18 : decode cX2_houseClause 18 = .ok (.bipush 117, 2) := dk_16 117 (dk_at dksX2_houseClause_0 18 rfl rfl)
theorem dX2_houseClause_20 : decode cX2_houseClause 20 = .ok (.bipush 114, 2) := dk_16 114 (dk_at dksX2_houseClause_0 20 rfl rfl)
theorem dX2_houseClause_22 : decode cX2_houseClause 22 = .ok (.bipush 115, 2) := dk_16 115 (dk_at dksX2_houseClause_0 22 rfl rfl)
theorem dX2_houseClause_24 : decode cX2_houseClause 24 = .ok (.bipush 101, 2) := dk_16 101 (dk_at dksX2_houseClause_1 0 rfl rfl)
theorem dX2_houseClause_26 : decode cX2_houseClause 26 = .ok (.invokestatic 142, 3) := dk_184 0 142 (dk_at dksX2_houseClause_1 2 rfl rfl)
theorem dX2_houseClause_29 : decode cX2_houseClause 29 = .ok (.iload_n 1, 1) := dk_27 (dk_at dksX2_houseClause_1 5 rfl rfl)
theorem dX2_houseClause_30 : decode cX2_houseClause 30 = .ok (.iconst 2, 1) := dk_5 (dk_at dksX2_houseClause_1 6 rfl rfl)
theorem dX2_houseClause_31 : decode cX2_houseClause 31 = .ok (.iadd, 1) := dk_96 (dk_at dksX2_houseClause_1 7 rfl rfl)
theorem dX2_houseClause_32 : decode cX2_houseClause 32 = .ok (.sipush 9999, 3) := dk_17 39 15 (dk_at dksX2_houseClause_1 8 rfl rfl)
theorem dX2_houseClause_35 : decode cX2_houseClause 35 = .ok (.invokevirtual 236, 3) := dk_182 0 236 (dk_at dksX2_houseClause_1 11 rfl rfl)
theorem dX2_houseClause_38 : decode cX2_houseClause 38 = .ok (.istore_n 2, 1) := dk_61 (dk_at dksX2_houseClause_1 14 rfl rfl)
theorem dX2_houseClause_39 : decode cX2_houseClause 39 = .ok (.iload_n 2, 1) := dk_28 (dk_at dksX2_houseClause_1 15 rfl rfl)
theorem dX2_houseClause_40 : decode cX2_houseClause 40 = .ok (.ifCond .eq 5, 3) := dk_153 0 5 (dk_at dksX2_houseClause_1 16 rfl rfl)
theorem dX2_houseClause_43 : decode cX2_houseClause 43 = .ok (.iload_n 2, 1) := dk_28 (dk_at dksX2_houseClause_1 19 rfl rfl)
theorem dX2_houseClause_44 : decode cX2_houseClause 44 = .ok (.ireturn, 1) := dk_172 (dk_at dksX2_houseClause_1 20 rfl rfl)
theorem dX2_houseClause_45 : decode cX2_houseClause 45 = .ok (.aload_n 0, 1) := dk_42 (dk_at dksX2_houseClause_1 21 rfl rfl)
theorem dX2_houseClause_46 : decode cX2_houseClause 46 = .ok (.invokevirtual 156, 3) := dk_182 0 156 (dk_at dksX2_houseClause_2 0 rfl rfl)
theorem dX2_houseClause_49 : decode cX2_houseClause 49 = .ok (.ifCond .ne 5, 3) := dk_154 0 5 (dk_at dksX2_houseClause_2 3 rfl rfl)
theorem dX2_houseClause_52 : decode cX2_houseClause 52 = .ok (.iconst 1, 1) := dk_4 (dk_at dksX2_houseClause_2 6 rfl rfl)
theorem dX2_houseClause_53 : decode cX2_houseClause 53 = .ok (.ireturn, 1) := dk_172 (dk_at dksX2_houseClause_2 7 rfl rfl)
theorem dX2_houseClause_54 : decode cX2_houseClause 54 = .ok (.aload_n 0, 1) := dk_42 (dk_at dksX2_houseClause_2 8 rfl rfl)
theorem dX2_houseClause_55 : decode cX2_houseClause 55 = .ok (.invokevirtual 184, 3) := dk_182 0 184 (dk_at dksX2_houseClause_2 9 rfl rfl)
theorem dX2_houseClause_58 : decode cX2_houseClause 58 = .ok (.aload_n 0, 1) := dk_42 (dk_at dksX2_houseClause_2 12 rfl rfl)
theorem dX2_houseClause_59 : decode cX2_houseClause 59 = .ok (.iload_n 1, 1) := dk_27 (dk_at dksX2_houseClause_2 13 rfl rfl)
theorem dX2_houseClause_60 : decode cX2_houseClause 60 = .ok (.iconst 3, 1) := dk_6 (dk_at dksX2_houseClause_2 14 rfl rfl)
theorem dX2_houseClause_61 : decode cX2_houseClause 61 = .ok (.iadd, 1) := dk_96 (dk_at dksX2_houseClause_2 15 rfl rfl)
theorem dX2_houseClause_62 : decode cX2_houseClause 62 = .ok (.iconst 0, 1) := dk_3 (dk_at dksX2_houseClause_2 16 rfl rfl)
theorem dX2_houseClause_63 : decode cX2_houseClause 63 = .ok (.bipush 99, 2) := dk_16 99 (dk_at dksX2_houseClause_2 17 rfl rfl)
theorem dX2_houseClause_65 : decode cX2_houseClause 65 = .ok (.invokevirtual 228, 3) := dk_182 0 228 (dk_at dksX2_houseClause_2 19 rfl rfl)
theorem dX2_houseClause_68 : decode cX2_houseClause 68 = .ok (.ireturn, 1) := dk_172 (dk_at dksX2_houseClause_2 22 rfl rfl)
abbrev cX2_figure : ByteArray := prog_19_method_45_code
def yX2_figure : MethodName := ⟨RX2, "figure", "(III)I"⟩
def dkwX2_figure_1 : List UInt8 := [42, 180, 0, 16, 27, 42, 180, 0, 114, 79, 42, 182, 0, 184, 3, 172]
abbrev dktX2_figure_1 : List UInt8 := dkwX2_figure_1 ++ []
def dkwX2_figure_0 : List UInt8 := [42, 180, 0, 108, 4, 159, 0, 5, 4, 172, 42, 180, 0, 114, 28, 29, 184, 0, 65, 154, 0, 5, 5, 172]
abbrev dktX2_figure_0 : List UInt8 := dkwX2_figure_0 ++ dktX2_figure_1
theorem dksX2_figure_0 : cX2_figure.data.toList.drop 0 = dktX2_figure_0 := by decide +kernel
theorem dksX2_figure_1 : cX2_figure.data.toList.drop 24 = dktX2_figure_1 := dk_seg dksX2_figure_0 24 rfl rfl
theorem dX2_figure_0 : decode cX2_figure 0 = .ok (.aload_n 0, 1) := dk_42 (dk_at dksX2_figure_0 0 rfl rfl)
theorem dX2_figure_1 : decode cX2_figure 1 = .ok (.getfield 108, 3) := dk_180 0 108 (dk_at dksX2_figure_0 1 rfl rfl)
theorem dX2_figure_4 : decode cX2_figure 4 = .ok (.iconst 1, 1) := dk_4 (dk_at dksX2_figure_0 4 rfl rfl)
theorem dX2_figure_5 : decode cX2_figure 5 = .ok (.if_icmp .eq 5, 3) := dk_159 0 5 (dk_at dksX2_figure_0 5 rfl rfl)
theorem dX2_figure_8 : decode cX2_figure 8 = .ok (.iconst 1, 1) := dk_4 (dk_at dksX2_figure_0 8 rfl rfl)
theorem dX2_figure_9 : decode cX2_figure 9 = .ok (.ireturn, 1) := dk_172 (dk_at dksX2_figure_0 9 rfl rfl)
theorem dX2_figure_10 : decode cX2_figure 10 = .ok (.aload_n 0, 1) := dk_42 (dk_at dksX2_figure_0 10 rfl rfl)
theorem dX2_figure_11 : decode cX2_figure 11 = .ok (.getfield 114, 3) := dk_180 0 114 (dk_at dksX2_figure_0 11 rfl rfl)
theorem dX2_figure_14 : decode cX2_figure 14 = .ok (.iload_n 2, 1) := dk_28 (dk_at dksX2_figure_0 14 rfl rfl)
theorem dX2_figure_15 : decode cX2_figure 15 = .ok (.iload_n 3, 1) := dk_29 (dk_at dksX2_figure_0 15 rfl rfl)
theorem dX2_figure_16 : decode cX2_figure 16 = .ok (.invokestatic 65, 3) := dk_184 0 65 (dk_at dksX2_figure_0 16 rfl rfl)
theorem dX2_figure_19 : decode cX2_figure 19 = .ok (.ifCond .ne 5, 3) := dk_154 0 5 (dk_at dksX2_figure_0 19 rfl rfl)
theorem dX2_figure_22 : decode cX2_figure 22 = .ok (.iconst 2, 1) := dk_5 (dk_at dksX2_figure_0 22 rfl rfl)
theorem dX2_figure_23 : decode cX2_figure 23 = .ok (.ireturn, 1) := dk_172 (dk_at dksX2_figure_0 23 rfl rfl)
theorem dX2_figure_24 : decode cX2_figure 24 = .ok (.aload_n 0, 1) := dk_42 (dk_at dksX2_figure_1 0 rfl rfl)
theorem dX2_figure_25 : decode cX2_figure 25 = .ok (.getfield 16, 3) := dk_180 0 16 (dk_at dksX2_figure_1 1 rfl rfl)
theorem dX2_figure_28 : decode cX2_figure 28 = .ok (.iload_n 1, 1) := dk_27 (dk_at dksX2_figure_1 4 rfl rfl)
theorem dX2_figure_29 : decode cX2_figure 29 = .ok (.aload_n 0, 1) := dk_42 (dk_at dksX2_figure_1 5 rfl rfl)
theorem dX2_figure_30 : decode cX2_figure 30 = .ok (.getfield 114, 3) := dk_180 0 114 (dk_at dksX2_figure_1 6 rfl rfl)
theorem dX2_figure_33 : decode cX2_figure 33 = .ok (.iastore, 1) := dk_79 (dk_at dksX2_figure_1 9 rfl rfl)
theorem dX2_figure_34 : decode cX2_figure 34 = .ok (.aload_n 0, 1) := dk_42 (dk_at dksX2_figure_1 10 rfl rfl)
theorem dX2_figure_35 : decode cX2_figure 35 = .ok (.invokevirtual 184, 3) := dk_182 0 184 (dk_at dksX2_figure_1 11 rfl rfl)
theorem dX2_figure_38 : decode cX2_figure 38 = .ok (.iconst 0, 1) := dk_3 (dk_at dksX2_figure_1 14 rfl rfl)
theorem dX2_figure_39 : decode cX2_figure 39 = .ok (.ireturn, 1) := dk_172 (dk_at dksX2_figure_1 15 rfl rfl)
abbrev cX2_worded : ByteArray := prog_19_method_46_code
def yX2_worded : MethodName := ⟨RX2, "worded", "(JII)I"⟩
def dkwX2_worded_0 : List UInt8 := [42, 31, 182, 0, 200, 154, 0, 5, 4, 172, 42, 182, 0, 184, 42, 29, 3, 21, 4, 182, 0, 228, 172]
abbrev dktX2_worded_0 : List UInt8 := dkwX2_worded_0 ++ []
theorem dksX2_worded_0 : cX2_worded.data.toList.drop 0 = dktX2_worded_0 := by decide +kernel
theorem dX2_worded_0 : decode cX2_worded 0 = .ok (.aload_n 0, 1) := dk_42 (dk_at dksX2_worded_0 0 rfl rfl)
theorem dX2_worded_1 : decode cX2_worded 1 = .ok (.lload_n 1, 1) := dk_31 (dk_at dksX2_worded_0 1 rfl rfl)
theorem dX2_worded_2 : decode cX2_worded 2 = .ok (.invokevirtual 200, 3) := dk_182 0 200 (dk_at dksX2_worded_0 2 rfl rfl)
theorem dX2_worded_5 : decode cX2_worded 5 = .ok (.ifCond .ne 5, 3) := dk_154 0 5 (dk_at dksX2_worded_0 5 rfl rfl)
theorem dX2_worded_8 : decode cX2_worded 8 = .ok (.iconst 1, 1) := dk_4 (dk_at dksX2_worded_0 8 rfl rfl)
theorem dX2_worded_9 : decode cX2_worded 9 = .ok (.ireturn, 1) := dk_172 (dk_at dksX2_worded_0 9 rfl rfl)
theorem dX2_worded_10 : decode cX2_worded 10 = .ok (.aload_n 0, 1) := dk_42 (dk_at dksX2_worded_0 10 rfl rfl)
theorem dX2_worded_11 : decode cX2_worded 11 = .ok (.invokevirtual 184, 3) := dk_182 0 184 (dk_at dksX2_worded_0 11 rfl rfl)
theorem dX2_worded_14 : decode cX2_worded 14 = .ok (.aload_n 0, 1) := dk_42 (dk_at dksX2_worded_0 14 rfl rfl)
theorem dX2_worded_15 : decode cX2_worded 15 = .ok (.iload_n 3, 1) := dk_29 (dk_at dksX2_worded_0 15 rfl rfl)
theorem dX2_worded_16 : decode cX2_worded 16 = .ok (.iconst 0, 1) := dk_3 (dk_at dksX2_worded_0 16 rfl rfl)
theorem dX2_worded_17 : decode cX2_worded 17 = .ok (.iload 4, 2) := dk_21 4 (dk_at dksX2_worded_0 17 rfl rfl)
theorem dX2_worded_19 : decode cX2_worded 19 = .ok (.invokevirtual 228, 3) := dk_182 0 228 (dk_at dksX2_worded_0 19 rfl rfl)
theorem dX2_worded_22 : decode cX2_worded 22 = .ok (.ireturn, 1) := dk_172 (dk_at dksX2_worded_0 22 rfl rfl)
abbrev cX2_isFriends : ByteArray := prog_19_method_31_code
def yX2_isFriends : MethodName := ⟨RX2, "isFriends", "()Z"⟩
def dkwX2_isFriends_1 : List UInt8 := [172]
abbrev dktX2_isFriends_1 : List UInt8 := dkwX2_isFriends_1 ++ []
def dkwX2_isFriends_0 : List UInt8 := [42, 16, 102, 16, 114, 16, 105, 16, 101, 184, 0, 138, 16, 110, 16, 100, 16, 115, 184, 0, 134, 182, 0, 152]
abbrev dktX2_isFriends_0 : List UInt8 := dkwX2_isFriends_0 ++ dktX2_isFriends_1
theorem dksX2_isFriends_0 : cX2_isFriends.data.toList.drop 0 = dktX2_isFriends_0 := by decide +kernel
theorem dksX2_isFriends_1 : cX2_isFriends.data.toList.drop 24 = dktX2_isFriends_1 := dk_seg dksX2_isFriends_0 24 rfl rfl
theorem dX2_isFriends_0 : decode cX2_isFriends 0 = .ok (.aload_n 0, 1) := dk_42 (dk_at dksX2_isFriends_0 0 rfl rfl)
theorem dX2_isFriends_1 : decode cX2_isFriends 1 = .ok (.bipush 102, 2) := dk_16 102 (dk_at dksX2_isFriends_0 1 rfl rfl)
theorem dX2_isFriends_3 : decode cX2_isFriends 3 = .ok (.bipush 114, 2) := dk_16 114 (dk_at dksX2_isFriends_0 3 rfl rfl)
theorem dX2_isFriends_5 : decode cX2_isFriends 5 = .ok (.bipush 105, 2) := dk_16 105 (dk_at dksX2_isFriends_0 5 rfl rfl)
theorem dX2_isFriends_7 : decode cX2_isFriends 7 = .ok (.bipush 101, 2) := dk_16 101 (dk_at dksX2_isFriends_0 7 rfl rfl)
theorem dX2_isFriends_9 : decode cX2_isFriends 9 = .ok (.invokestatic 138, 3) := dk_184 0 138 (dk_at dksX2_isFriends_0 9 rfl rfl)
theorem dX2_isFriends_12 : decode cX2_isFriends 12 = .ok (.bipush 110, 2) := dk_16 110 (dk_at dksX2_isFriends_0 12 rfl rfl)
theorem dX2_isFriends_14 : decode cX2_isFriends 14 = .ok (.bipush 100, 2) := dk_16 100 (dk_at dksX2_isFriends_0 14 rfl rfl)
theorem dX2_isFriends_16 : decode cX2_isFriends 16 = .ok (.bipush 115, 2) := dk_16 115 (dk_at dksX2_isFriends_0 16 rfl rfl)
theorem dX2_isFriends_18 : decode cX2_isFriends 18 = .ok (.invokestatic 134, 3) := dk_184 0 134 (dk_at dksX2_isFriends_0 18 rfl rfl)
theorem dX2_isFriends_21 : decode cX2_isFriends 21 = .ok (.invokevirtual 152, 3) := dk_182 0 152 (dk_at dksX2_isFriends_0 21 rfl rfl)
theorem dX2_isFriends_24 : decode cX2_isFriends 24 = .ok (.ireturn, 1) := dk_172 (dk_at dksX2_isFriends_1 0 rfl rfl)
abbrev cX2_isLong : ByteArray := prog_19_method_30_code
def yX2_isLong : MethodName := ⟨RX2, "isLong", "(JJ)Z"⟩
def dkwX2_isLong_4 : List UInt8 := [16, 6, 96, 182, 0, 101, 184, 0, 134, 33, 148, 154, 0, 7, 4, 167, 0, 4, 3, 172]
abbrev dktX2_isLong_4 : List UInt8 := dkwX2_isLong_4 ++ []
def dkwX2_isLong_3 : List UInt8 := [180, 0, 105, 7, 96, 182, 0, 101, 42, 42, 180, 0, 105, 8, 96, 182, 0, 101, 42, 42, 180, 0, 105]
abbrev dktX2_isLong_3 : List UInt8 := dkwX2_isLong_3 ++ dktX2_isLong_4
def dkwX2_isLong_2 : List UInt8 := [96, 182, 0, 101, 42, 42, 180, 0, 105, 6, 96, 182, 0, 101, 184, 0, 138, 31, 148, 154, 0, 46, 42, 42]
abbrev dktX2_isLong_2 : List UInt8 := dkwX2_isLong_2 ++ dktX2_isLong_3
def dkwX2_isLong_1 : List UInt8 := [42, 42, 180, 0, 105, 182, 0, 101, 42, 42, 180, 0, 105, 4, 96, 182, 0, 101, 42, 42, 180, 0, 105, 5]
abbrev dktX2_isLong_1 : List UInt8 := dkwX2_isLong_1 ++ dktX2_isLong_2
def dkwX2_isLong_0 : List UInt8 := [42, 180, 0, 108, 5, 160, 0, 17, 42, 180, 0, 98, 42, 180, 0, 105, 100, 16, 7, 159, 0, 5, 3, 172]
abbrev dktX2_isLong_0 : List UInt8 := dkwX2_isLong_0 ++ dktX2_isLong_1
theorem dksX2_isLong_0 : cX2_isLong.data.toList.drop 0 = dktX2_isLong_0 := by decide +kernel
theorem dksX2_isLong_1 : cX2_isLong.data.toList.drop 24 = dktX2_isLong_1 := dk_seg dksX2_isLong_0 24 rfl rfl
theorem dksX2_isLong_2 : cX2_isLong.data.toList.drop 48 = dktX2_isLong_2 := dk_seg dksX2_isLong_1 24 rfl rfl
theorem dksX2_isLong_3 : cX2_isLong.data.toList.drop 72 = dktX2_isLong_3 := dk_seg dksX2_isLong_2 24 rfl rfl
theorem dksX2_isLong_4 : cX2_isLong.data.toList.drop 95 = dktX2_isLong_4 := dk_seg dksX2_isLong_3 23 rfl rfl
theorem dX2_isLong_0 : decode cX2_isLong 0 = .ok (.aload_n 0, 1) := dk_42 (dk_at dksX2_isLong_0 0 rfl rfl)
theorem dX2_isLong_1 : decode cX2_isLong 1 = .ok (.getfield 108, 3) := dk_180 0 108 (dk_at dksX2_isLong_0 1 rfl rfl)
theorem dX2_isLong_4 : decode cX2_isLong 4 = .ok (.iconst 2, 1) := dk_5 (dk_at dksX2_isLong_0 4 rfl rfl)
theorem dX2_isLong_5 : decode cX2_isLong 5 = .ok (.if_icmp .ne 17, 3) := dk_160 0 17 (dk_at dksX2_isLong_0 5 rfl rfl)
theorem dX2_isLong_8 : decode cX2_isLong 8 = .ok (.aload_n 0, 1) := dk_42 (dk_at dksX2_isLong_0 8 rfl rfl)
theorem dX2_isLong_9 : decode cX2_isLong 9 = .ok (.getfield 98, 3) := dk_180 0 98 (dk_at dksX2_isLong_0 9 rfl rfl)
theorem dX2_isLong_12 : decode cX2_isLong 12 = .ok (.aload_n 0, 1) := dk_42 (dk_at dksX2_isLong_0 12 rfl rfl)
theorem dX2_isLong_13 : decode cX2_isLong 13 = .ok (.getfield 105, 3) := dk_180 0 105 (dk_at dksX2_isLong_0 13 rfl rfl)
theorem dX2_isLong_16 : decode cX2_isLong 16 = .ok (.isub, 1) := dk_100 (dk_at dksX2_isLong_0 16 rfl rfl)
theorem dX2_isLong_17 : decode cX2_isLong 17 = .ok (.bipush 7, 2) := dk_16 7 (dk_at dksX2_isLong_0 17 rfl rfl)
theorem dX2_isLong_19 : decode cX2_isLong 19 = .ok (.if_icmp .eq 5, 3) := dk_159 0 5 (dk_at dksX2_isLong_0 19 rfl rfl)
theorem dX2_isLong_22 : decode cX2_isLong 22 = .ok (.iconst 0, 1) := dk_3 (dk_at dksX2_isLong_0 22 rfl rfl)
theorem dX2_isLong_23 : decode cX2_isLong 23 = .ok (.ireturn, 1) := dk_172 (dk_at dksX2_isLong_0 23 rfl rfl)
theorem dX2_isLong_24 : decode cX2_isLong 24 = .ok (.aload_n 0, 1) := dk_42 (dk_at dksX2_isLong_1 0 rfl rfl)
theorem dX2_isLong_25 : decode cX2_isLong 25 = .ok (.aload_n 0, 1) := dk_42 (dk_at dksX2_isLong_1 1 rfl rfl)
theorem dX2_isLong_26 : decode cX2_isLong 26 = .ok (.getfield 105, 3) := dk_180 0 105 (dk_at dksX2_isLong_1 2 rfl rfl)
theorem dX2_isLong_29 : decode cX2_isLong 29 = .ok (.invokevirtual 101, 3) := dk_182 0 101 (dk_at dksX2_isLong_1 5 rfl rfl)
theorem dX2_isLong_32 : decode cX2_isLong 32 = .ok (.aload_n 0, 1) := dk_42 (dk_at dksX2_isLong_1 8 rfl rfl)
theorem dX2_isLong_33 : decode cX2_isLong 33 = .ok (.aload_n 0, 1) := dk_42 (dk_at dksX2_isLong_1 9 rfl rfl)
theorem dX2_isLong_34 : decode cX2_isLong 34 = .ok (.getfield 105, 3) := dk_180 0 105 (dk_at dksX2_isLong_1 10 rfl rfl)
theorem dX2_isLong_37 : decode cX2_isLong 37 = .ok (.iconst 1, 1) := dk_4 (dk_at dksX2_isLong_1 13 rfl rfl)
theorem dX2_isLong_38 : decode cX2_isLong 38 = .ok (.iadd, 1) := dk_96 (dk_at dksX2_isLong_1 14 rfl rfl)
theorem dX2_isLong_39 : decode cX2_isLong 39 = .ok (.invokevirtual 101, 3) := dk_182 0 101 (dk_at dksX2_isLong_1 15 rfl rfl)
theorem dX2_isLong_42 : decode cX2_isLong 42 = .ok (.aload_n 0, 1) := dk_42 (dk_at dksX2_isLong_1 18 rfl rfl)
theorem dX2_isLong_43 : decode cX2_isLong 43 = .ok (.aload_n 0, 1) := dk_42 (dk_at dksX2_isLong_1 19 rfl rfl)
theorem dX2_isLong_44 : decode cX2_isLong 44 = .ok (.getfield 105, 3) := dk_180 0 105 (dk_at dksX2_isLong_1 20 rfl rfl)
theorem dX2_isLong_47 : decode cX2_isLong 47 = .ok (.iconst 2, 1) := dk_5 (dk_at dksX2_isLong_1 23 rfl rfl)
theorem dX2_isLong_48 : decode cX2_isLong 48 = .ok (.iadd, 1) := dk_96 (dk_at dksX2_isLong_2 0 rfl rfl)
theorem dX2_isLong_49 : decode cX2_isLong 49 = .ok (.invokevirtual 101, 3) := dk_182 0 101 (dk_at dksX2_isLong_2 1 rfl rfl)
theorem dX2_isLong_52 : decode cX2_isLong 52 = .ok (.aload_n 0, 1) := dk_42 (dk_at dksX2_isLong_2 4 rfl rfl)
theorem dX2_isLong_53 : decode cX2_isLong 53 = .ok (.aload_n 0, 1) := dk_42 (dk_at dksX2_isLong_2 5 rfl rfl)
theorem dX2_isLong_54 : decode cX2_isLong 54 = .ok (.getfield 105, 3) := dk_180 0 105 (dk_at dksX2_isLong_2 6 rfl rfl)
theorem dX2_isLong_57 : decode cX2_isLong 57 = .ok (.iconst 3, 1) := dk_6 (dk_at dksX2_isLong_2 9 rfl rfl)
theorem dX2_isLong_58 : decode cX2_isLong 58 = .ok (.iadd, 1) := dk_96 (dk_at dksX2_isLong_2 10 rfl rfl)
theorem dX2_isLong_59 : decode cX2_isLong 59 = .ok (.invokevirtual 101, 3) := dk_182 0 101 (dk_at dksX2_isLong_2 11 rfl rfl)
theorem dX2_isLong_62 : decode cX2_isLong 62 = .ok (.invokestatic 138, 3) := dk_184 0 138 (dk_at dksX2_isLong_2 14 rfl rfl)
theorem dX2_isLong_65 : decode cX2_isLong 65 = .ok (.lload_n 1, 1) := dk_31 (dk_at dksX2_isLong_2 17 rfl rfl)
theorem dX2_isLong_66 : decode cX2_isLong 66 = .ok (.lcmp, 1) := dk_148 (dk_at dksX2_isLong_2 18 rfl rfl)
theorem dX2_isLong_67 : decode cX2_isLong 67 = .ok (.ifCond .ne 46, 3) := dk_154 0 46 (dk_at dksX2_isLong_2 19 rfl rfl)
theorem dX2_isLong_70 : decode cX2_isLong 70 = .ok (.aload_n 0, 1) := dk_42 (dk_at dksX2_isLong_2 22 rfl rfl)
theorem dX2_isLong_71 : decode cX2_isLong 71 = .ok (.aload_n 0, 1) := dk_42 (dk_at dksX2_isLong_2 23 rfl rfl)
theorem dX2_isLong_72 : decode cX2_isLong 72 = .ok (.getfield 105, 3) := dk_180 0 105 (dk_at dksX2_isLong_3 0 rfl rfl)
theorem dX2_isLong_75 : decode cX2_isLong 75 = .ok (.iconst 4, 1) := dk_7 (dk_at dksX2_isLong_3 3 rfl rfl)
theorem dX2_isLong_76 : decode cX2_isLong 76 = .ok (.iadd, 1) := dk_96 (dk_at dksX2_isLong_3 4 rfl rfl)
theorem dX2_isLong_77 : decode cX2_isLong 77 = .ok (.invokevirtual 101, 3) := dk_182 0 101 (dk_at dksX2_isLong_3 5 rfl rfl)
theorem dX2_isLong_80 : decode cX2_isLong 80 = .ok (.aload_n 0, 1) := dk_42 (dk_at dksX2_isLong_3 8 rfl rfl)
theorem dX2_isLong_81 : decode cX2_isLong 81 = .ok (.aload_n 0, 1) := dk_42 (dk_at dksX2_isLong_3 9 rfl rfl)
theorem dX2_isLong_82 : decode cX2_isLong 82 = .ok (.getfield 105, 3) := dk_180 0 105 (dk_at dksX2_isLong_3 10 rfl rfl)
theorem dX2_isLong_85 : decode cX2_isLong 85 = .ok (.iconst 5, 1) := dk_8 (dk_at dksX2_isLong_3 13 rfl rfl)
theorem dX2_isLong_86 : decode cX2_isLong 86 = .ok (.iadd, 1) := dk_96 (dk_at dksX2_isLong_3 14 rfl rfl)
theorem dX2_isLong_87 : decode cX2_isLong 87 = .ok (.invokevirtual 101, 3) := dk_182 0 101 (dk_at dksX2_isLong_3 15 rfl rfl)
theorem dX2_isLong_90 : decode cX2_isLong 90 = .ok (.aload_n 0, 1) := dk_42 (dk_at dksX2_isLong_3 18 rfl rfl)
theorem dX2_isLong_91 : decode cX2_isLong 91 = .ok (.aload_n 0, 1) := dk_42 (dk_at dksX2_isLong_3 19 rfl rfl)
theorem dX2_isLong_92 : decode cX2_isLong 92 = .ok (.getfield 105, 3) := dk_180 0 105 (dk_at dksX2_isLong_3 20 rfl rfl)
theorem dX2_isLong_95 : decode cX2_isLong 95 = .ok (.bipush 6, 2) := dk_16 6 (dk_at dksX2_isLong_4 0 rfl rfl)
theorem dX2_isLong_97 : decode cX2_isLong 97 = .ok (.iadd, 1) := dk_96 (dk_at dksX2_isLong_4 2 rfl rfl)
theorem dX2_isLong_98 : decode cX2_isLong 98 = .ok (.invokevirtual 101, 3) := dk_182 0 101 (dk_at dksX2_isLong_4 3 rfl rfl)
theorem dX2_isLong_101 : decode cX2_isLong 101 = .ok (.invokestatic 134, 3) := dk_184 0 134 (dk_at dksX2_isLong_4 6 rfl rfl)
theorem dX2_isLong_104 : decode cX2_isLong 104 = .ok (.lload_n 3, 1) := dk_33 (dk_at dksX2_isLong_4 9 rfl rfl)
theorem dX2_isLong_105 : decode cX2_isLong 105 = .ok (.lcmp, 1) := dk_148 (dk_at dksX2_isLong_4 10 rfl rfl)
theorem dX2_isLong_106 : decode cX2_isLong 106 = .ok (.ifCond .ne 7, 3) := dk_154 0 7 (dk_at dksX2_isLong_4 11 rfl rfl)
theorem dX2_isLong_109 : decode cX2_isLong 109 = .ok (.iconst 1, 1) := dk_4 (dk_at dksX2_isLong_4 14 rfl rfl)
theorem dX2_isLong_110 : decode cX2_isLong 110 = .ok (.goto 4, 3) := dk_167 0 4 (dk_at dksX2_isLong_4 15 rfl rfl)
theorem dX2_isLong_113 : decode cX2_isLong 113 = .ok (.iconst 0, 1) := dk_3 (dk_at dksX2_isLong_4 18 rfl rfl)
theorem dX2_isLong_114 : decode cX2_isLong 114 = .ok (.ireturn, 1) := dk_172 (dk_at dksX2_isLong_4 19 rfl rfl)
abbrev cX2_lawClause : ByteArray := prog_19_method_47_code
def yX2_lawClause : MethodName := ⟨RX2, "lawClause", "(IZ)I"⟩
def dkwX2_lawClause_1 : List UInt8 := [96, 42, 180, 0, 149, 79, 29, 172]
abbrev dktX2_lawClause_1 : List UInt8 := dkwX2_lawClause_1 ++ []
def dkwX2_lawClause_0 : List UInt8 := [42, 180, 0, 16, 27, 4, 96, 42, 180, 0, 149, 79, 42, 28, 182, 0, 232, 62, 42, 180, 0, 16, 27, 5]
abbrev dktX2_lawClause_0 : List UInt8 := dkwX2_lawClause_0 ++ dktX2_lawClause_1
theorem dksX2_lawClause_0 : cX2_lawClause.data.toList.drop 0 = dktX2_lawClause_0 := by decide +kernel
theorem dksX2_lawClause_1 : cX2_lawClause.data.toList.drop 24 = dktX2_lawClause_1 := dk_seg dksX2_lawClause_0 24 rfl rfl
theorem dX2_lawClause_0 : decode cX2_lawClause 0 = .ok (.aload_n 0, 1) := dk_42 (dk_at dksX2_lawClause_0 0 rfl rfl)
theorem dX2_lawClause_1 : decode cX2_lawClause 1 = .ok (.getfield 16, 3) := dk_180 0 16 (dk_at dksX2_lawClause_0 1 rfl rfl)
theorem dX2_lawClause_4 : decode cX2_lawClause 4 = .ok (.iload_n 1, 1) := dk_27 (dk_at dksX2_lawClause_0 4 rfl rfl)
theorem dX2_lawClause_5 : decode cX2_lawClause 5 = .ok (.iconst 1, 1) := dk_4 (dk_at dksX2_lawClause_0 5 rfl rfl)
theorem dX2_lawClause_6 : decode cX2_lawClause 6 = .ok (.iadd, 1) := dk_96 (dk_at dksX2_lawClause_0 6 rfl rfl)
theorem dX2_lawClause_7 : decode cX2_lawClause 7 = .ok (.aload_n 0, 1) := dk_42 (dk_at dksX2_lawClause_0 7 rfl rfl)
theorem dX2_lawClause_8 : decode cX2_lawClause 8 = .ok (.getfield 149, 3) := dk_180 0 149 (dk_at dksX2_lawClause_0 8 rfl rfl)
theorem dX2_lawClause_11 : decode cX2_lawClause 11 = .ok (.iastore, 1) := dk_79 (dk_at dksX2_lawClause_0 11 rfl rfl)
theorem dX2_lawClause_12 : decode cX2_lawClause 12 = .ok (.aload_n 0, 1) := dk_42 (dk_at dksX2_lawClause_0 12 rfl rfl)
theorem dX2_lawClause_13 : decode cX2_lawClause 13 = .ok (.iload_n 2, 1) := dk_28 (dk_at dksX2_lawClause_0 13 rfl rfl)
theorem dX2_lawClause_14 : decode cX2_lawClause 14 = .ok (.invokevirtual 232, 3) := dk_182 0 232 (dk_at dksX2_lawClause_0 14 rfl rfl)
theorem dX2_lawClause_17 : decode cX2_lawClause 17 = .ok (.istore_n 3, 1) := dk_62 (dk_at dksX2_lawClause_0 17 rfl rfl)
theorem dX2_lawClause_18 : decode cX2_lawClause 18 = .ok (.aload_n 0, 1) := dk_42 (dk_at dksX2_lawClause_0 18 rfl rfl)
theorem dX2_lawClause_19 : decode cX2_lawClause 19 = .ok (.getfield 16, 3) := dk_180 0 16 (dk_at dksX2_lawClause_0 19 rfl rfl)
theorem dX2_lawClause_22 : decode cX2_lawClause 22 = .ok (.iload_n 1, 1) := dk_27 (dk_at dksX2_lawClause_0 22 rfl rfl)
theorem dX2_lawClause_23 : decode cX2_lawClause 23 = .ok (.iconst 2, 1) := dk_5 (dk_at dksX2_lawClause_0 23 rfl rfl)
theorem dX2_lawClause_24 : decode cX2_lawClause 24 = .ok (.iadd, 1) := dk_96 (dk_at dksX2_lawClause_1 0 rfl rfl)
theorem dX2_lawClause_25 : decode cX2_lawClause 25 = .ok (.aload_n 0, 1) := dk_42 (dk_at dksX2_lawClause_1 1 rfl rfl)
theorem dX2_lawClause_26 : decode cX2_lawClause 26 = .ok (.getfield 149, 3) := dk_180 0 149 (dk_at dksX2_lawClause_1 2 rfl rfl)
theorem dX2_lawClause_29 : decode cX2_lawClause 29 = .ok (.iastore, 1) := dk_79 (dk_at dksX2_lawClause_1 5 rfl rfl)
theorem dX2_lawClause_30 : decode cX2_lawClause 30 = .ok (.iload_n 3, 1) := dk_29 (dk_at dksX2_lawClause_1 6 rfl rfl)
theorem dX2_lawClause_31 : decode cX2_lawClause 31 = .ok (.ireturn, 1) := dk_172 (dk_at dksX2_lawClause_1 7 rfl rfl)
abbrev cX2_parsed : ByteArray := prog_19_method_44_code
def yX2_parsed : MethodName := ⟨RX2, "parsed", "(Z)I"⟩
def dkwX2_parsed_3 : List UInt8 := [4, 172, 42, 4, 182, 0, 207, 3, 172]
abbrev dktX2_parsed_3 : List UInt8 := dkwX2_parsed_3 ++ []
def dkwX2_parsed_2 : List UInt8 := [154, 0, 6, 167, 255, 227, 42, 182, 0, 181, 154, 0, 14, 27, 153, 0, 12, 42, 182, 0, 213, 154, 0, 5]
abbrev dktX2_parsed_2 : List UInt8 := dkwX2_parsed_2 ++ dktX2_parsed_3
def dkwX2_parsed_1 : List UInt8 := [153, 0, 10, 42, 182, 0, 222, 167, 0, 7, 42, 182, 0, 225, 61, 28, 158, 0, 5, 28, 172, 28]
abbrev dktX2_parsed_1 : List UInt8 := dkwX2_parsed_1 ++ dktX2_parsed_2
def dkwX2_parsed_0 : List UInt8 := [42, 3, 181, 0, 164, 42, 3, 181, 0, 174, 42, 3, 181, 0, 210, 42, 27, 181, 0, 177, 42, 180, 0, 210]
abbrev dktX2_parsed_0 : List UInt8 := dkwX2_parsed_0 ++ dktX2_parsed_1
theorem dksX2_parsed_0 : cX2_parsed.data.toList.drop 0 = dktX2_parsed_0 := by decide +kernel
theorem dksX2_parsed_1 : cX2_parsed.data.toList.drop 24 = dktX2_parsed_1 := dk_seg dksX2_parsed_0 24 rfl rfl
theorem dksX2_parsed_2 : cX2_parsed.data.toList.drop 46 = dktX2_parsed_2 := dk_seg dksX2_parsed_1 22 rfl rfl
theorem dksX2_parsed_3 : cX2_parsed.data.toList.drop 70 = dktX2_parsed_3 := dk_seg dksX2_parsed_2 24 rfl rfl
theorem dX2_parsed_0 : decode cX2_parsed 0 = .ok (.aload_n 0, 1) := dk_42 (dk_at dksX2_parsed_0 0 rfl rfl)
theorem dX2_parsed_1 : decode cX2_parsed 1 = .ok (.iconst 0, 1) := dk_3 (dk_at dksX2_parsed_0 1 rfl rfl)
theorem dX2_parsed_2 : decode cX2_parsed 2 = .ok (.putfield 164, 3) := dk_181 0 164 (dk_at dksX2_parsed_0 2 rfl rfl)
theorem dX2_parsed_5 : decode cX2_parsed 5 = .ok (.aload_n 0, 1) := dk_42 (dk_at dksX2_parsed_0 5 rfl rfl)
theorem dX2_parsed_6 : decode cX2_parsed 6 = .ok (.iconst 0, 1) := dk_3 (dk_at dksX2_parsed_0 6 rfl rfl)
theorem dX2_parsed_7 : decode cX2_parsed 7 = .ok (.putfield 174, 3) := dk_181 0 174 (dk_at dksX2_parsed_0 7 rfl rfl)
theorem dX2_parsed_10 : decode cX2_parsed 10 = .ok (.aload_n 0, 1) := dk_42 (dk_at dksX2_parsed_0 10 rfl rfl)
theorem dX2_parsed_11 : decode cX2_parsed 11 = .ok (.iconst 0, 1) := dk_3 (dk_at dksX2_parsed_0 11 rfl rfl)
theorem dX2_parsed_12 : decode cX2_parsed 12 = .ok (.putfield 210, 3) := dk_181 0 210 (dk_at dksX2_parsed_0 12 rfl rfl)
theorem dX2_parsed_15 : decode cX2_parsed 15 = .ok (.aload_n 0, 1) := dk_42 (dk_at dksX2_parsed_0 15 rfl rfl)
theorem dX2_parsed_16 : decode cX2_parsed 16 = .ok (.iload_n 1, 1) := dk_27 (dk_at dksX2_parsed_0 16 rfl rfl)
theorem dX2_parsed_17 : decode cX2_parsed 17 = .ok (.putfield 177, 3) := dk_181 0 177 (dk_at dksX2_parsed_0 17 rfl rfl)
theorem dX2_parsed_20 : decode cX2_parsed 20 = .ok (.aload_n 0, 1) := dk_42 (dk_at dksX2_parsed_0 20 rfl rfl)
theorem dX2_parsed_21 : decode cX2_parsed 21 = .ok (.getfield 210, 3) := dk_180 0 210 (dk_at dksX2_parsed_0 21 rfl rfl)
theorem dX2_parsed_24 : decode cX2_parsed 24 = .ok (.ifCond .eq 10, 3) := dk_153 0 10 (dk_at dksX2_parsed_1 0 rfl rfl)
theorem dX2_parsed_27 : decode cX2_parsed 27 = .ok (.aload_n 0, 1) := dk_42 (dk_at dksX2_parsed_1 3 rfl rfl)
theorem dX2_parsed_28 : decode cX2_parsed 28 = .ok (.invokevirtual 222, 3) := dk_182 0 222 (dk_at dksX2_parsed_1 4 rfl rfl)
theorem dX2_parsed_31 : decode cX2_parsed 31 = .ok (.goto 7, 3) := dk_167 0 7 (dk_at dksX2_parsed_1 7 rfl rfl)
theorem dX2_parsed_34 : decode cX2_parsed 34 = .ok (.aload_n 0, 1) := dk_42 (dk_at dksX2_parsed_1 10 rfl rfl)
theorem dX2_parsed_35 : decode cX2_parsed 35 = .ok (.invokevirtual 225, 3) := dk_182 0 225 (dk_at dksX2_parsed_1 11 rfl rfl)
theorem dX2_parsed_38 : decode cX2_parsed 38 = .ok (.istore_n 2, 1) := dk_61 (dk_at dksX2_parsed_1 14 rfl rfl)
theorem dX2_parsed_39 : decode cX2_parsed 39 = .ok (.iload_n 2, 1) := dk_28 (dk_at dksX2_parsed_1 15 rfl rfl)
theorem dX2_parsed_40 : decode cX2_parsed 40 = .ok (.ifCond .le 5, 3) := dk_158 0 5 (dk_at dksX2_parsed_1 16 rfl rfl)
theorem dX2_parsed_43 : decode cX2_parsed 43 = .ok (.iload_n 2, 1) := dk_28 (dk_at dksX2_parsed_1 19 rfl rfl)
theorem dX2_parsed_44 : decode cX2_parsed 44 = .ok (.ireturn, 1) := dk_172 (dk_at dksX2_parsed_1 20 rfl rfl)
theorem dX2_parsed_45 : decode cX2_parsed 45 = .ok (.iload_n 2, 1) := dk_28 (dk_at dksX2_parsed_1 21 rfl rfl)
theorem dX2_parsed_46 : decode cX2_parsed 46 = .ok (.ifCond .ne 6, 3) := dk_154 0 6 (dk_at dksX2_parsed_2 0 rfl rfl)
theorem dX2_parsed_49 : decode cX2_parsed 49 = .ok (.goto (-29), 3) := dk_167 255 227 (dk_at dksX2_parsed_2 3 rfl rfl)
theorem dX2_parsed_52 : decode cX2_parsed 52 = .ok (.aload_n 0, 1) := dk_42 (dk_at dksX2_parsed_2 6 rfl rfl)
theorem dX2_parsed_53 : decode cX2_parsed 53 = .ok (.invokevirtual 181, 3) := dk_182 0 181 (dk_at dksX2_parsed_2 7 rfl rfl)
theorem dX2_parsed_56 : decode cX2_parsed 56 = .ok (.ifCond .ne 14, 3) := dk_154 0 14 (dk_at dksX2_parsed_2 10 rfl rfl)
theorem dX2_parsed_59 : decode cX2_parsed 59 = .ok (.iload_n 1, 1) := dk_27 (dk_at dksX2_parsed_2 13 rfl rfl)
theorem dX2_parsed_60 : decode cX2_parsed 60 = .ok (.ifCond .eq 12, 3) := dk_153 0 12 (dk_at dksX2_parsed_2 14 rfl rfl)
theorem dX2_parsed_63 : decode cX2_parsed 63 = .ok (.aload_n 0, 1) := dk_42 (dk_at dksX2_parsed_2 17 rfl rfl)
theorem dX2_parsed_64 : decode cX2_parsed 64 = .ok (.invokevirtual 213, 3) := dk_182 0 213 (dk_at dksX2_parsed_2 18 rfl rfl)
theorem dX2_parsed_67 : decode cX2_parsed 67 = .ok (.ifCond .ne 5, 3) := dk_154 0 5 (dk_at dksX2_parsed_2 21 rfl rfl)
theorem dX2_parsed_70 : decode cX2_parsed 70 = .ok (.iconst 1, 1) := dk_4 (dk_at dksX2_parsed_3 0 rfl rfl)
theorem dX2_parsed_71 : decode cX2_parsed 71 = .ok (.ireturn, 1) := dk_172 (dk_at dksX2_parsed_3 1 rfl rfl)
theorem dX2_parsed_72 : decode cX2_parsed 72 = .ok (.aload_n 0, 1) := dk_42 (dk_at dksX2_parsed_3 2 rfl rfl)
theorem dX2_parsed_73 : decode cX2_parsed 73 = .ok (.iconst 1, 1) := dk_4 (dk_at dksX2_parsed_3 3 rfl rfl)
theorem dX2_parsed_74 : decode cX2_parsed 74 = .ok (.invokevirtual 207, 3) := dk_182 0 207 (dk_at dksX2_parsed_3 4 rfl rfl)
theorem dX2_parsed_77 : decode cX2_parsed 77 = .ok (.iconst 0, 1) := dk_3 (dk_at dksX2_parsed_3 7 rfl rfl)
theorem dX2_parsed_78 : decode cX2_parsed 78 = .ok (.ireturn, 1) := dk_172 (dk_at dksX2_parsed_3 8 rfl rfl)
abbrev cX2_behindOne : ByteArray := prog_19_method_43_code
def yX2_behindOne : MethodName := ⟨RX2, "behindOne", "()I"⟩
def dkwX2_behindOne_4 : List UInt8 := [181, 0, 164, 42, 89, 180, 0, 174, 4, 100, 181, 0, 174, 42, 182, 0, 184, 42, 182, 0, 194, 172]
abbrev dktX2_behindOne_4 : List UInt8 := dkwX2_behindOne_4 ++ []
def dkwX2_behindOne_3 : List UInt8 := [180, 0, 108, 16, 41, 159, 0, 5, 2, 172, 42, 4, 182, 0, 207, 42, 89, 180, 0, 164, 4, 100]
abbrev dktX2_behindOne_3 : List UInt8 := dkwX2_behindOne_3 ++ dktX2_behindOne_4
def dkwX2_behindOne_2 : List UInt8 := [181, 0, 164, 42, 3, 181, 0, 210, 42, 182, 0, 184, 3, 172, 42, 182, 0, 181, 153, 0, 12, 42]
abbrev dktX2_behindOne_2 : List UInt8 := dkwX2_behindOne_2 ++ dktX2_behindOne_3
def dkwX2_behindOne_1 : List UInt8 := [184, 0, 167, 182, 0, 207, 42, 180, 0, 29, 42, 180, 0, 164, 27, 79, 42, 89, 180, 0, 164, 4, 96]
abbrev dktX2_behindOne_1 : List UInt8 := dkwX2_behindOne_1 ++ dktX2_behindOne_2
def dkwX2_behindOne_0 : List UInt8 := [42, 182, 0, 219, 60, 27, 155, 0, 54, 42, 27, 184, 0, 167, 7, 160, 0, 7, 8, 167, 0, 7, 27]
abbrev dktX2_behindOne_0 : List UInt8 := dkwX2_behindOne_0 ++ dktX2_behindOne_1
theorem dksX2_behindOne_0 : cX2_behindOne.data.toList.drop 0 = dktX2_behindOne_0 := by decide +kernel
theorem dksX2_behindOne_1 : cX2_behindOne.data.toList.drop 23 = dktX2_behindOne_1 := dk_seg dksX2_behindOne_0 23 rfl rfl
theorem dksX2_behindOne_2 : cX2_behindOne.data.toList.drop 46 = dktX2_behindOne_2 := dk_seg dksX2_behindOne_1 23 rfl rfl
theorem dksX2_behindOne_3 : cX2_behindOne.data.toList.drop 68 = dktX2_behindOne_3 := dk_seg dksX2_behindOne_2 22 rfl rfl
theorem dksX2_behindOne_4 : cX2_behindOne.data.toList.drop 90 = dktX2_behindOne_4 := dk_seg dksX2_behindOne_3 22 rfl rfl
theorem dX2_behindOne_0 : decode cX2_behindOne 0 = .ok (.aload_n 0, 1) := dk_42 (dk_at dksX2_behindOne_0 0 rfl rfl)
theorem dX2_behindOne_1 : decode cX2_behindOne 1 = .ok (.invokevirtual 219, 3) := dk_182 0 219 (dk_at dksX2_behindOne_0 1 rfl rfl)
theorem dX2_behindOne_4 : decode cX2_behindOne 4 = .ok (.istore_n 1, 1) := dk_60 (dk_at dksX2_behindOne_0 4 rfl rfl)
theorem dX2_behindOne_5 : decode cX2_behindOne 5 = .ok (.iload_n 1, 1) := dk_27 (dk_at dksX2_behindOne_0 5 rfl rfl)
theorem dX2_behindOne_6 : decode cX2_behindOne 6 = .ok (.ifCond .lt 54, 3) := dk_155 0 54 (dk_at dksX2_behindOne_0 6 rfl rfl)
theorem dX2_behindOne_9 : decode cX2_behindOne 9 = .ok (.aload_n 0, 1) := dk_42 (dk_at dksX2_behindOne_0 9 rfl rfl)
theorem dX2_behindOne_10 : decode cX2_behindOne 10 = .ok (.iload_n 1, 1) := dk_27 (dk_at dksX2_behindOne_0 10 rfl rfl)
theorem dX2_behindOne_11 : decode cX2_behindOne 11 = .ok (.invokestatic 167, 3) := dk_184 0 167 (dk_at dksX2_behindOne_0 11 rfl rfl)
theorem dX2_behindOne_14 : decode cX2_behindOne 14 = .ok (.iconst 4, 1) := dk_7 (dk_at dksX2_behindOne_0 14 rfl rfl)
theorem dX2_behindOne_15 : decode cX2_behindOne 15 = .ok (.if_icmp .ne 7, 3) := dk_160 0 7 (dk_at dksX2_behindOne_0 15 rfl rfl)
theorem dX2_behindOne_18 : decode cX2_behindOne 18 = .ok (.iconst 5, 1) := dk_8 (dk_at dksX2_behindOne_0 18 rfl rfl)
theorem dX2_behindOne_19 : decode cX2_behindOne 19 = .ok (.goto 7, 3) := dk_167 0 7 (dk_at dksX2_behindOne_0 19 rfl rfl)
theorem dX2_behindOne_22 : decode cX2_behindOne 22 = .ok (.iload_n 1, 1) := dk_27 (dk_at dksX2_behindOne_0 22 rfl rfl)
theorem dX2_behindOne_23 : decode cX2_behindOne 23 = .ok (.invokestatic 167, 3) := dk_184 0 167 (dk_at dksX2_behindOne_1 0 rfl rfl)
theorem dX2_behindOne_26 : decode cX2_behindOne 26 = .ok (.invokevirtual 207, 3) := dk_182 0 207 (dk_at dksX2_behindOne_1 3 rfl rfl)
theorem dX2_behindOne_29 : decode cX2_behindOne 29 = .ok (.aload_n 0, 1) := dk_42 (dk_at dksX2_behindOne_1 6 rfl rfl)
theorem dX2_behindOne_30 : decode cX2_behindOne 30 = .ok (.getfield 29, 3) := dk_180 0 29 (dk_at dksX2_behindOne_1 7 rfl rfl)
theorem dX2_behindOne_33 : decode cX2_behindOne 33 = .ok (.aload_n 0, 1) := dk_42 (dk_at dksX2_behindOne_1 10 rfl rfl)
theorem dX2_behindOne_34 : decode cX2_behindOne 34 = .ok (.getfield 164, 3) := dk_180 0 164 (dk_at dksX2_behindOne_1 11 rfl rfl)
theorem dX2_behindOne_37 : decode cX2_behindOne 37 = .ok (.iload_n 1, 1) := dk_27 (dk_at dksX2_behindOne_1 14 rfl rfl)
theorem dX2_behindOne_38 : decode cX2_behindOne 38 = .ok (.iastore, 1) := dk_79 (dk_at dksX2_behindOne_1 15 rfl rfl)
theorem dX2_behindOne_39 : decode cX2_behindOne 39 = .ok (.aload_n 0, 1) := dk_42 (dk_at dksX2_behindOne_1 16 rfl rfl)
theorem dX2_behindOne_40 : decode cX2_behindOne 40 = .ok (.dup, 1) := dk_89 (dk_at dksX2_behindOne_1 17 rfl rfl)
theorem dX2_behindOne_41 : decode cX2_behindOne 41 = .ok (.getfield 164, 3) := dk_180 0 164 (dk_at dksX2_behindOne_1 18 rfl rfl)
theorem dX2_behindOne_44 : decode cX2_behindOne 44 = .ok (.iconst 1, 1) := dk_4 (dk_at dksX2_behindOne_1 21 rfl rfl)
theorem dX2_behindOne_45 : decode cX2_behindOne 45 = .ok (.iadd, 1) := dk_96 (dk_at dksX2_behindOne_1 22 rfl rfl)
theorem dX2_behindOne_46 : decode cX2_behindOne 46 = .ok (.putfield 164, 3) := dk_181 0 164 (dk_at dksX2_behindOne_2 0 rfl rfl)
theorem dX2_behindOne_49 : decode cX2_behindOne 49 = .ok (.aload_n 0, 1) := dk_42 (dk_at dksX2_behindOne_2 3 rfl rfl)
theorem dX2_behindOne_50 : decode cX2_behindOne 50 = .ok (.iconst 0, 1) := dk_3 (dk_at dksX2_behindOne_2 4 rfl rfl)
theorem dX2_behindOne_51 : decode cX2_behindOne 51 = .ok (.putfield 210, 3) := dk_181 0 210 (dk_at dksX2_behindOne_2 5 rfl rfl)
theorem dX2_behindOne_54 : decode cX2_behindOne 54 = .ok (.aload_n 0, 1) := dk_42 (dk_at dksX2_behindOne_2 8 rfl rfl)
theorem dX2_behindOne_55 : decode cX2_behindOne 55 = .ok (.invokevirtual 184, 3) := dk_182 0 184 (dk_at dksX2_behindOne_2 9 rfl rfl)
theorem dX2_behindOne_58 : decode cX2_behindOne 58 = .ok (.iconst 0, 1) := dk_3 (dk_at dksX2_behindOne_2 12 rfl rfl)
theorem dX2_behindOne_59 : decode cX2_behindOne 59 = .ok (.ireturn, 1) := dk_172 (dk_at dksX2_behindOne_2 13 rfl rfl)
theorem dX2_behindOne_60 : decode cX2_behindOne 60 = .ok (.aload_n 0, 1) := dk_42 (dk_at dksX2_behindOne_2 14 rfl rfl)
theorem dX2_behindOne_61 : decode cX2_behindOne 61 = .ok (.invokevirtual 181, 3) := dk_182 0 181 (dk_at dksX2_behindOne_2 15 rfl rfl)
theorem dX2_behindOne_64 : decode cX2_behindOne 64 = .ok (.ifCond .eq 12, 3) := dk_153 0 12 (dk_at dksX2_behindOne_2 18 rfl rfl)
theorem dX2_behindOne_67 : decode cX2_behindOne 67 = .ok (.aload_n 0, 1) := dk_42 (dk_at dksX2_behindOne_2 21 rfl rfl)
theorem dX2_behindOne_68 : decode cX2_behindOne 68 = .ok (.getfield 108, 3) := dk_180 0 108 (dk_at dksX2_behindOne_3 0 rfl rfl)
theorem dX2_behindOne_71 : decode cX2_behindOne 71 = .ok (.bipush 41, 2) := dk_16 41 (dk_at dksX2_behindOne_3 3 rfl rfl)
theorem dX2_behindOne_73 : decode cX2_behindOne 73 = .ok (.if_icmp .eq 5, 3) := dk_159 0 5 (dk_at dksX2_behindOne_3 5 rfl rfl)
theorem dX2_behindOne_76 : decode cX2_behindOne 76 = .ok (.iconst (-1), 1) := dk_2 (dk_at dksX2_behindOne_3 8 rfl rfl)
theorem dX2_behindOne_77 : decode cX2_behindOne 77 = .ok (.ireturn, 1) := dk_172 (dk_at dksX2_behindOne_3 9 rfl rfl)
theorem dX2_behindOne_78 : decode cX2_behindOne 78 = .ok (.aload_n 0, 1) := dk_42 (dk_at dksX2_behindOne_3 10 rfl rfl)
theorem dX2_behindOne_79 : decode cX2_behindOne 79 = .ok (.iconst 1, 1) := dk_4 (dk_at dksX2_behindOne_3 11 rfl rfl)
theorem dX2_behindOne_80 : decode cX2_behindOne 80 = .ok (.invokevirtual 207, 3) := dk_182 0 207 (dk_at dksX2_behindOne_3 12 rfl rfl)
theorem dX2_behindOne_83 : decode cX2_behindOne 83 = .ok (.aload_n 0, 1) := dk_42 (dk_at dksX2_behindOne_3 15 rfl rfl)
theorem dX2_behindOne_84 : decode cX2_behindOne 84 = .ok (.dup, 1) := dk_89 (dk_at dksX2_behindOne_3 16 rfl rfl)
theorem dX2_behindOne_85 : decode cX2_behindOne 85 = .ok (.getfield 164, 3) := dk_180 0 164 (dk_at dksX2_behindOne_3 17 rfl rfl)
theorem dX2_behindOne_88 : decode cX2_behindOne 88 = .ok (.iconst 1, 1) := dk_4 (dk_at dksX2_behindOne_3 20 rfl rfl)
theorem dX2_behindOne_89 : decode cX2_behindOne 89 = .ok (.isub, 1) := dk_100 (dk_at dksX2_behindOne_3 21 rfl rfl)
theorem dX2_behindOne_90 : decode cX2_behindOne 90 = .ok (.putfield 164, 3) := dk_181 0 164 (dk_at dksX2_behindOne_4 0 rfl rfl)
theorem dX2_behindOne_93 : decode cX2_behindOne 93 = .ok (.aload_n 0, 1) := dk_42 (dk_at dksX2_behindOne_4 3 rfl rfl)
theorem dX2_behindOne_94 : decode cX2_behindOne 94 = .ok (.dup, 1) := dk_89 (dk_at dksX2_behindOne_4 4 rfl rfl)
theorem dX2_behindOne_95 : decode cX2_behindOne 95 = .ok (.getfield 174, 3) := dk_180 0 174 (dk_at dksX2_behindOne_4 5 rfl rfl)
theorem dX2_behindOne_98 : decode cX2_behindOne 98 = .ok (.iconst 1, 1) := dk_4 (dk_at dksX2_behindOne_4 8 rfl rfl)
theorem dX2_behindOne_99 : decode cX2_behindOne 99 = .ok (.isub, 1) := dk_100 (dk_at dksX2_behindOne_4 9 rfl rfl)
theorem dX2_behindOne_100 : decode cX2_behindOne 100 = .ok (.putfield 174, 3) := dk_181 0 174 (dk_at dksX2_behindOne_4 10 rfl rfl)
theorem dX2_behindOne_103 : decode cX2_behindOne 103 = .ok (.aload_n 0, 1) := dk_42 (dk_at dksX2_behindOne_4 13 rfl rfl)
theorem dX2_behindOne_104 : decode cX2_behindOne 104 = .ok (.invokevirtual 184, 3) := dk_182 0 184 (dk_at dksX2_behindOne_4 14 rfl rfl)
theorem dX2_behindOne_107 : decode cX2_behindOne 107 = .ok (.aload_n 0, 1) := dk_42 (dk_at dksX2_behindOne_4 17 rfl rfl)
theorem dX2_behindOne_108 : decode cX2_behindOne 108 = .ok (.invokevirtual 194, 3) := dk_182 0 194 (dk_at dksX2_behindOne_4 18 rfl rfl)
theorem dX2_behindOne_111 : decode cX2_behindOne 111 = .ok (.ireturn, 1) := dk_172 (dk_at dksX2_behindOne_4 21 rfl rfl)
abbrev cX2_betweenOf : ByteArray := prog_19_method_42_code
def yX2_betweenOf : MethodName := ⟨RX2, "betweenOf", "()I"⟩
def dkwX2_betweenOf_4 : List UInt8 := [167, 0, 23, 42, 16, 111, 16, 114, 184, 0, 130, 182, 0, 200, 153, 0, 8, 16, 22, 167, 0, 4, 2, 172]
abbrev dktX2_betweenOf_4 : List UInt8 := dkwX2_betweenOf_4 ++ []
def dkwX2_betweenOf_3 : List UInt8 := [182, 0, 216, 172, 42, 16, 97, 16, 110, 16, 100, 184, 0, 134, 182, 0, 200, 153, 0, 8, 16, 21]
abbrev dktX2_betweenOf_3 : List UInt8 := dkwX2_betweenOf_3 ++ dktX2_betweenOf_4
def dkwX2_betweenOf_2 : List UInt8 := [180, 0, 177, 153, 0, 10, 42, 182, 0, 181, 153, 0, 5, 2, 172, 42, 182, 0, 213, 154, 0, 8, 42]
abbrev dktX2_betweenOf_2 : List UInt8 := dkwX2_betweenOf_2 ++ dktX2_betweenOf_3
def dkwX2_betweenOf_1 : List UInt8 := [180, 0, 108, 16, 42, 160, 0, 5, 8, 172, 42, 180, 0, 108, 16, 47, 160, 0, 6, 16, 6, 172, 42]
abbrev dktX2_betweenOf_1 : List UInt8 := dkwX2_betweenOf_1 ++ dktX2_betweenOf_2
def dkwX2_betweenOf_0 : List UInt8 := [42, 180, 0, 108, 16, 43, 160, 0, 5, 6, 172, 42, 180, 0, 108, 16, 45, 160, 0, 5, 7, 172, 42]
abbrev dktX2_betweenOf_0 : List UInt8 := dkwX2_betweenOf_0 ++ dktX2_betweenOf_1
theorem dksX2_betweenOf_0 : cX2_betweenOf.data.toList.drop 0 = dktX2_betweenOf_0 := by decide +kernel
theorem dksX2_betweenOf_1 : cX2_betweenOf.data.toList.drop 23 = dktX2_betweenOf_1 := dk_seg dksX2_betweenOf_0 23 rfl rfl
theorem dksX2_betweenOf_2 : cX2_betweenOf.data.toList.drop 46 = dktX2_betweenOf_2 := dk_seg dksX2_betweenOf_1 23 rfl rfl
theorem dksX2_betweenOf_3 : cX2_betweenOf.data.toList.drop 69 = dktX2_betweenOf_3 := dk_seg dksX2_betweenOf_2 23 rfl rfl
theorem dksX2_betweenOf_4 : cX2_betweenOf.data.toList.drop 91 = dktX2_betweenOf_4 := dk_seg dksX2_betweenOf_3 22 rfl rfl
theorem dX2_betweenOf_0 : decode cX2_betweenOf 0 = .ok (.aload_n 0, 1) := dk_42 (dk_at dksX2_betweenOf_0 0 rfl rfl)
theorem dX2_betweenOf_1 : decode cX2_betweenOf 1 = .ok (.getfield 108, 3) := dk_180 0 108 (dk_at dksX2_betweenOf_0 1 rfl rfl)
theorem dX2_betweenOf_4 : decode cX2_betweenOf 4 = .ok (.bipush 43, 2) := dk_16 43 (dk_at dksX2_betweenOf_0 4 rfl rfl)
theorem dX2_betweenOf_6 : decode cX2_betweenOf 6 = .ok (.if_icmp .ne 5, 3) := dk_160 0 5 (dk_at dksX2_betweenOf_0 6 rfl rfl)
theorem dX2_betweenOf_9 : decode cX2_betweenOf 9 = .ok (.iconst 3, 1) := dk_6 (dk_at dksX2_betweenOf_0 9 rfl rfl)
theorem dX2_betweenOf_10 : decode cX2_betweenOf 10 = .ok (.ireturn, 1) := dk_172 (dk_at dksX2_betweenOf_0 10 rfl rfl)
theorem dX2_betweenOf_11 : decode cX2_betweenOf 11 = .ok (.aload_n 0, 1) := dk_42 (dk_at dksX2_betweenOf_0 11 rfl rfl)
theorem dX2_betweenOf_12 : decode cX2_betweenOf 12 = .ok (.getfield 108, 3) := dk_180 0 108 (dk_at dksX2_betweenOf_0 12 rfl rfl)
theorem dX2_betweenOf_15 : decode cX2_betweenOf 15 = .ok (.bipush 45, 2) := dk_16 45 (dk_at dksX2_betweenOf_0 15 rfl rfl)
theorem dX2_betweenOf_17 : decode cX2_betweenOf 17 = .ok (.if_icmp .ne 5, 3) := dk_160 0 5 (dk_at dksX2_betweenOf_0 17 rfl rfl)
theorem dX2_betweenOf_20 : decode cX2_betweenOf 20 = .ok (.iconst 4, 1) := dk_7 (dk_at dksX2_betweenOf_0 20 rfl rfl)
theorem dX2_betweenOf_21 : decode cX2_betweenOf 21 = .ok (.ireturn, 1) := dk_172 (dk_at dksX2_betweenOf_0 21 rfl rfl)
theorem dX2_betweenOf_22 : decode cX2_betweenOf 22 = .ok (.aload_n 0, 1) := dk_42 (dk_at dksX2_betweenOf_0 22 rfl rfl)
theorem dX2_betweenOf_23 : decode cX2_betweenOf 23 = .ok (.getfield 108, 3) := dk_180 0 108 (dk_at dksX2_betweenOf_1 0 rfl rfl)
theorem dX2_betweenOf_26 : decode cX2_betweenOf 26 = .ok (.bipush 42, 2) := dk_16 42 (dk_at dksX2_betweenOf_1 3 rfl rfl)
theorem dX2_betweenOf_28 : decode cX2_betweenOf 28 = .ok (.if_icmp .ne 5, 3) := dk_160 0 5 (dk_at dksX2_betweenOf_1 5 rfl rfl)
theorem dX2_betweenOf_31 : decode cX2_betweenOf 31 = .ok (.iconst 5, 1) := dk_8 (dk_at dksX2_betweenOf_1 8 rfl rfl)
theorem dX2_betweenOf_32 : decode cX2_betweenOf 32 = .ok (.ireturn, 1) := dk_172 (dk_at dksX2_betweenOf_1 9 rfl rfl)
theorem dX2_betweenOf_33 : decode cX2_betweenOf 33 = .ok (.aload_n 0, 1) := dk_42 (dk_at dksX2_betweenOf_1 10 rfl rfl)
theorem dX2_betweenOf_34 : decode cX2_betweenOf 34 = .ok (.getfield 108, 3) := dk_180 0 108 (dk_at dksX2_betweenOf_1 11 rfl rfl)
theorem dX2_betweenOf_37 : decode cX2_betweenOf 37 = .ok (.bipush 47, 2) := dk_16 47 (dk_at dksX2_betweenOf_1 14 rfl rfl)
theorem dX2_betweenOf_39 : decode cX2_betweenOf 39 = .ok (.if_icmp .ne 6, 3) := dk_160 0 6 (dk_at dksX2_betweenOf_1 16 rfl rfl)
theorem dX2_betweenOf_42 : decode cX2_betweenOf 42 = .ok (.bipush 6, 2) := dk_16 6 (dk_at dksX2_betweenOf_1 19 rfl rfl)
theorem dX2_betweenOf_44 : decode cX2_betweenOf 44 = .ok (.ireturn, 1) := dk_172 (dk_at dksX2_betweenOf_1 21 rfl rfl)
theorem dX2_betweenOf_45 : decode cX2_betweenOf 45 = .ok (.aload_n 0, 1) := dk_42 (dk_at dksX2_betweenOf_1 22 rfl rfl)
theorem dX2_betweenOf_46 : decode cX2_betweenOf 46 = .ok (.getfield 177, 3) := dk_180 0 177 (dk_at dksX2_betweenOf_2 0 rfl rfl)
theorem dX2_betweenOf_49 : decode cX2_betweenOf 49 = .ok (.ifCond .eq 10, 3) := dk_153 0 10 (dk_at dksX2_betweenOf_2 3 rfl rfl)
theorem dX2_betweenOf_52 : decode cX2_betweenOf 52 = .ok (.aload_n 0, 1) := dk_42 (dk_at dksX2_betweenOf_2 6 rfl rfl)
theorem dX2_betweenOf_53 : decode cX2_betweenOf 53 = .ok (.invokevirtual 181, 3) := dk_182 0 181 (dk_at dksX2_betweenOf_2 7 rfl rfl)
theorem dX2_betweenOf_56 : decode cX2_betweenOf 56 = .ok (.ifCond .eq 5, 3) := dk_153 0 5 (dk_at dksX2_betweenOf_2 10 rfl rfl)
theorem dX2_betweenOf_59 : decode cX2_betweenOf 59 = .ok (.iconst (-1), 1) := dk_2 (dk_at dksX2_betweenOf_2 13 rfl rfl)
theorem dX2_betweenOf_60 : decode cX2_betweenOf 60 = .ok (.ireturn, 1) := dk_172 (dk_at dksX2_betweenOf_2 14 rfl rfl)
theorem dX2_betweenOf_61 : decode cX2_betweenOf 61 = .ok (.aload_n 0, 1) := dk_42 (dk_at dksX2_betweenOf_2 15 rfl rfl)
theorem dX2_betweenOf_62 : decode cX2_betweenOf 62 = .ok (.invokevirtual 213, 3) := dk_182 0 213 (dk_at dksX2_betweenOf_2 16 rfl rfl)
theorem dX2_betweenOf_65 : decode cX2_betweenOf 65 = .ok (.ifCond .ne 8, 3) := dk_154 0 8 (dk_at dksX2_betweenOf_2 19 rfl rfl)
theorem dX2_betweenOf_68 : decode cX2_betweenOf 68 = .ok (.aload_n 0, 1) := dk_42 (dk_at dksX2_betweenOf_2 22 rfl rfl)
theorem dX2_betweenOf_69 : decode cX2_betweenOf 69 = .ok (.invokevirtual 216, 3) := dk_182 0 216 (dk_at dksX2_betweenOf_3 0 rfl rfl)
theorem dX2_betweenOf_72 : decode cX2_betweenOf 72 = .ok (.ireturn, 1) := dk_172 (dk_at dksX2_betweenOf_3 3 rfl rfl)
theorem dX2_betweenOf_73 : decode cX2_betweenOf 73 = .ok (.aload_n 0, 1) := dk_42 (dk_at dksX2_betweenOf_3 4 rfl rfl)
theorem dX2_betweenOf_74 : decode cX2_betweenOf 74 = .ok (.bipush 97, 2) := dk_16 97 (dk_at dksX2_betweenOf_3 5 rfl rfl)
theorem dX2_betweenOf_76 : decode cX2_betweenOf 76 = .ok (.bipush 110, 2) := dk_16 110 (dk_at dksX2_betweenOf_3 7 rfl rfl)
theorem dX2_betweenOf_78 : decode cX2_betweenOf 78 = .ok (.bipush 100, 2) := dk_16 100 (dk_at dksX2_betweenOf_3 9 rfl rfl)
theorem dX2_betweenOf_80 : decode cX2_betweenOf 80 = .ok (.invokestatic 134, 3) := dk_184 0 134 (dk_at dksX2_betweenOf_3 11 rfl rfl)
theorem dX2_betweenOf_83 : decode cX2_betweenOf 83 = .ok (.invokevirtual 200, 3) := dk_182 0 200 (dk_at dksX2_betweenOf_3 14 rfl rfl)
theorem dX2_betweenOf_86 : decode cX2_betweenOf 86 = .ok (.ifCond .eq 8, 3) := dk_153 0 8 (dk_at dksX2_betweenOf_3 17 rfl rfl)
theorem dX2_betweenOf_89 : decode cX2_betweenOf 89 = .ok (.bipush 21, 2) := dk_16 21 (dk_at dksX2_betweenOf_3 20 rfl rfl)
theorem dX2_betweenOf_91 : decode cX2_betweenOf 91 = .ok (.goto 23, 3) := dk_167 0 23 (dk_at dksX2_betweenOf_4 0 rfl rfl)
theorem dX2_betweenOf_94 : decode cX2_betweenOf 94 = .ok (.aload_n 0, 1) := dk_42 (dk_at dksX2_betweenOf_4 3 rfl rfl)
theorem dX2_betweenOf_95 : decode cX2_betweenOf 95 = .ok (.bipush 111, 2) := dk_16 111 (dk_at dksX2_betweenOf_4 4 rfl rfl)
theorem dX2_betweenOf_97 : decode cX2_betweenOf 97 = .ok (.bipush 114, 2) := dk_16 114 (dk_at dksX2_betweenOf_4 6 rfl rfl)
theorem dX2_betweenOf_99 : decode cX2_betweenOf 99 = .ok (.invokestatic 130, 3) := dk_184 0 130 (dk_at dksX2_betweenOf_4 8 rfl rfl)
theorem dX2_betweenOf_102 : decode cX2_betweenOf 102 = .ok (.invokevirtual 200, 3) := dk_182 0 200 (dk_at dksX2_betweenOf_4 11 rfl rfl)
theorem dX2_betweenOf_105 : decode cX2_betweenOf 105 = .ok (.ifCond .eq 8, 3) := dk_153 0 8 (dk_at dksX2_betweenOf_4 14 rfl rfl)
theorem dX2_betweenOf_108 : decode cX2_betweenOf 108 = .ok (.bipush 22, 2) := dk_16 22 (dk_at dksX2_betweenOf_4 17 rfl rfl)
theorem dX2_betweenOf_110 : decode cX2_betweenOf 110 = .ok (.goto 4, 3) := dk_167 0 4 (dk_at dksX2_betweenOf_4 19 rfl rfl)
theorem dX2_betweenOf_113 : decode cX2_betweenOf 113 = .ok (.iconst (-1), 1) := dk_2 (dk_at dksX2_betweenOf_4 22 rfl rfl)
theorem dX2_betweenOf_114 : decode cX2_betweenOf 114 = .ok (.ireturn, 1) := dk_172 (dk_at dksX2_betweenOf_4 23 rfl rfl)
abbrev cX2_isShut : ByteArray := prog_19_method_35_code
def yX2_isShut : MethodName := ⟨RX2, "isShut", "()Z"⟩
def dkwX2_isShut_1 : List UInt8 := [132, 1, 1, 167, 255, 232, 3, 172]
abbrev dktX2_isShut_1 : List UInt8 := dkwX2_isShut_1 ++ []
def dkwX2_isShut_0 : List UInt8 := [3, 60, 27, 42, 180, 0, 164, 162, 0, 22, 42, 180, 0, 29, 27, 46, 16, 40, 160, 0, 5, 4, 172]
abbrev dktX2_isShut_0 : List UInt8 := dkwX2_isShut_0 ++ dktX2_isShut_1
theorem dksX2_isShut_0 : cX2_isShut.data.toList.drop 0 = dktX2_isShut_0 := by decide +kernel
theorem dksX2_isShut_1 : cX2_isShut.data.toList.drop 23 = dktX2_isShut_1 := dk_seg dksX2_isShut_0 23 rfl rfl
theorem dX2_isShut_0 : decode cX2_isShut 0 = .ok (.iconst 0, 1) := dk_3 (dk_at dksX2_isShut_0 0 rfl rfl)
theorem dX2_isShut_1 : decode cX2_isShut 1 = .ok (.istore_n 1, 1) := dk_60 (dk_at dksX2_isShut_0 1 rfl rfl)
theorem dX2_isShut_2 : decode cX2_isShut 2 = .ok (.iload_n 1, 1) := dk_27 (dk_at dksX2_isShut_0 2 rfl rfl)
theorem dX2_isShut_3 : decode cX2_isShut 3 = .ok (.aload_n 0, 1) := dk_42 (dk_at dksX2_isShut_0 3 rfl rfl)
theorem dX2_isShut_4 : decode cX2_isShut 4 = .ok (.getfield 164, 3) := dk_180 0 164 (dk_at dksX2_isShut_0 4 rfl rfl)
theorem dX2_isShut_7 : decode cX2_isShut 7 = .ok (.if_icmp .ge 22, 3) := dk_162 0 22 (dk_at dksX2_isShut_0 7 rfl rfl)
theorem dX2_isShut_10 : decode cX2_isShut 10 = .ok (.aload_n 0, 1) := dk_42 (dk_at dksX2_isShut_0 10 rfl rfl)
theorem dX2_isShut_11 : decode cX2_isShut 11 = .ok (.getfield 29, 3) := dk_180 0 29 (dk_at dksX2_isShut_0 11 rfl rfl)
theorem dX2_isShut_14 : decode cX2_isShut 14 = .ok (.iload_n 1, 1) := dk_27 (dk_at dksX2_isShut_0 14 rfl rfl)
theorem dX2_isShut_15 : decode cX2_isShut 15 = .ok (.iaload, 1) := dk_46 (dk_at dksX2_isShut_0 15 rfl rfl)
theorem dX2_isShut_16 : decode cX2_isShut 16 = .ok (.bipush 40, 2) := dk_16 40 (dk_at dksX2_isShut_0 16 rfl rfl)
theorem dX2_isShut_18 : decode cX2_isShut 18 = .ok (.if_icmp .ne 5, 3) := dk_160 0 5 (dk_at dksX2_isShut_0 18 rfl rfl)
theorem dX2_isShut_21 : decode cX2_isShut 21 = .ok (.iconst 1, 1) := dk_4 (dk_at dksX2_isShut_0 21 rfl rfl)
theorem dX2_isShut_22 : decode cX2_isShut 22 = .ok (.ireturn, 1) := dk_172 (dk_at dksX2_isShut_0 22 rfl rfl)
theorem dX2_isShut_23 : decode cX2_isShut 23 = .ok (.iinc 1 1, 3) := dk_132 1 1 (dk_at dksX2_isShut_1 0 rfl rfl)
theorem dX2_isShut_26 : decode cX2_isShut 26 = .ok (.goto (-24), 3) := dk_167 255 232 (dk_at dksX2_isShut_1 3 rfl rfl)
theorem dX2_isShut_29 : decode cX2_isShut 29 = .ok (.iconst 0, 1) := dk_3 (dk_at dksX2_isShut_1 6 rfl rfl)
theorem dX2_isShut_30 : decode cX2_isShut 30 = .ok (.ireturn, 1) := dk_172 (dk_at dksX2_isShut_1 7 rfl rfl)
abbrev cX2_isCompared : ByteArray := prog_19_method_36_code
def yX2_isCompared : MethodName := ⟨RX2, "isCompared", "()Z"⟩
def dkwX2_isCompared_2 : List UInt8 := [167, 0, 4, 3, 172]
abbrev dktX2_isCompared_2 : List UInt8 := dkwX2_isCompared_2 ++ []
def dkwX2_isCompared_1 : List UInt8 := [132, 1, 255, 167, 255, 236, 27, 155, 0, 20, 42, 180, 0, 29, 27, 46, 184, 0, 167, 7, 160, 0, 7, 4]
abbrev dktX2_isCompared_1 : List UInt8 := dkwX2_isCompared_1 ++ dktX2_isCompared_2
def dkwX2_isCompared_0 : List UInt8 := [42, 180, 0, 164, 4, 100, 60, 27, 155, 0, 22, 42, 180, 0, 29, 27, 46, 184, 0, 167, 7, 164, 0, 9]
abbrev dktX2_isCompared_0 : List UInt8 := dkwX2_isCompared_0 ++ dktX2_isCompared_1
theorem dksX2_isCompared_0 : cX2_isCompared.data.toList.drop 0 = dktX2_isCompared_0 := by decide +kernel
theorem dksX2_isCompared_1 : cX2_isCompared.data.toList.drop 24 = dktX2_isCompared_1 := dk_seg dksX2_isCompared_0 24 rfl rfl
theorem dksX2_isCompared_2 : cX2_isCompared.data.toList.drop 48 = dktX2_isCompared_2 := dk_seg dksX2_isCompared_1 24 rfl rfl
theorem dX2_isCompared_0 : decode cX2_isCompared 0 = .ok (.aload_n 0, 1) := dk_42 (dk_at dksX2_isCompared_0 0 rfl rfl)
theorem dX2_isCompared_1 : decode cX2_isCompared 1 = .ok (.getfield 164, 3) := dk_180 0 164 (dk_at dksX2_isCompared_0 1 rfl rfl)
theorem dX2_isCompared_4 : decode cX2_isCompared 4 = .ok (.iconst 1, 1) := dk_4 (dk_at dksX2_isCompared_0 4 rfl rfl)
theorem dX2_isCompared_5 : decode cX2_isCompared 5 = .ok (.isub, 1) := dk_100 (dk_at dksX2_isCompared_0 5 rfl rfl)
theorem dX2_isCompared_6 : decode cX2_isCompared 6 = .ok (.istore_n 1, 1) := dk_60 (dk_at dksX2_isCompared_0 6 rfl rfl)
theorem dX2_isCompared_7 : decode cX2_isCompared 7 = .ok (.iload_n 1, 1) := dk_27 (dk_at dksX2_isCompared_0 7 rfl rfl)
theorem dX2_isCompared_8 : decode cX2_isCompared 8 = .ok (.ifCond .lt 22, 3) := dk_155 0 22 (dk_at dksX2_isCompared_0 8 rfl rfl)
theorem dX2_isCompared_11 : decode cX2_isCompared 11 = .ok (.aload_n 0, 1) := dk_42 (dk_at dksX2_isCompared_0 11 rfl rfl)
theorem dX2_isCompared_12 : decode cX2_isCompared 12 = .ok (.getfield 29, 3) := dk_180 0 29 (dk_at dksX2_isCompared_0 12 rfl rfl)
theorem dX2_isCompared_15 : decode cX2_isCompared 15 = .ok (.iload_n 1, 1) := dk_27 (dk_at dksX2_isCompared_0 15 rfl rfl)
theorem dX2_isCompared_16 : decode cX2_isCompared 16 = .ok (.iaload, 1) := dk_46 (dk_at dksX2_isCompared_0 16 rfl rfl)
theorem dX2_isCompared_17 : decode cX2_isCompared 17 = .ok (.invokestatic 167, 3) := dk_184 0 167 (dk_at dksX2_isCompared_0 17 rfl rfl)
theorem dX2_isCompared_20 : decode cX2_isCompared 20 = .ok (.iconst 4, 1) := dk_7 (dk_at dksX2_isCompared_0 20 rfl rfl)
theorem dX2_isCompared_21 : decode cX2_isCompared 21 = .ok (.if_icmp .le 9, 3) := dk_164 0 9 (dk_at dksX2_isCompared_0 21 rfl rfl)
theorem dX2_isCompared_24 : decode cX2_isCompared 24 = .ok (.iinc 1 (-1), 3) := dk_132 1 255 (dk_at dksX2_isCompared_1 0 rfl rfl)
theorem dX2_isCompared_27 : decode cX2_isCompared 27 = .ok (.goto (-20), 3) := dk_167 255 236 (dk_at dksX2_isCompared_1 3 rfl rfl)
theorem dX2_isCompared_30 : decode cX2_isCompared 30 = .ok (.iload_n 1, 1) := dk_27 (dk_at dksX2_isCompared_1 6 rfl rfl)
theorem dX2_isCompared_31 : decode cX2_isCompared 31 = .ok (.ifCond .lt 20, 3) := dk_155 0 20 (dk_at dksX2_isCompared_1 7 rfl rfl)
theorem dX2_isCompared_34 : decode cX2_isCompared 34 = .ok (.aload_n 0, 1) := dk_42 (dk_at dksX2_isCompared_1 10 rfl rfl)
theorem dX2_isCompared_35 : decode cX2_isCompared 35 = .ok (.getfield 29, 3) := dk_180 0 29 (dk_at dksX2_isCompared_1 11 rfl rfl)
theorem dX2_isCompared_38 : decode cX2_isCompared 38 = .ok (.iload_n 1, 1) := dk_27 (dk_at dksX2_isCompared_1 14 rfl rfl)
theorem dX2_isCompared_39 : decode cX2_isCompared 39 = .ok (.iaload, 1) := dk_46 (dk_at dksX2_isCompared_1 15 rfl rfl)
theorem dX2_isCompared_40 : decode cX2_isCompared 40 = .ok (.invokestatic 167, 3) := dk_184 0 167 (dk_at dksX2_isCompared_1 16 rfl rfl)
theorem dX2_isCompared_43 : decode cX2_isCompared 43 = .ok (.iconst 4, 1) := dk_7 (dk_at dksX2_isCompared_1 19 rfl rfl)
theorem dX2_isCompared_44 : decode cX2_isCompared 44 = .ok (.if_icmp .ne 7, 3) := dk_160 0 7 (dk_at dksX2_isCompared_1 20 rfl rfl)
theorem dX2_isCompared_47 : decode cX2_isCompared 47 = .ok (.iconst 1, 1) := dk_4 (dk_at dksX2_isCompared_1 23 rfl rfl)
theorem dX2_isCompared_48 : decode cX2_isCompared 48 = .ok (.goto 4, 3) := dk_167 0 4 (dk_at dksX2_isCompared_2 0 rfl rfl)
theorem dX2_isCompared_51 : decode cX2_isCompared 51 = .ok (.iconst 0, 1) := dk_3 (dk_at dksX2_isCompared_2 3 rfl rfl)
theorem dX2_isCompared_52 : decode cX2_isCompared 52 = .ok (.ireturn, 1) := dk_172 (dk_at dksX2_isCompared_2 4 rfl rfl)
abbrev cX2_rank : ByteArray := prog_19_method_33_code
def yX2_rank : MethodName := ⟨RX2, "rank", "(I)I"⟩
def dkwX2_rank_3 : List UInt8 := [16, 6, 167, 0, 4, 8, 172]
abbrev dktX2_rank_3 : List UInt8 := dkwX2_rank_3 ++ []
def dkwX2_rank_2 : List UInt8 := [167, 0, 30, 26, 5, 159, 0, 9, 26, 16, 7, 160, 0, 8, 16, 7, 167, 0, 14, 26, 8, 161, 0, 8]
abbrev dktX2_rank_2 : List UInt8 := dkwX2_rank_2 ++ dktX2_rank_3
def dkwX2_rank_1 : List UInt8 := [160, 0, 7, 5, 167, 0, 50, 26, 16, 20, 160, 0, 7, 6, 167, 0, 40, 26, 16, 10, 161, 0, 7, 7]
abbrev dktX2_rank_1 : List UInt8 := dkwX2_rank_1 ++ dktX2_rank_2
def dkwX2_rank_0 : List UInt8 := [26, 16, 40, 161, 0, 7, 3, 167, 0, 70, 26, 16, 22, 160, 0, 7, 4, 167, 0, 60, 26, 16, 21]
abbrev dktX2_rank_0 : List UInt8 := dkwX2_rank_0 ++ dktX2_rank_1
theorem dksX2_rank_0 : cX2_rank.data.toList.drop 0 = dktX2_rank_0 := by decide +kernel
theorem dksX2_rank_1 : cX2_rank.data.toList.drop 23 = dktX2_rank_1 := dk_seg dksX2_rank_0 23 rfl rfl
theorem dksX2_rank_2 : cX2_rank.data.toList.drop 47 = dktX2_rank_2 := dk_seg dksX2_rank_1 24 rfl rfl
theorem dksX2_rank_3 : cX2_rank.data.toList.drop 71 = dktX2_rank_3 := dk_seg dksX2_rank_2 24 rfl rfl
theorem dX2_rank_0 : decode cX2_rank 0 = .ok (.iload_n 0, 1) := dk_26 (dk_at dksX2_rank_0 0 rfl rfl)
theorem dX2_rank_1 : decode cX2_rank 1 = .ok (.bipush 40, 2) := dk_16 40 (dk_at dksX2_rank_0 1 rfl rfl)
theorem dX2_rank_3 : decode cX2_rank 3 = .ok (.if_icmp .lt 7, 3) := dk_161 0 7 (dk_at dksX2_rank_0 3 rfl rfl)
theorem dX2_rank_6 : decode cX2_rank 6 = .ok (.iconst 0, 1) := dk_3 (dk_at dksX2_rank_0 6 rfl rfl)
theorem dX2_rank_7 : decode cX2_rank 7 = .ok (.goto 70, 3) := dk_167 0 70 (dk_at dksX2_rank_0 7 rfl rfl)
theorem dX2_rank_10 : decode cX2_rank 10 = .ok (.iload_n 0, 1) := dk_26 (dk_at dksX2_rank_0 10 rfl rfl)
theorem dX2_rank_11 : decode cX2_rank 11 = .ok (.bipush 22, 2) := dk_16 22 (dk_at dksX2_rank_0 11 rfl rfl)
theorem dX2_rank_13 : decode cX2_rank 13 = .ok (.if_icmp .ne 7, 3) := dk_160 0 7 (dk_at dksX2_rank_0 13 rfl rfl)
theorem dX2_rank_16 : decode cX2_rank 16 = .ok (.iconst 1, 1) := dk_4 (dk_at dksX2_rank_0 16 rfl rfl)
theorem dX2_rank_17 : decode cX2_rank 17 = .ok (.goto 60, 3) := dk_167 0 60 (dk_at dksX2_rank_0 17 rfl rfl)
theorem dX2_rank_20 : decode cX2_rank 20 = .ok (.iload_n 0, 1) := dk_26 (dk_at dksX2_rank_0 20 rfl rfl)
theorem dX2_rank_21 : decode cX2_rank 21 = .ok (.bipush 21, 2) := dk_16 21 (dk_at dksX2_rank_0 21 rfl rfl)
theorem dX2_rank_23 : decode cX2_rank 23 = .ok (.if_icmp .ne 7, 3) := dk_160 0 7 (dk_at dksX2_rank_1 0 rfl rfl)
theorem dX2_rank_26 : decode cX2_rank 26 = .ok (.iconst 2, 1) := dk_5 (dk_at dksX2_rank_1 3 rfl rfl)
theorem dX2_rank_27 : decode cX2_rank 27 = .ok (.goto 50, 3) := dk_167 0 50 (dk_at dksX2_rank_1 4 rfl rfl)
theorem dX2_rank_30 : decode cX2_rank 30 = .ok (.iload_n 0, 1) := dk_26 (dk_at dksX2_rank_1 7 rfl rfl)
theorem dX2_rank_31 : decode cX2_rank 31 = .ok (.bipush 20, 2) := dk_16 20 (dk_at dksX2_rank_1 8 rfl rfl)
theorem dX2_rank_33 : decode cX2_rank 33 = .ok (.if_icmp .ne 7, 3) := dk_160 0 7 (dk_at dksX2_rank_1 10 rfl rfl)
theorem dX2_rank_36 : decode cX2_rank 36 = .ok (.iconst 3, 1) := dk_6 (dk_at dksX2_rank_1 13 rfl rfl)
theorem dX2_rank_37 : decode cX2_rank 37 = .ok (.goto 40, 3) := dk_167 0 40 (dk_at dksX2_rank_1 14 rfl rfl)
theorem dX2_rank_40 : decode cX2_rank 40 = .ok (.iload_n 0, 1) := dk_26 (dk_at dksX2_rank_1 17 rfl rfl)
theorem dX2_rank_41 : decode cX2_rank 41 = .ok (.bipush 10, 2) := dk_16 10 (dk_at dksX2_rank_1 18 rfl rfl)
theorem dX2_rank_43 : decode cX2_rank 43 = .ok (.if_icmp .lt 7, 3) := dk_161 0 7 (dk_at dksX2_rank_1 20 rfl rfl)
theorem dX2_rank_46 : decode cX2_rank 46 = .ok (.iconst 4, 1) := dk_7 (dk_at dksX2_rank_1 23 rfl rfl)
theorem dX2_rank_47 : decode cX2_rank 47 = .ok (.goto 30, 3) := dk_167 0 30 (dk_at dksX2_rank_2 0 rfl rfl)
theorem dX2_rank_50 : decode cX2_rank 50 = .ok (.iload_n 0, 1) := dk_26 (dk_at dksX2_rank_2 3 rfl rfl)
theorem dX2_rank_51 : decode cX2_rank 51 = .ok (.iconst 2, 1) := dk_5 (dk_at dksX2_rank_2 4 rfl rfl)
theorem dX2_rank_52 : decode cX2_rank 52 = .ok (.if_icmp .eq 9, 3) := dk_159 0 9 (dk_at dksX2_rank_2 5 rfl rfl)
theorem dX2_rank_55 : decode cX2_rank 55 = .ok (.iload_n 0, 1) := dk_26 (dk_at dksX2_rank_2 8 rfl rfl)
theorem dX2_rank_56 : decode cX2_rank 56 = .ok (.bipush 7, 2) := dk_16 7 (dk_at dksX2_rank_2 9 rfl rfl)
theorem dX2_rank_58 : decode cX2_rank 58 = .ok (.if_icmp .ne 8, 3) := dk_160 0 8 (dk_at dksX2_rank_2 11 rfl rfl)
theorem dX2_rank_61 : decode cX2_rank 61 = .ok (.bipush 7, 2) := dk_16 7 (dk_at dksX2_rank_2 14 rfl rfl)
theorem dX2_rank_63 : decode cX2_rank 63 = .ok (.goto 14, 3) := dk_167 0 14 (dk_at dksX2_rank_2 16 rfl rfl)
theorem dX2_rank_66 : decode cX2_rank 66 = .ok (.iload_n 0, 1) := dk_26 (dk_at dksX2_rank_2 19 rfl rfl)
theorem dX2_rank_67 : decode cX2_rank 67 = .ok (.iconst 5, 1) := dk_8 (dk_at dksX2_rank_2 20 rfl rfl)
theorem dX2_rank_68 : decode cX2_rank 68 = .ok (.if_icmp .lt 8, 3) := dk_161 0 8 (dk_at dksX2_rank_2 21 rfl rfl)
theorem dX2_rank_71 : decode cX2_rank 71 = .ok (.bipush 6, 2) := dk_16 6 (dk_at dksX2_rank_3 0 rfl rfl)
theorem dX2_rank_73 : decode cX2_rank 73 = .ok (.goto 4, 3) := dk_167 0 4 (dk_at dksX2_rank_3 2 rfl rfl)
theorem dX2_rank_76 : decode cX2_rank 76 = .ok (.iconst 5, 1) := dk_8 (dk_at dksX2_rank_3 5 rfl rfl)
theorem dX2_rank_77 : decode cX2_rank 77 = .ok (.ireturn, 1) := dk_172 (dk_at dksX2_rank_3 6 rfl rfl)
abbrev cX2_compareOf : ByteArray := prog_19_method_41_code
def yX2_compareOf : MethodName := ⟨RX2, "compareOf", "()I"⟩
def dkwX2_compareOf_5 : List UInt8 := [172]
abbrev dktX2_compareOf_5 : List UInt8 := dkwX2_compareOf_5 ++ []
def dkwX2_compareOf_4 : List UInt8 := [184, 0, 138, 16, 100, 16, 101, 16, 115, 184, 0, 134, 182, 0, 152, 153, 0, 8, 16, 16, 167, 0, 4, 2]
abbrev dktX2_compareOf_4 : List UInt8 := dkwX2_compareOf_4 ++ dktX2_compareOf_5
def dkwX2_compareOf_3 : List UInt8 := [180, 0, 108, 16, 35, 160, 0, 8, 16, 15, 167, 0, 36, 42, 16, 100, 16, 105, 16, 118, 16, 105]
abbrev dktX2_compareOf_3 : List UInt8 := dkwX2_compareOf_3 ++ dktX2_compareOf_4
def dkwX2_compareOf_2 : List UInt8 := [160, 0, 8, 16, 13, 167, 0, 64, 42, 180, 0, 108, 16, 61, 160, 0, 8, 16, 14, 167, 0, 50, 42]
abbrev dktX2_compareOf_2 : List UInt8 := dkwX2_compareOf_2 ++ dktX2_compareOf_3
def dkwX2_compareOf_1 : List UInt8 := [167, 0, 91, 42, 180, 0, 108, 16, 62, 160, 0, 8, 16, 12, 167, 0, 77, 42, 180, 0, 108, 8]
abbrev dktX2_compareOf_1 : List UInt8 := dkwX2_compareOf_1 ++ dktX2_compareOf_2
def dkwX2_compareOf_0 : List UInt8 := [42, 180, 0, 108, 16, 60, 160, 0, 8, 16, 10, 167, 0, 104, 42, 180, 0, 108, 7, 160, 0, 8, 16, 11]
abbrev dktX2_compareOf_0 : List UInt8 := dkwX2_compareOf_0 ++ dktX2_compareOf_1
theorem dksX2_compareOf_0 : cX2_compareOf.data.toList.drop 0 = dktX2_compareOf_0 := by decide +kernel
theorem dksX2_compareOf_1 : cX2_compareOf.data.toList.drop 24 = dktX2_compareOf_1 := dk_seg dksX2_compareOf_0 24 rfl rfl
theorem dksX2_compareOf_2 : cX2_compareOf.data.toList.drop 46 = dktX2_compareOf_2 := dk_seg dksX2_compareOf_1 22 rfl rfl
theorem dksX2_compareOf_3 : cX2_compareOf.data.toList.drop 69 = dktX2_compareOf_3 := dk_seg dksX2_compareOf_2 23 rfl rfl
theorem dksX2_compareOf_4 : cX2_compareOf.data.toList.drop 91 = dktX2_compareOf_4 := dk_seg dksX2_compareOf_3 22 rfl rfl
theorem dksX2_compareOf_5 : cX2_compareOf.data.toList.drop 115 = dktX2_compareOf_5 := dk_seg dksX2_compareOf_4 24 rfl rfl
theorem dX2_compareOf_0 : decode cX2_compareOf 0 = .ok (.aload_n 0, 1) := dk_42 (dk_at dksX2_compareOf_0 0 rfl rfl)
theorem dX2_compareOf_1 : decode cX2_compareOf 1 = .ok (.getfield 108, 3) := dk_180 0 108 (dk_at dksX2_compareOf_0 1 rfl rfl)
theorem dX2_compareOf_4 : decode cX2_compareOf 4 = .ok (.bipush 60, 2) := dk_16 60 (dk_at dksX2_compareOf_0 4 rfl rfl)
theorem dX2_compareOf_6 : decode cX2_compareOf 6 = .ok (.if_icmp .ne 8, 3) := dk_160 0 8 (dk_at dksX2_compareOf_0 6 rfl rfl)
theorem dX2_compareOf_9 : decode cX2_compareOf 9 = .ok (.bipush 10, 2) := dk_16 10 (dk_at dksX2_compareOf_0 9 rfl rfl)
theorem dX2_compareOf_11 : decode cX2_compareOf 11 = .ok (.goto 104, 3) := dk_167 0 104 (dk_at dksX2_compareOf_0 11 rfl rfl)
theorem dX2_compareOf_14 : decode cX2_compareOf 14 = .ok (.aload_n 0, 1) := dk_42 (dk_at dksX2_compareOf_0 14 rfl rfl)
theorem dX2_compareOf_15 : decode cX2_compareOf 15 = .ok (.getfield 108, 3) := dk_180 0 108 (dk_at dksX2_compareOf_0 15 rfl rfl)
theorem dX2_compareOf_18 : decode cX2_compareOf 18 = .ok (.iconst 4, 1) := dk_7 (dk_at dksX2_compareOf_0 18 rfl rfl)
theorem dX2_compareOf_19 : decode cX2_compareOf 19 = .ok (.if_icmp .ne 8, 3) := dk_160 0 8 (dk_at dksX2_compareOf_0 19 rfl rfl)
theorem dX2_compareOf_22 : decode cX2_compareOf 22 = .ok (.bipush 11, 2) := dk_16 11 (dk_at dksX2_compareOf_0 22 rfl rfl)
theorem dX2_compareOf_24 : decode cX2_compareOf 24 = .ok (.goto 91, 3) := dk_167 0 91 (dk_at dksX2_compareOf_1 0 rfl rfl)
theorem dX2_compareOf_27 : decode cX2_compareOf 27 = .ok (.aload_n 0, 1) := dk_42 (dk_at dksX2_compareOf_1 3 rfl rfl)
theorem dX2_compareOf_28 : decode cX2_compareOf 28 = .ok (.getfield 108, 3) := dk_180 0 108 (dk_at dksX2_compareOf_1 4 rfl rfl)
theorem dX2_compareOf_31 : decode cX2_compareOf 31 = .ok (.bipush 62, 2) := dk_16 62 (dk_at dksX2_compareOf_1 7 rfl rfl)
theorem dX2_compareOf_33 : decode cX2_compareOf 33 = .ok (.if_icmp .ne 8, 3) := dk_160 0 8 (dk_at dksX2_compareOf_1 9 rfl rfl)
theorem dX2_compareOf_36 : decode cX2_compareOf 36 = .ok (.bipush 12, 2) := dk_16 12 (dk_at dksX2_compareOf_1 12 rfl rfl)
theorem dX2_compareOf_38 : decode cX2_compareOf 38 = .ok (.goto 77, 3) := dk_167 0 77 (dk_at dksX2_compareOf_1 14 rfl rfl)
theorem dX2_compareOf_41 : decode cX2_compareOf 41 = .ok (.aload_n 0, 1) := dk_42 (dk_at dksX2_compareOf_1 17 rfl rfl)
theorem dX2_compareOf_42 : decode cX2_compareOf 42 = .ok (.getfield 108, 3) := dk_180 0 108 (dk_at dksX2_compareOf_1 18 rfl rfl)
theorem dX2_compareOf_45 : decode cX2_compareOf 45 = .ok (.iconst 5, 1) := dk_8 (dk_at dksX2_compareOf_1 21 rfl rfl)
theorem dX2_compareOf_46 : decode cX2_compareOf 46 = .ok (.if_icmp .ne 8, 3) := dk_160 0 8 (dk_at dksX2_compareOf_2 0 rfl rfl)
theorem dX2_compareOf_49 : decode cX2_compareOf 49 = .ok (.bipush 13, 2) := dk_16 13 (dk_at dksX2_compareOf_2 3 rfl rfl)
theorem dX2_compareOf_51 : decode cX2_compareOf 51 = .ok (.goto 64, 3) := dk_167 0 64 (dk_at dksX2_compareOf_2 5 rfl rfl)
theorem dX2_compareOf_54 : decode cX2_compareOf 54 = .ok (.aload_n 0, 1) := dk_42 (dk_at dksX2_compareOf_2 8 rfl rfl)
theorem dX2_compareOf_55 : decode cX2_compareOf 55 = .ok (.getfield 108, 3) := dk_180 0 108 (dk_at dksX2_compareOf_2 9 rfl rfl)
theorem dX2_compareOf_58 : decode cX2_compareOf 58 = .ok (.bipush 61, 2) := dk_16 61 (dk_at dksX2_compareOf_2 12 rfl rfl)
theorem dX2_compareOf_60 : decode cX2_compareOf 60 = .ok (.if_icmp .ne 8, 3) := dk_160 0 8 (dk_at dksX2_compareOf_2 14 rfl rfl)
theorem dX2_compareOf_63 : decode cX2_compareOf 63 = .ok (.bipush 14, 2) := dk_16 14 (dk_at dksX2_compareOf_2 17 rfl rfl)
theorem dX2_compareOf_65 : decode cX2_compareOf 65 = .ok (.goto 50, 3) := dk_167 0 50 (dk_at dksX2_compareOf_2 19 rfl rfl)
theorem dX2_compareOf_68 : decode cX2_compareOf 68 = .ok (.aload_n 0, 1) := dk_42 (dk_at dksX2_compareOf_2 22 rfl rfl)
theorem dX2_compareOf_69 : decode cX2_compareOf 69 = .ok (.getfield 108, 3) := dk_180 0 108 (dk_at dksX2_compareOf_3 0 rfl rfl)
theorem dX2_compareOf_72 : decode cX2_compareOf 72 = .ok (.bipush 35, 2) := dk_16 35 (dk_at dksX2_compareOf_3 3 rfl rfl)
theorem dX2_compareOf_74 : decode cX2_compareOf 74 = .ok (.if_icmp .ne 8, 3) := dk_160 0 8 (dk_at dksX2_compareOf_3 5 rfl rfl)
theorem dX2_compareOf_77 : decode cX2_compareOf 77 = .ok (.bipush 15, 2) := dk_16 15 (dk_at dksX2_compareOf_3 8 rfl rfl)
theorem dX2_compareOf_79 : decode cX2_compareOf 79 = .ok (.goto 36, 3) := dk_167 0 36 (dk_at dksX2_compareOf_3 10 rfl rfl)
theorem dX2_compareOf_82 : decode cX2_compareOf 82 = .ok (.aload_n 0, 1) := dk_42 (dk_at dksX2_compareOf_3 13 rfl rfl)
theorem dX2_compareOf_83 : decode cX2_compareOf 83 = .ok (.bipush 100, 2) := dk_16 100 (dk_at dksX2_compareOf_3 14 rfl rfl)
theorem dX2_compareOf_85 : decode cX2_compareOf 85 = .ok (.bipush 105, 2) := dk_16 105 (dk_at dksX2_compareOf_3 16 rfl rfl)
theorem dX2_compareOf_87 : decode cX2_compareOf 87 = .ok (.bipush 118, 2) := dk_16 118 (dk_at dksX2_compareOf_3 18 rfl rfl)
theorem dX2_compareOf_89 : decode cX2_compareOf 89 = .ok (.bipush 105, 2) := dk_16 105 (dk_at dksX2_compareOf_3 20 rfl rfl)
theorem dX2_compareOf_91 : decode cX2_compareOf 91 = .ok (.invokestatic 138, 3) := dk_184 0 138 (dk_at dksX2_compareOf_4 0 rfl rfl)
theorem dX2_compareOf_94 : decode cX2_compareOf 94 = .ok (.bipush 100, 2) := dk_16 100 (dk_at dksX2_compareOf_4 3 rfl rfl)
theorem dX2_compareOf_96 : decode cX2_compareOf 96 = .ok (.bipush 101, 2) := dk_16 101 (dk_at dksX2_compareOf_4 5 rfl rfl)
theorem dX2_compareOf_98 : decode cX2_compareOf 98 = .ok (.bipush 115, 2) := dk_16 115 (dk_at dksX2_compareOf_4 7 rfl rfl)
theorem dX2_compareOf_100 : decode cX2_compareOf 100 = .ok (.invokestatic 134, 3) := dk_184 0 134 (dk_at dksX2_compareOf_4 9 rfl rfl)
theorem dX2_compareOf_103 : decode cX2_compareOf 103 = .ok (.invokevirtual 152, 3) := dk_182 0 152 (dk_at dksX2_compareOf_4 12 rfl rfl)
theorem dX2_compareOf_106 : decode cX2_compareOf 106 = .ok (.ifCond .eq 8, 3) := dk_153 0 8 (dk_at dksX2_compareOf_4 15 rfl rfl)
theorem dX2_compareOf_109 : decode cX2_compareOf 109 = .ok (.bipush 16, 2) := dk_16 16 (dk_at dksX2_compareOf_4 18 rfl rfl)
theorem dX2_compareOf_111 : decode cX2_compareOf 111 = .ok (.goto 4, 3) := dk_167 0 4 (dk_at dksX2_compareOf_4 20 rfl rfl)
theorem dX2_compareOf_114 : decode cX2_compareOf 114 = .ok (.iconst (-1), 1) := dk_2 (dk_at dksX2_compareOf_4 23 rfl rfl)
theorem dX2_compareOf_115 : decode cX2_compareOf 115 = .ok (.ireturn, 1) := dk_172 (dk_at dksX2_compareOf_5 0 rfl rfl)
abbrev cX2_settle : ByteArray := prog_19_method_34_code
def yX2_settle : MethodName := ⟨RX2, "settle", "(I)V"⟩
def dkwX2_settle_3 : List UInt8 := [42, 180, 0, 164, 46, 16, 20, 160, 255, 179, 42, 89, 180, 0, 174, 4, 100, 181, 0, 174, 167, 255, 166, 177]
abbrev dktX2_settle_3 : List UInt8 := dkwX2_settle_3 ++ []
def dkwX2_settle_2 : List UInt8 := [182, 0, 170, 42, 180, 0, 29, 42, 180, 0, 164, 46, 184, 0, 167, 16, 7, 159, 0, 17, 42, 180, 0, 29]
abbrev dktX2_settle_2 : List UInt8 := dkwX2_settle_2 ++ dktX2_settle_3
def dkwX2_settle_1 : List UInt8 := [161, 0, 71, 42, 89, 180, 0, 164, 4, 100, 181, 0, 164, 42, 42, 180, 0, 29, 42, 180, 0, 164, 46, 3]
abbrev dktX2_settle_1 : List UInt8 := dkwX2_settle_1 ++ dktX2_settle_2
def dkwX2_settle_0 : List UInt8 := [42, 180, 0, 164, 158, 0, 89, 42, 180, 0, 29, 42, 180, 0, 164, 4, 100, 46, 184, 0, 167, 27]
abbrev dktX2_settle_0 : List UInt8 := dkwX2_settle_0 ++ dktX2_settle_1
theorem dksX2_settle_0 : cX2_settle.data.toList.drop 0 = dktX2_settle_0 := by decide +kernel
theorem dksX2_settle_1 : cX2_settle.data.toList.drop 22 = dktX2_settle_1 := dk_seg dksX2_settle_0 22 rfl rfl
theorem dksX2_settle_2 : cX2_settle.data.toList.drop 46 = dktX2_settle_2 := dk_seg dksX2_settle_1 24 rfl rfl
theorem dksX2_settle_3 : cX2_settle.data.toList.drop 70 = dktX2_settle_3 := dk_seg dksX2_settle_2 24 rfl rfl
theorem dX2_settle_0 : decode cX2_settle 0 = .ok (.aload_n 0, 1) := dk_42 (dk_at dksX2_settle_0 0 rfl rfl)
theorem dX2_settle_1 : decode cX2_settle 1 = .ok (.getfield 164, 3) := dk_180 0 164 (dk_at dksX2_settle_0 1 rfl rfl)
theorem dX2_settle_4 : decode cX2_settle 4 = .ok (.ifCond .le 89, 3) := dk_158 0 89 (dk_at dksX2_settle_0 4 rfl rfl)
theorem dX2_settle_7 : decode cX2_settle 7 = .ok (.aload_n 0, 1) := dk_42 (dk_at dksX2_settle_0 7 rfl rfl)
theorem dX2_settle_8 : decode cX2_settle 8 = .ok (.getfield 29, 3) := dk_180 0 29 (dk_at dksX2_settle_0 8 rfl rfl)
theorem dX2_settle_11 : decode cX2_settle 11 = .ok (.aload_n 0, 1) := dk_42 (dk_at dksX2_settle_0 11 rfl rfl)
theorem dX2_settle_12 : decode cX2_settle 12 = .ok (.getfield 164, 3) := dk_180 0 164 (dk_at dksX2_settle_0 12 rfl rfl)
theorem dX2_settle_15 : decode cX2_settle 15 = .ok (.iconst 1, 1) := dk_4 (dk_at dksX2_settle_0 15 rfl rfl)
theorem dX2_settle_16 : decode cX2_settle 16 = .ok (.isub, 1) := dk_100 (dk_at dksX2_settle_0 16 rfl rfl)
theorem dX2_settle_17 : decode cX2_settle 17 = .ok (.iaload, 1) := dk_46 (dk_at dksX2_settle_0 17 rfl rfl)
theorem dX2_settle_18 : decode cX2_settle 18 = .ok (.invokestatic 167, 3) := dk_184 0 167 (dk_at dksX2_settle_0 18 rfl rfl)
theorem dX2_settle_21 : decode cX2_settle 21 = .ok (.iload_n 1, 1) := dk_27 (dk_at dksX2_settle_0 21 rfl rfl)
theorem dX2_settle_22 : decode cX2_settle 22 = .ok (.if_icmp .lt 71, 3) := dk_161 0 71 (dk_at dksX2_settle_1 0 rfl rfl)
theorem dX2_settle_25 : decode cX2_settle 25 = .ok (.aload_n 0, 1) := dk_42 (dk_at dksX2_settle_1 3 rfl rfl)
theorem dX2_settle_26 : decode cX2_settle 26 = .ok (.dup, 1) := dk_89 (dk_at dksX2_settle_1 4 rfl rfl)
theorem dX2_settle_27 : decode cX2_settle 27 = .ok (.getfield 164, 3) := dk_180 0 164 (dk_at dksX2_settle_1 5 rfl rfl)
theorem dX2_settle_30 : decode cX2_settle 30 = .ok (.iconst 1, 1) := dk_4 (dk_at dksX2_settle_1 8 rfl rfl)
theorem dX2_settle_31 : decode cX2_settle 31 = .ok (.isub, 1) := dk_100 (dk_at dksX2_settle_1 9 rfl rfl)
theorem dX2_settle_32 : decode cX2_settle 32 = .ok (.putfield 164, 3) := dk_181 0 164 (dk_at dksX2_settle_1 10 rfl rfl)
theorem dX2_settle_35 : decode cX2_settle 35 = .ok (.aload_n 0, 1) := dk_42 (dk_at dksX2_settle_1 13 rfl rfl)
theorem dX2_settle_36 : decode cX2_settle 36 = .ok (.aload_n 0, 1) := dk_42 (dk_at dksX2_settle_1 14 rfl rfl)
theorem dX2_settle_37 : decode cX2_settle 37 = .ok (.getfield 29, 3) := dk_180 0 29 (dk_at dksX2_settle_1 15 rfl rfl)
theorem dX2_settle_40 : decode cX2_settle 40 = .ok (.aload_n 0, 1) := dk_42 (dk_at dksX2_settle_1 18 rfl rfl)
theorem dX2_settle_41 : decode cX2_settle 41 = .ok (.getfield 164, 3) := dk_180 0 164 (dk_at dksX2_settle_1 19 rfl rfl)
theorem dX2_settle_44 : decode cX2_settle 44 = .ok (.iaload, 1) := dk_46 (dk_at dksX2_settle_1 22 rfl rfl)
theorem dX2_settle_45 : decode cX2_settle 45 = .ok (.iconst 0, 1) := dk_3 (dk_at dksX2_settle_1 23 rfl rfl)
theorem dX2_settle_46 : decode cX2_settle 46 = .ok (.invokevirtual 170, 3) := dk_182 0 170 (dk_at dksX2_settle_2 0 rfl rfl)
theorem dX2_settle_49 : decode cX2_settle 49 = .ok (.aload_n 0, 1) := dk_42 (dk_at dksX2_settle_2 3 rfl rfl)
theorem dX2_settle_50 : decode cX2_settle 50 = .ok (.getfield 29, 3) := dk_180 0 29 (dk_at dksX2_settle_2 4 rfl rfl)
theorem dX2_settle_53 : decode cX2_settle 53 = .ok (.aload_n 0, 1) := dk_42 (dk_at dksX2_settle_2 7 rfl rfl)
theorem dX2_settle_54 : decode cX2_settle 54 = .ok (.getfield 164, 3) := dk_180 0 164 (dk_at dksX2_settle_2 8 rfl rfl)
theorem dX2_settle_57 : decode cX2_settle 57 = .ok (.iaload, 1) := dk_46 (dk_at dksX2_settle_2 11 rfl rfl)
theorem dX2_settle_58 : decode cX2_settle 58 = .ok (.invokestatic 167, 3) := dk_184 0 167 (dk_at dksX2_settle_2 12 rfl rfl)
theorem dX2_settle_61 : decode cX2_settle 61 = .ok (.bipush 7, 2) := dk_16 7 (dk_at dksX2_settle_2 15 rfl rfl)
theorem dX2_settle_63 : decode cX2_settle 63 = .ok (.if_icmp .eq 17, 3) := dk_159 0 17 (dk_at dksX2_settle_2 17 rfl rfl)
theorem dX2_settle_66 : decode cX2_settle 66 = .ok (.aload_n 0, 1) := dk_42 (dk_at dksX2_settle_2 20 rfl rfl)
theorem dX2_settle_67 : decode cX2_settle 67 = .ok (.getfield 29, 3) := dk_180 0 29 (dk_at dksX2_settle_2 21 rfl rfl)
theorem dX2_settle_70 : decode cX2_settle 70 = .ok (.aload_n 0, 1) := dk_42 (dk_at dksX2_settle_3 0 rfl rfl)
theorem dX2_settle_71 : decode cX2_settle 71 = .ok (.getfield 164, 3) := dk_180 0 164 (dk_at dksX2_settle_3 1 rfl rfl)
theorem dX2_settle_74 : decode cX2_settle 74 = .ok (.iaload, 1) := dk_46 (dk_at dksX2_settle_3 4 rfl rfl)
theorem dX2_settle_75 : decode cX2_settle 75 = .ok (.bipush 20, 2) := dk_16 20 (dk_at dksX2_settle_3 5 rfl rfl)
theorem dX2_settle_77 : decode cX2_settle 77 = .ok (.if_icmp .ne (-77), 3) := dk_160 255 179 (dk_at dksX2_settle_3 7 rfl rfl)
theorem dX2_settle_80 : decode cX2_settle 80 = .ok (.aload_n 0, 1) := dk_42 (dk_at dksX2_settle_3 10 rfl rfl)
theorem dX2_settle_81 : decode cX2_settle 81 = .ok (.dup, 1) := dk_89 (dk_at dksX2_settle_3 11 rfl rfl)
theorem dX2_settle_82 : decode cX2_settle 82 = .ok (.getfield 174, 3) := dk_180 0 174 (dk_at dksX2_settle_3 12 rfl rfl)
theorem dX2_settle_85 : decode cX2_settle 85 = .ok (.iconst 1, 1) := dk_4 (dk_at dksX2_settle_3 15 rfl rfl)
theorem dX2_settle_86 : decode cX2_settle 86 = .ok (.isub, 1) := dk_100 (dk_at dksX2_settle_3 16 rfl rfl)
theorem dX2_settle_87 : decode cX2_settle 87 = .ok (.putfield 174, 3) := dk_181 0 174 (dk_at dksX2_settle_3 17 rfl rfl)
theorem dX2_settle_90 : decode cX2_settle 90 = .ok (.goto (-90), 3) := dk_167 255 166 (dk_at dksX2_settle_3 20 rfl rfl)
theorem dX2_settle_93 : decode cX2_settle 93 = .ok (.return_, 1) := dk_177 (dk_at dksX2_settle_3 23 rfl rfl)
abbrev cX2_emit : ByteArray := prog_19_method_29_code
def yX2_emit : MethodName := ⟨RX2, "emit", "(II)V"⟩
def dkwX2_emit_2 : List UInt8 := [96, 181, 0, 149, 177]
abbrev dktX2_emit_2 : List UInt8 := dkwX2_emit_2 ++ []
def dkwX2_emit_1 : List UInt8 := [42, 180, 0, 146, 16, 97, 96, 5, 42, 180, 0, 149, 104, 96, 4, 96, 28, 79, 42, 89, 180, 0, 149, 4]
abbrev dktX2_emit_1 : List UInt8 := dkwX2_emit_1 ++ dktX2_emit_2
def dkwX2_emit_0 : List UInt8 := [42, 180, 0, 16, 42, 180, 0, 146, 16, 97, 96, 5, 42, 180, 0, 149, 104, 96, 27, 79, 42, 180, 0, 16]
abbrev dktX2_emit_0 : List UInt8 := dkwX2_emit_0 ++ dktX2_emit_1
theorem dksX2_emit_0 : cX2_emit.data.toList.drop 0 = dktX2_emit_0 := by decide +kernel
theorem dksX2_emit_1 : cX2_emit.data.toList.drop 24 = dktX2_emit_1 := dk_seg dksX2_emit_0 24 rfl rfl
theorem dksX2_emit_2 : cX2_emit.data.toList.drop 48 = dktX2_emit_2 := dk_seg dksX2_emit_1 24 rfl rfl
theorem dX2_emit_0 : decode cX2_emit 0 = .ok (.aload_n 0, 1) := dk_42 (dk_at dksX2_emit_0 0 rfl rfl)
theorem dX2_emit_1 : decode cX2_emit 1 = .ok (.getfield 16, 3) := dk_180 0 16 (dk_at dksX2_emit_0 1 rfl rfl)
theorem dX2_emit_4 : decode cX2_emit 4 = .ok (.aload_n 0, 1) := dk_42 (dk_at dksX2_emit_0 4 rfl rfl)
theorem dX2_emit_5 : decode cX2_emit 5 = .ok (.getfield 146, 3) := dk_180 0 146 (dk_at dksX2_emit_0 5 rfl rfl)
theorem dX2_emit_8 : decode cX2_emit 8 = .ok (.bipush 97, 2) := dk_16 97 (dk_at dksX2_emit_0 8 rfl rfl)
theorem dX2_emit_10 : decode cX2_emit 10 = .ok (.iadd, 1) := dk_96 (dk_at dksX2_emit_0 10 rfl rfl)
theorem dX2_emit_11 : decode cX2_emit 11 = .ok (.iconst 2, 1) := dk_5 (dk_at dksX2_emit_0 11 rfl rfl)
theorem dX2_emit_12 : decode cX2_emit 12 = .ok (.aload_n 0, 1) := dk_42 (dk_at dksX2_emit_0 12 rfl rfl)
theorem dX2_emit_13 : decode cX2_emit 13 = .ok (.getfield 149, 3) := dk_180 0 149 (dk_at dksX2_emit_0 13 rfl rfl)
theorem dX2_emit_16 : decode cX2_emit 16 = .ok (.imul, 1) := dk_104 (dk_at dksX2_emit_0 16 rfl rfl)
theorem dX2_emit_17 : decode cX2_emit 17 = .ok (.iadd, 1) := dk_96 (dk_at dksX2_emit_0 17 rfl rfl)
theorem dX2_emit_18 : decode cX2_emit 18 = .ok (.iload_n 1, 1) := dk_27 (dk_at dksX2_emit_0 18 rfl rfl)
theorem dX2_emit_19 : decode cX2_emit 19 = .ok (.iastore, 1) := dk_79 (dk_at dksX2_emit_0 19 rfl rfl)
theorem dX2_emit_20 : decode cX2_emit 20 = .ok (.aload_n 0, 1) := dk_42 (dk_at dksX2_emit_0 20 rfl rfl)
theorem dX2_emit_21 : decode cX2_emit 21 = .ok (.getfield 16, 3) := dk_180 0 16 (dk_at dksX2_emit_0 21 rfl rfl)
theorem dX2_emit_24 : decode cX2_emit 24 = .ok (.aload_n 0, 1) := dk_42 (dk_at dksX2_emit_1 0 rfl rfl)
theorem dX2_emit_25 : decode cX2_emit 25 = .ok (.getfield 146, 3) := dk_180 0 146 (dk_at dksX2_emit_1 1 rfl rfl)
theorem dX2_emit_28 : decode cX2_emit 28 = .ok (.bipush 97, 2) := dk_16 97 (dk_at dksX2_emit_1 4 rfl rfl)
theorem dX2_emit_30 : decode cX2_emit 30 = .ok (.iadd, 1) := dk_96 (dk_at dksX2_emit_1 6 rfl rfl)
theorem dX2_emit_31 : decode cX2_emit 31 = .ok (.iconst 2, 1) := dk_5 (dk_at dksX2_emit_1 7 rfl rfl)
theorem dX2_emit_32 : decode cX2_emit 32 = .ok (.aload_n 0, 1) := dk_42 (dk_at dksX2_emit_1 8 rfl rfl)
theorem dX2_emit_33 : decode cX2_emit 33 = .ok (.getfield 149, 3) := dk_180 0 149 (dk_at dksX2_emit_1 9 rfl rfl)
theorem dX2_emit_36 : decode cX2_emit 36 = .ok (.imul, 1) := dk_104 (dk_at dksX2_emit_1 12 rfl rfl)
theorem dX2_emit_37 : decode cX2_emit 37 = .ok (.iadd, 1) := dk_96 (dk_at dksX2_emit_1 13 rfl rfl)
theorem dX2_emit_38 : decode cX2_emit 38 = .ok (.iconst 1, 1) := dk_4 (dk_at dksX2_emit_1 14 rfl rfl)
theorem dX2_emit_39 : decode cX2_emit 39 = .ok (.iadd, 1) := dk_96 (dk_at dksX2_emit_1 15 rfl rfl)
theorem dX2_emit_40 : decode cX2_emit 40 = .ok (.iload_n 2, 1) := dk_28 (dk_at dksX2_emit_1 16 rfl rfl)
theorem dX2_emit_41 : decode cX2_emit 41 = .ok (.iastore, 1) := dk_79 (dk_at dksX2_emit_1 17 rfl rfl)
theorem dX2_emit_42 : decode cX2_emit 42 = .ok (.aload_n 0, 1) := dk_42 (dk_at dksX2_emit_1 18 rfl rfl)
theorem dX2_emit_43 : decode cX2_emit 43 = .ok (.dup, 1) := dk_89 (dk_at dksX2_emit_1 19 rfl rfl)
theorem dX2_emit_44 : decode cX2_emit 44 = .ok (.getfield 149, 3) := dk_180 0 149 (dk_at dksX2_emit_1 20 rfl rfl)
theorem dX2_emit_47 : decode cX2_emit 47 = .ok (.iconst 1, 1) := dk_4 (dk_at dksX2_emit_1 23 rfl rfl)
theorem dX2_emit_48 : decode cX2_emit 48 = .ok (.iadd, 1) := dk_96 (dk_at dksX2_emit_2 0 rfl rfl)
theorem dX2_emit_49 : decode cX2_emit 49 = .ok (.putfield 149, 3) := dk_181 0 149 (dk_at dksX2_emit_2 1 rfl rfl)
theorem dX2_emit_52 : decode cX2_emit 52 = .ok (.return_, 1) := dk_177 (dk_at dksX2_emit_2 4 rfl rfl)
abbrev cX2_endOne : ByteArray := prog_19_method_40_code
def yX2_endOne : MethodName := ⟨RX2, "endOne", "()I"⟩
def dkwX2_endOne_3 : List UInt8 := [181, 0, 210, 3, 172]
abbrev dktX2_endOne_3 : List UInt8 := dkwX2_endOne_3 ++ []
def dkwX2_endOne_2 : List UInt8 := [154, 0, 5, 4, 172, 42, 182, 0, 184, 42, 180, 0, 29, 42, 180, 0, 164, 4, 100, 16, 7, 79, 42, 3]
abbrev dktX2_endOne_2 : List UInt8 := dkwX2_endOne_2 ++ dktX2_endOne_3
def dkwX2_endOne_1 : List UInt8 := [180, 0, 164, 4, 100, 46, 16, 41, 159, 0, 5, 3, 172, 42, 16, 111, 16, 102, 184, 0, 130, 182, 0, 200]
abbrev dktX2_endOne_1 : List UInt8 := dkwX2_endOne_1 ++ dktX2_endOne_2
def dkwX2_endOne_0 : List UInt8 := [42, 16, 7, 182, 0, 207, 42, 4, 181, 0, 210, 42, 180, 0, 164, 153, 0, 19, 42, 180, 0, 29, 42]
abbrev dktX2_endOne_0 : List UInt8 := dkwX2_endOne_0 ++ dktX2_endOne_1
theorem dksX2_endOne_0 : cX2_endOne.data.toList.drop 0 = dktX2_endOne_0 := by decide +kernel
theorem dksX2_endOne_1 : cX2_endOne.data.toList.drop 23 = dktX2_endOne_1 := dk_seg dksX2_endOne_0 23 rfl rfl
theorem dksX2_endOne_2 : cX2_endOne.data.toList.drop 47 = dktX2_endOne_2 := dk_seg dksX2_endOne_1 24 rfl rfl
theorem dksX2_endOne_3 : cX2_endOne.data.toList.drop 71 = dktX2_endOne_3 := dk_seg dksX2_endOne_2 24 rfl rfl
theorem dX2_endOne_0 : decode cX2_endOne 0 = .ok (.aload_n 0, 1) := dk_42 (dk_at dksX2_endOne_0 0 rfl rfl)
theorem dX2_endOne_1 : decode cX2_endOne 1 = .ok (.bipush 7, 2) := dk_16 7 (dk_at dksX2_endOne_0 1 rfl rfl)
theorem dX2_endOne_3 : decode cX2_endOne 3 = .ok (.invokevirtual 207, 3) := dk_182 0 207 (dk_at dksX2_endOne_0 3 rfl rfl)
theorem dX2_endOne_6 : decode cX2_endOne 6 = .ok (.aload_n 0, 1) := dk_42 (dk_at dksX2_endOne_0 6 rfl rfl)
theorem dX2_endOne_7 : decode cX2_endOne 7 = .ok (.iconst 1, 1) := dk_4 (dk_at dksX2_endOne_0 7 rfl rfl)
theorem dX2_endOne_8 : decode cX2_endOne 8 = .ok (.putfield 210, 3) := dk_181 0 210 (dk_at dksX2_endOne_0 8 rfl rfl)
theorem dX2_endOne_11 : decode cX2_endOne 11 = .ok (.aload_n 0, 1) := dk_42 (dk_at dksX2_endOne_0 11 rfl rfl)
theorem dX2_endOne_12 : decode cX2_endOne 12 = .ok (.getfield 164, 3) := dk_180 0 164 (dk_at dksX2_endOne_0 12 rfl rfl)
theorem dX2_endOne_15 : decode cX2_endOne 15 = .ok (.ifCond .eq 19, 3) := dk_153 0 19 (dk_at dksX2_endOne_0 15 rfl rfl)
theorem dX2_endOne_18 : decode cX2_endOne 18 = .ok (.aload_n 0, 1) := dk_42 (dk_at dksX2_endOne_0 18 rfl rfl)
theorem dX2_endOne_19 : decode cX2_endOne 19 = .ok (.getfield 29, 3) := dk_180 0 29 (dk_at dksX2_endOne_0 19 rfl rfl)
theorem dX2_endOne_22 : decode cX2_endOne 22 = .ok (.aload_n 0, 1) := dk_42 (dk_at dksX2_endOne_0 22 rfl rfl)
theorem dX2_endOne_23 : decode cX2_endOne 23 = .ok (.getfield 164, 3) := dk_180 0 164 (dk_at dksX2_endOne_1 0 rfl rfl)
theorem dX2_endOne_26 : decode cX2_endOne 26 = .ok (.iconst 1, 1) := dk_4 (dk_at dksX2_endOne_1 3 rfl rfl)
theorem dX2_endOne_27 : decode cX2_endOne 27 = .ok (.isub, 1) := dk_100 (dk_at dksX2_endOne_1 4 rfl rfl)
theorem dX2_endOne_28 : decode cX2_endOne 28 = .ok (.iaload, 1) := dk_46 (dk_at dksX2_endOne_1 5 rfl rfl)
theorem dX2_endOne_29 : decode cX2_endOne 29 = .ok (.bipush 41, 2) := dk_16 41 (dk_at dksX2_endOne_1 6 rfl rfl)
theorem dX2_endOne_31 : decode cX2_endOne 31 = .ok (.if_icmp .eq 5, 3) := dk_159 0 5 (dk_at dksX2_endOne_1 8 rfl rfl)
theorem dX2_endOne_34 : decode cX2_endOne 34 = .ok (.iconst 0, 1) := dk_3 (dk_at dksX2_endOne_1 11 rfl rfl)
theorem dX2_endOne_35 : decode cX2_endOne 35 = .ok (.ireturn, 1) := dk_172 (dk_at dksX2_endOne_1 12 rfl rfl)
theorem dX2_endOne_36 : decode cX2_endOne 36 = .ok (.aload_n 0, 1) := dk_42 (dk_at dksX2_endOne_1 13 rfl rfl)
theorem dX2_endOne_37 : decode cX2_endOne 37 = .ok (.bipush 111, 2) := dk_16 111 (dk_at dksX2_endOne_1 14 rfl rfl)
theorem dX2_endOne_39 : decode cX2_endOne 39 = .ok (.bipush 102, 2) := dk_16 102 (dk_at dksX2_endOne_1 16 rfl rfl)
theorem dX2_endOne_41 : decode cX2_endOne 41 = .ok (.invokestatic 130, 3) := dk_184 0 130 (dk_at dksX2_endOne_1 18 rfl rfl)
theorem dX2_endOne_44 : decode cX2_endOne 44 = .ok (.invokevirtual 200, 3) := dk_182 0 200 (dk_at dksX2_endOne_1 21 rfl rfl)
theorem dX2_endOne_47 : decode cX2_endOne 47 = .ok (.ifCond .ne 5, 3) := dk_154 0 5 (dk_at dksX2_endOne_2 0 rfl rfl)
theorem dX2_endOne_50 : decode cX2_endOne 50 = .ok (.iconst 1, 1) := dk_4 (dk_at dksX2_endOne_2 3 rfl rfl)
theorem dX2_endOne_51 : decode cX2_endOne 51 = .ok (.ireturn, 1) := dk_172 (dk_at dksX2_endOne_2 4 rfl rfl)
theorem dX2_endOne_52 : decode cX2_endOne 52 = .ok (.aload_n 0, 1) := dk_42 (dk_at dksX2_endOne_2 5 rfl rfl)
theorem dX2_endOne_53 : decode cX2_endOne 53 = .ok (.invokevirtual 184, 3) := dk_182 0 184 (dk_at dksX2_endOne_2 6 rfl rfl)
theorem dX2_endOne_56 : decode cX2_endOne 56 = .ok (.aload_n 0, 1) := dk_42 (dk_at dksX2_endOne_2 9 rfl rfl)
theorem dX2_endOne_57 : decode cX2_endOne 57 = .ok (.getfield 29, 3) := dk_180 0 29 (dk_at dksX2_endOne_2 10 rfl rfl)
theorem dX2_endOne_60 : decode cX2_endOne 60 = .ok (.aload_n 0, 1) := dk_42 (dk_at dksX2_endOne_2 13 rfl rfl)
theorem dX2_endOne_61 : decode cX2_endOne 61 = .ok (.getfield 164, 3) := dk_180 0 164 (dk_at dksX2_endOne_2 14 rfl rfl)
theorem dX2_endOne_64 : decode cX2_endOne 64 = .ok (.iconst 1, 1) := dk_4 (dk_at dksX2_endOne_2 17 rfl rfl)
theorem dX2_endOne_65 : decode cX2_endOne 65 = .ok (.isub, 1) := dk_100 (dk_at dksX2_endOne_2 18 rfl rfl)
theorem dX2_endOne_66 : decode cX2_endOne 66 = .ok (.bipush 7, 2) := dk_16 7 (dk_at dksX2_endOne_2 19 rfl rfl)
theorem dX2_endOne_68 : decode cX2_endOne 68 = .ok (.iastore, 1) := dk_79 (dk_at dksX2_endOne_2 21 rfl rfl)
theorem dX2_endOne_69 : decode cX2_endOne 69 = .ok (.aload_n 0, 1) := dk_42 (dk_at dksX2_endOne_2 22 rfl rfl)
theorem dX2_endOne_70 : decode cX2_endOne 70 = .ok (.iconst 0, 1) := dk_3 (dk_at dksX2_endOne_2 23 rfl rfl)
theorem dX2_endOne_71 : decode cX2_endOne 71 = .ok (.putfield 210, 3) := dk_181 0 210 (dk_at dksX2_endOne_3 0 rfl rfl)
theorem dX2_endOne_74 : decode cX2_endOne 74 = .ok (.iconst 0, 1) := dk_3 (dk_at dksX2_endOne_3 3 rfl rfl)
theorem dX2_endOne_75 : decode cX2_endOne 75 = .ok (.ireturn, 1) := dk_172 (dk_at dksX2_endOne_3 4 rfl rfl)
abbrev cX2_beginOne : ByteArray := prog_19_method_39_code
def yX2_beginOne : MethodName := ⟨RX2, "beginOne", "()I"⟩
def dkwX2_beginOne_8 : List UInt8 := [167, 0, 4, 4, 172]
abbrev dktX2_beginOne_8 : List UInt8 := dkwX2_beginOne_8 ++ []
def dkwX2_beginOne_7 : List UInt8 := [184, 0, 134, 182, 0, 200, 153, 0, 19, 42, 182, 0, 204, 153, 0, 12, 42, 16, 20, 182, 0, 197]
abbrev dktX2_beginOne_7 : List UInt8 := dkwX2_beginOne_7 ++ dktX2_beginOne_8
def dkwX2_beginOne_6 : List UInt8 := [184, 0, 142, 182, 0, 200, 153, 0, 10, 42, 16, 41, 182, 0, 197, 172, 42, 16, 110, 16, 111, 16, 116]
abbrev dktX2_beginOne_6 : List UInt8 := dkwX2_beginOne_6 ++ dktX2_beginOne_7
def dkwX2_beginOne_5 : List UInt8 := [16, 45, 160, 0, 9, 42, 5, 182, 0, 197, 172, 42, 16, 100, 16, 105, 16, 103, 16, 105, 16, 116]
abbrev dktX2_beginOne_5 : List UInt8 := dkwX2_beginOne_5 ++ dktX2_beginOne_6
def dkwX2_beginOne_4 : List UInt8 := [182, 0, 194, 172, 42, 180, 0, 108, 16, 40, 160, 0, 10, 42, 16, 40, 182, 0, 197, 172, 42, 180, 0, 108]
abbrev dktX2_beginOne_4 : List UInt8 := dkwX2_beginOne_4 ++ dktX2_beginOne_5
def dkwX2_beginOne_3 : List UInt8 := [180, 0, 108, 4, 160, 0, 10, 42, 180, 0, 114, 167, 0, 4, 27, 182, 0, 170, 42, 182, 0, 184, 42]
abbrev dktX2_beginOne_3 : List UInt8 := dkwX2_beginOne_3 ++ dktX2_beginOne_4
def dkwX2_beginOne_2 : List UInt8 := [159, 0, 7, 27, 155, 0, 45, 42, 42, 180, 0, 108, 4, 160, 0, 7, 3, 167, 0, 4, 4, 42]
abbrev dktX2_beginOne_2 : List UInt8 := dkwX2_beginOne_2 ++ dktX2_beginOne_3
def dkwX2_beginOne_1 : List UInt8 := [60, 27, 16, 7, 160, 0, 13, 42, 180, 0, 191, 5, 160, 0, 5, 8, 172, 42, 180, 0, 108, 4]
abbrev dktX2_beginOne_1 : List UInt8 := dkwX2_beginOne_1 ++ dktX2_beginOne_2
def dkwX2_beginOne_0 : List UInt8 := [42, 180, 0, 108, 4, 160, 0, 15, 42, 180, 0, 114, 17, 39, 15, 164, 0, 5, 5, 172, 42, 182, 0, 187]
abbrev dktX2_beginOne_0 : List UInt8 := dkwX2_beginOne_0 ++ dktX2_beginOne_1
theorem dksX2_beginOne_0 : cX2_beginOne.data.toList.drop 0 = dktX2_beginOne_0 := by decide +kernel
theorem dksX2_beginOne_1 : cX2_beginOne.data.toList.drop 24 = dktX2_beginOne_1 := dk_seg dksX2_beginOne_0 24 rfl rfl
theorem dksX2_beginOne_2 : cX2_beginOne.data.toList.drop 46 = dktX2_beginOne_2 := dk_seg dksX2_beginOne_1 22 rfl rfl
theorem dksX2_beginOne_3 : cX2_beginOne.data.toList.drop 68 = dktX2_beginOne_3 := dk_seg dksX2_beginOne_2 22 rfl rfl
theorem dksX2_beginOne_4 : cX2_beginOne.data.toList.drop 91 = dktX2_beginOne_4 := dk_seg dksX2_beginOne_3 23 rfl rfl
theorem dksX2_beginOne_5 : cX2_beginOne.data.toList.drop 115 = dktX2_beginOne_5 := dk_seg dksX2_beginOne_4 24 rfl rfl
theorem dksX2_beginOne_6 : cX2_beginOne.data.toList.drop 137 = dktX2_beginOne_6 := dk_seg dksX2_beginOne_5 22 rfl rfl
theorem dksX2_beginOne_7 : cX2_beginOne.data.toList.drop 160 = dktX2_beginOne_7 := dk_seg dksX2_beginOne_6 23 rfl rfl
theorem dksX2_beginOne_8 : cX2_beginOne.data.toList.drop 182 = dktX2_beginOne_8 := dk_seg dksX2_beginOne_7 22 rfl rfl
theorem dX2_beginOne_0 : decode cX2_beginOne 0 = .ok (.aload_n 0, 1) := dk_42 (dk_at dksX2_beginOne_0 0 rfl rfl)
theorem dX2_beginOne_1 : decode cX2_beginOne 1 = .ok (.getfield 108, 3) := dk_180 0 108 (dk_at dksX2_beginOne_0 1 rfl rfl)
theorem dX2_beginOne_4 : decode cX2_beginOne 4 = .ok (.iconst 1, 1) := dk_4 (dk_at dksX2_beginOne_0 4 rfl rfl)
theorem dX2_beginOne_5 : decode cX2_beginOne 5 = .ok (.if_icmp .ne 15, 3) := dk_160 0 15 (dk_at dksX2_beginOne_0 5 rfl rfl)
theorem dX2_beginOne_8 : decode cX2_beginOne 8 = .ok (.aload_n 0, 1) := dk_42 (dk_at dksX2_beginOne_0 8 rfl rfl)
theorem dX2_beginOne_9 : decode cX2_beginOne 9 = .ok (.getfield 114, 3) := dk_180 0 114 (dk_at dksX2_beginOne_0 9 rfl rfl)
theorem dX2_beginOne_12 : decode cX2_beginOne 12 = .ok (.sipush 9999, 3) := dk_17 39 15 (dk_at dksX2_beginOne_0 12 rfl rfl)
theorem dX2_beginOne_15 : decode cX2_beginOne 15 = .ok (.if_icmp .le 5, 3) := dk_164 0 5 (dk_at dksX2_beginOne_0 15 rfl rfl)
theorem dX2_beginOne_18 : decode cX2_beginOne 18 = .ok (.iconst 2, 1) := dk_5 (dk_at dksX2_beginOne_0 18 rfl rfl)
theorem dX2_beginOne_19 : decode cX2_beginOne 19 = .ok (.ireturn, 1) := dk_172 (dk_at dksX2_beginOne_0 19 rfl rfl)
theorem dX2_beginOne_20 : decode cX2_beginOne 20 = .ok (.aload_n 0, 1) := dk_42 (dk_at dksX2_beginOne_0 20 rfl rfl)
theorem dX2_beginOne_21 : decode cX2_beginOne 21 = .ok (.invokevirtual 187, 3) := dk_182 0 187 (dk_at dksX2_beginOne_0 21 rfl rfl)
theorem dX2_beginOne_24 : decode cX2_beginOne 24 = .ok (.istore_n 1, 1) := dk_60 (dk_at dksX2_beginOne_1 0 rfl rfl)
theorem dX2_beginOne_25 : decode cX2_beginOne 25 = .ok (.iload_n 1, 1) := dk_27 (dk_at dksX2_beginOne_1 1 rfl rfl)
theorem dX2_beginOne_26 : decode cX2_beginOne 26 = .ok (.bipush 7, 2) := dk_16 7 (dk_at dksX2_beginOne_1 2 rfl rfl)
theorem dX2_beginOne_28 : decode cX2_beginOne 28 = .ok (.if_icmp .ne 13, 3) := dk_160 0 13 (dk_at dksX2_beginOne_1 4 rfl rfl)
theorem dX2_beginOne_31 : decode cX2_beginOne 31 = .ok (.aload_n 0, 1) := dk_42 (dk_at dksX2_beginOne_1 7 rfl rfl)
theorem dX2_beginOne_32 : decode cX2_beginOne 32 = .ok (.getfield 191, 3) := dk_180 0 191 (dk_at dksX2_beginOne_1 8 rfl rfl)
theorem dX2_beginOne_35 : decode cX2_beginOne 35 = .ok (.iconst 2, 1) := dk_5 (dk_at dksX2_beginOne_1 11 rfl rfl)
theorem dX2_beginOne_36 : decode cX2_beginOne 36 = .ok (.if_icmp .ne 5, 3) := dk_160 0 5 (dk_at dksX2_beginOne_1 12 rfl rfl)
theorem dX2_beginOne_39 : decode cX2_beginOne 39 = .ok (.iconst 5, 1) := dk_8 (dk_at dksX2_beginOne_1 15 rfl rfl)
theorem dX2_beginOne_40 : decode cX2_beginOne 40 = .ok (.ireturn, 1) := dk_172 (dk_at dksX2_beginOne_1 16 rfl rfl)
theorem dX2_beginOne_41 : decode cX2_beginOne 41 = .ok (.aload_n 0, 1) := dk_42 (dk_at dksX2_beginOne_1 17 rfl rfl)
theorem dX2_beginOne_42 : decode cX2_beginOne 42 = .ok (.getfield 108, 3) := dk_180 0 108 (dk_at dksX2_beginOne_1 18 rfl rfl)
theorem dX2_beginOne_45 : decode cX2_beginOne 45 = .ok (.iconst 1, 1) := dk_4 (dk_at dksX2_beginOne_1 21 rfl rfl)
theorem dX2_beginOne_46 : decode cX2_beginOne 46 = .ok (.if_icmp .eq 7, 3) := dk_159 0 7 (dk_at dksX2_beginOne_2 0 rfl rfl)
theorem dX2_beginOne_49 : decode cX2_beginOne 49 = .ok (.iload_n 1, 1) := dk_27 (dk_at dksX2_beginOne_2 3 rfl rfl)
theorem dX2_beginOne_50 : decode cX2_beginOne 50 = .ok (.ifCond .lt 45, 3) := dk_155 0 45 (dk_at dksX2_beginOne_2 4 rfl rfl)
theorem dX2_beginOne_53 : decode cX2_beginOne 53 = .ok (.aload_n 0, 1) := dk_42 (dk_at dksX2_beginOne_2 7 rfl rfl)
theorem dX2_beginOne_54 : decode cX2_beginOne 54 = .ok (.aload_n 0, 1) := dk_42 (dk_at dksX2_beginOne_2 8 rfl rfl)
theorem dX2_beginOne_55 : decode cX2_beginOne 55 = .ok (.getfield 108, 3) := dk_180 0 108 (dk_at dksX2_beginOne_2 9 rfl rfl)
theorem dX2_beginOne_58 : decode cX2_beginOne 58 = .ok (.iconst 1, 1) := dk_4 (dk_at dksX2_beginOne_2 12 rfl rfl)
theorem dX2_beginOne_59 : decode cX2_beginOne 59 = .ok (.if_icmp .ne 7, 3) := dk_160 0 7 (dk_at dksX2_beginOne_2 13 rfl rfl)
theorem dX2_beginOne_62 : decode cX2_beginOne 62 = .ok (.iconst 0, 1) := dk_3 (dk_at dksX2_beginOne_2 16 rfl rfl)
theorem dX2_beginOne_63 : decode cX2_beginOne 63 = .ok (.goto 4, 3) := dk_167 0 4 (dk_at dksX2_beginOne_2 17 rfl rfl)
theorem dX2_beginOne_66 : decode cX2_beginOne 66 = .ok (.iconst 1, 1) := dk_4 (dk_at dksX2_beginOne_2 20 rfl rfl)
theorem dX2_beginOne_67 : decode cX2_beginOne 67 = .ok (.aload_n 0, 1) := dk_42 (dk_at dksX2_beginOne_2 21 rfl rfl)
theorem dX2_beginOne_68 : decode cX2_beginOne 68 = .ok (.getfield 108, 3) := dk_180 0 108 (dk_at dksX2_beginOne_3 0 rfl rfl)
theorem dX2_beginOne_71 : decode cX2_beginOne 71 = .ok (.iconst 1, 1) := dk_4 (dk_at dksX2_beginOne_3 3 rfl rfl)
theorem dX2_beginOne_72 : decode cX2_beginOne 72 = .ok (.if_icmp .ne 10, 3) := dk_160 0 10 (dk_at dksX2_beginOne_3 4 rfl rfl)
theorem dX2_beginOne_75 : decode cX2_beginOne 75 = .ok (.aload_n 0, 1) := dk_42 (dk_at dksX2_beginOne_3 7 rfl rfl)
theorem dX2_beginOne_76 : decode cX2_beginOne 76 = .ok (.getfield 114, 3) := dk_180 0 114 (dk_at dksX2_beginOne_3 8 rfl rfl)
theorem dX2_beginOne_79 : decode cX2_beginOne 79 = .ok (.goto 4, 3) := dk_167 0 4 (dk_at dksX2_beginOne_3 11 rfl rfl)
theorem dX2_beginOne_82 : decode cX2_beginOne 82 = .ok (.iload_n 1, 1) := dk_27 (dk_at dksX2_beginOne_3 14 rfl rfl)
theorem dX2_beginOne_83 : decode cX2_beginOne 83 = .ok (.invokevirtual 170, 3) := dk_182 0 170 (dk_at dksX2_beginOne_3 15 rfl rfl)
theorem dX2_beginOne_86 : decode cX2_beginOne 86 = .ok (.aload_n 0, 1) := dk_42 (dk_at dksX2_beginOne_3 18 rfl rfl)
theorem dX2_beginOne_87 : decode cX2_beginOne 87 = .ok (.invokevirtual 184, 3) := dk_182 0 184 (dk_at dksX2_beginOne_3 19 rfl rfl)
theorem dX2_beginOne_90 : decode cX2_beginOne 90 = .ok (.aload_n 0, 1) := dk_42 (dk_at dksX2_beginOne_3 22 rfl rfl)
theorem dX2_beginOne_91 : decode cX2_beginOne 91 = .ok (.invokevirtual 194, 3) := dk_182 0 194 (dk_at dksX2_beginOne_4 0 rfl rfl)
theorem dX2_beginOne_94 : decode cX2_beginOne 94 = .ok (.ireturn, 1) := dk_172 (dk_at dksX2_beginOne_4 3 rfl rfl)
theorem dX2_beginOne_95 : decode cX2_beginOne 95 = .ok (.aload_n 0, 1) := dk_42 (dk_at dksX2_beginOne_4 4 rfl rfl)
theorem dX2_beginOne_96 : decode cX2_beginOne 96 = .ok (.getfield 108, 3) := dk_180 0 108 (dk_at dksX2_beginOne_4 5 rfl rfl)
theorem dX2_beginOne_99 : decode cX2_beginOne 99 = .ok (.bipush 40, 2) := dk_16 40 (dk_at dksX2_beginOne_4 8 rfl rfl)
theorem dX2_beginOne_101 : decode cX2_beginOne 101 = .ok (.if_icmp .ne 10, 3) := dk_160 0 10 (dk_at dksX2_beginOne_4 10 rfl rfl)
theorem dX2_beginOne_104 : decode cX2_beginOne 104 = .ok (.aload_n 0, 1) := dk_42 (dk_at dksX2_beginOne_4 13 rfl rfl)
theorem dX2_beginOne_105 : decode cX2_beginOne 105 = .ok (.bipush 40, 2) := dk_16 40 (dk_at dksX2_beginOne_4 14 rfl rfl)
theorem dX2_beginOne_107 : decode cX2_beginOne 107 = .ok (.invokevirtual 197, 3) := dk_182 0 197 (dk_at dksX2_beginOne_4 16 rfl rfl)
theorem dX2_beginOne_110 : decode cX2_beginOne 110 = .ok (.ireturn, 1) := dk_172 (dk_at dksX2_beginOne_4 19 rfl rfl)
theorem dX2_beginOne_111 : decode cX2_beginOne 111 = .ok (.aload_n 0, 1) := dk_42 (dk_at dksX2_beginOne_4 20 rfl rfl)
theorem dX2_beginOne_112 : decode cX2_beginOne 112 = .ok (.getfield 108, 3) := dk_180 0 108 (dk_at dksX2_beginOne_4 21 rfl rfl)
theorem dX2_beginOne_115 : decode cX2_beginOne 115 = .ok (.bipush 45, 2) := dk_16 45 (dk_at dksX2_beginOne_5 0 rfl rfl)
theorem dX2_beginOne_117 : decode cX2_beginOne 117 = .ok (.if_icmp .ne 9, 3) := dk_160 0 9 (dk_at dksX2_beginOne_5 2 rfl rfl)
theorem dX2_beginOne_120 : decode cX2_beginOne 120 = .ok (.aload_n 0, 1) := dk_42 (dk_at dksX2_beginOne_5 5 rfl rfl)
theorem dX2_beginOne_121 : decode cX2_beginOne 121 = .ok (.iconst 2, 1) := dk_5 (dk_at dksX2_beginOne_5 6 rfl rfl)
theorem dX2_beginOne_122 : decode cX2_beginOne 122 = .ok (.invokevirtual 197, 3) := dk_182 0 197 (dk_at dksX2_beginOne_5 7 rfl rfl)
theorem dX2_beginOne_125 : decode cX2_beginOne 125 = .ok (.ireturn, 1) := dk_172 (dk_at dksX2_beginOne_5 10 rfl rfl)
theorem dX2_beginOne_126 : decode cX2_beginOne 126 = .ok (.aload_n 0, 1) := dk_42 (dk_at dksX2_beginOne_5 11 rfl rfl)
theorem dX2_beginOne_127 : decode cX2_beginOne 127 = .ok (.bipush 100, 2) := dk_16 100 (dk_at dksX2_beginOne_5 12 rfl rfl)
theorem dX2_beginOne_129 : decode cX2_beginOne 129 = .ok (.bipush 105, 2) := dk_16 105 (dk_at dksX2_beginOne_5 14 rfl rfl)
theorem dX2_beginOne_131 : decode cX2_beginOne 131 = .ok (.bipush 103, 2) := dk_16 103 (dk_at dksX2_beginOne_5 16 rfl rfl)
theorem dX2_beginOne_133 : decode cX2_beginOne 133 = .ok (.bipush 105, 2) := dk_16 105 (dk_at dksX2_beginOne_5 18 rfl rfl)
theorem dX2_beginOne_135 : decode cX2_beginOne 135 = .ok (.bipush 116, 2) := dk_16 116 (dk_at dksX2_beginOne_5 20 rfl rfl)
theorem dX2_beginOne_137 : decode cX2_beginOne 137 = .ok (.invokestatic 142, 3) := dk_184 0 142 (dk_at dksX2_beginOne_6 0 rfl rfl)
theorem dX2_beginOne_140 : decode cX2_beginOne 140 = .ok (.invokevirtual 200, 3) := dk_182 0 200 (dk_at dksX2_beginOne_6 3 rfl rfl)
theorem dX2_beginOne_143 : decode cX2_beginOne 143 = .ok (.ifCond .eq 10, 3) := dk_153 0 10 (dk_at dksX2_beginOne_6 6 rfl rfl)
theorem dX2_beginOne_146 : decode cX2_beginOne 146 = .ok (.aload_n 0, 1) := dk_42 (dk_at dksX2_beginOne_6 9 rfl rfl)
theorem dX2_beginOne_147 : decode cX2_beginOne 147 = .ok (.bipush 41, 2) := dk_16 41 (dk_at dksX2_beginOne_6 10 rfl rfl)
theorem dX2_beginOne_149 : decode cX2_beginOne 149 = .ok (.invokevirtual 197, 3) := dk_182 0 197 (dk_at dksX2_beginOne_6 12 rfl rfl)
theorem dX2_beginOne_152 : decode cX2_beginOne 152 = .ok (.ireturn, 1) := dk_172 (dk_at dksX2_beginOne_6 15 rfl rfl)
theorem dX2_beginOne_153 : decode cX2_beginOne 153 = .ok (.aload_n 0, 1) := dk_42 (dk_at dksX2_beginOne_6 16 rfl rfl)
theorem dX2_beginOne_154 : decode cX2_beginOne 154 = .ok (.bipush 110, 2) := dk_16 110 (dk_at dksX2_beginOne_6 17 rfl rfl)
theorem dX2_beginOne_156 : decode cX2_beginOne 156 = .ok (.bipush 111, 2) := dk_16 111 (dk_at dksX2_beginOne_6 19 rfl rfl)
theorem dX2_beginOne_158 : decode cX2_beginOne 158 = .ok (.bipush 116, 2) := dk_16 116 (dk_at dksX2_beginOne_6 21 rfl rfl)
theorem dX2_beginOne_160 : decode cX2_beginOne 160 = .ok (.invokestatic 134, 3) := dk_184 0 134 (dk_at dksX2_beginOne_7 0 rfl rfl)
theorem dX2_beginOne_163 : decode cX2_beginOne 163 = .ok (.invokevirtual 200, 3) := dk_182 0 200 (dk_at dksX2_beginOne_7 3 rfl rfl)
theorem dX2_beginOne_166 : decode cX2_beginOne 166 = .ok (.ifCond .eq 19, 3) := dk_153 0 19 (dk_at dksX2_beginOne_7 6 rfl rfl)
theorem dX2_beginOne_169 : decode cX2_beginOne 169 = .ok (.aload_n 0, 1) := dk_42 (dk_at dksX2_beginOne_7 9 rfl rfl)
theorem dX2_beginOne_170 : decode cX2_beginOne 170 = .ok (.invokevirtual 204, 3) := dk_182 0 204 (dk_at dksX2_beginOne_7 10 rfl rfl)
theorem dX2_beginOne_173 : decode cX2_beginOne 173 = .ok (.ifCond .eq 12, 3) := dk_153 0 12 (dk_at dksX2_beginOne_7 13 rfl rfl)
theorem dX2_beginOne_176 : decode cX2_beginOne 176 = .ok (.aload_n 0, 1) := dk_42 (dk_at dksX2_beginOne_7 16 rfl rfl)
theorem dX2_beginOne_177 : decode cX2_beginOne 177 = .ok (.bipush 20, 2) := dk_16 20 (dk_at dksX2_beginOne_7 17 rfl rfl)
theorem dX2_beginOne_179 : decode cX2_beginOne 179 = .ok (.invokevirtual 197, 3) := dk_182 0 197 (dk_at dksX2_beginOne_7 19 rfl rfl)
theorem dX2_beginOne_182 : decode cX2_beginOne 182 = .ok (.goto 4, 3) := dk_167 0 4 (dk_at dksX2_beginOne_8 0 rfl rfl)
theorem dX2_beginOne_185 : decode cX2_beginOne 185 = .ok (.iconst 1, 1) := dk_4 (dk_at dksX2_beginOne_8 3 rfl rfl)
theorem dX2_beginOne_186 : decode cX2_beginOne 186 = .ok (.ireturn, 1) := dk_172 (dk_at dksX2_beginOne_8 4 rfl rfl)
abbrev cX2_nameOf : ByteArray := prog_19_method_32_code
def yX2_nameOf : MethodName := ⟨RX2, "nameOf", "()I"⟩
def dkwX2_nameOf_7 : List UInt8 := [184, 0, 160, 148, 154, 0, 8, 16, 7, 167, 0, 4, 2, 172]
abbrev dktX2_nameOf_7 : List UInt8 := dkwX2_nameOf_7 ++ []
def dkwX2_nameOf_6 : List UInt8 := [154, 0, 8, 16, 6, 167, 0, 32, 42, 180, 0, 121, 16, 98, 16, 101, 16, 115, 16, 105, 16, 100, 16, 101]
abbrev dktX2_nameOf_6 : List UInt8 := dkwX2_nameOf_6 ++ dktX2_nameOf_7
def dkwX2_nameOf_5 : List UInt8 := [148, 154, 0, 5, 8, 172, 42, 180, 0, 121, 16, 111, 16, 112, 16, 101, 16, 110, 184, 0, 138, 148]
abbrev dktX2_nameOf_5 : List UInt8 := dkwX2_nameOf_5 ++ dktX2_nameOf_6
def dkwX2_nameOf_4 : List UInt8 := [42, 182, 0, 156, 153, 0, 5, 7, 172, 42, 180, 0, 121, 16, 100, 16, 97, 16, 121, 16, 115, 184, 0, 138]
abbrev dktX2_nameOf_4 : List UInt8 := dkwX2_nameOf_4 ++ dktX2_nameOf_5
def dkwX2_nameOf_3 : List UInt8 := [172, 42, 180, 0, 121, 16, 112, 16, 117, 16, 114, 16, 115, 16, 101, 184, 0, 142, 148, 154, 0, 5, 6, 172]
abbrev dktX2_nameOf_3 : List UInt8 := dkwX2_nameOf_3 ++ dktX2_nameOf_4
def dkwX2_nameOf_2 : List UInt8 := [4, 172, 42, 180, 0, 121, 16, 104, 16, 111, 16, 117, 16, 115, 16, 101, 184, 0, 142, 148, 154, 0, 5, 5]
abbrev dktX2_nameOf_2 : List UInt8 := dkwX2_nameOf_2 ++ dktX2_nameOf_3
def dkwX2_nameOf_1 : List UInt8 := [154, 0, 5, 3, 172, 42, 180, 0, 121, 16, 100, 16, 97, 16, 116, 16, 101, 184, 0, 138, 148, 154, 0, 5]
abbrev dktX2_nameOf_1 : List UInt8 := dkwX2_nameOf_1 ++ dktX2_nameOf_2
def dkwX2_nameOf_0 : List UInt8 := [42, 180, 0, 108, 5, 159, 0, 5, 2, 172, 42, 180, 0, 121, 16, 100, 16, 97, 16, 121, 184, 0, 134, 148]
abbrev dktX2_nameOf_0 : List UInt8 := dkwX2_nameOf_0 ++ dktX2_nameOf_1
theorem dksX2_nameOf_0 : cX2_nameOf.data.toList.drop 0 = dktX2_nameOf_0 := by decide +kernel
theorem dksX2_nameOf_1 : cX2_nameOf.data.toList.drop 24 = dktX2_nameOf_1 := dk_seg dksX2_nameOf_0 24 rfl rfl
theorem dksX2_nameOf_2 : cX2_nameOf.data.toList.drop 48 = dktX2_nameOf_2 := dk_seg dksX2_nameOf_1 24 rfl rfl
theorem dksX2_nameOf_3 : cX2_nameOf.data.toList.drop 72 = dktX2_nameOf_3 := dk_seg dksX2_nameOf_2 24 rfl rfl
theorem dksX2_nameOf_4 : cX2_nameOf.data.toList.drop 96 = dktX2_nameOf_4 := dk_seg dksX2_nameOf_3 24 rfl rfl
theorem dksX2_nameOf_5 : cX2_nameOf.data.toList.drop 120 = dktX2_nameOf_5 := dk_seg dksX2_nameOf_4 24 rfl rfl
theorem dksX2_nameOf_6 : cX2_nameOf.data.toList.drop 142 = dktX2_nameOf_6 := dk_seg dksX2_nameOf_5 22 rfl rfl
theorem dksX2_nameOf_7 : cX2_nameOf.data.toList.drop 166 = dktX2_nameOf_7 := dk_seg dksX2_nameOf_6 24 rfl rfl
theorem dX2_nameOf_0 : decode cX2_nameOf 0 = .ok (.aload_n 0, 1) := dk_42 (dk_at dksX2_nameOf_0 0 rfl rfl)
theorem dX2_nameOf_1 : decode cX2_nameOf 1 = .ok (.getfield 108, 3) := dk_180 0 108 (dk_at dksX2_nameOf_0 1 rfl rfl)
theorem dX2_nameOf_4 : decode cX2_nameOf 4 = .ok (.iconst 2, 1) := dk_5 (dk_at dksX2_nameOf_0 4 rfl rfl)
theorem dX2_nameOf_5 : decode cX2_nameOf 5 = .ok (.if_icmp .eq 5, 3) := dk_159 0 5 (dk_at dksX2_nameOf_0 5 rfl rfl)
theorem dX2_nameOf_8 : decode cX2_nameOf 8 = .ok (.iconst (-1), 1) := dk_2 (dk_at dksX2_nameOf_0 8 rfl rfl)
theorem dX2_nameOf_9 : decode cX2_nameOf 9 = .ok (.ireturn, 1) := dk_172 (dk_at dksX2_nameOf_0 9 rfl rfl)
theorem dX2_nameOf_10 : decode cX2_nameOf 10 = .ok (.aload_n 0, 1) := dk_42 (dk_at dksX2_nameOf_0 10 rfl rfl)
theorem dX2_nameOf_11 : decode cX2_nameOf 11 = .ok (.getfield 121, 3) := dk_180 0 121 (dk_at dksX2_nameOf_0 11 rfl rfl)
theorem dX2_nameOf_14 : decode cX2_nameOf 14 = .ok (.bipush 100, 2) := dk_16 100 (dk_at dksX2_nameOf_0 14 rfl rfl)
theorem dX2_nameOf_16 : decode cX2_nameOf 16 = .ok (.bipush 97, 2) := dk_16 97 (dk_at dksX2_nameOf_0 16 rfl rfl)
theorem dX2_nameOf_18 : decode cX2_nameOf 18 = .ok (.bipush 121, 2) := dk_16 121 (dk_at dksX2_nameOf_0 18 rfl rfl)
theorem dX2_nameOf_20 : decode cX2_nameOf 20 = .ok (.invokestatic 134, 3) := dk_184 0 134 (dk_at dksX2_nameOf_0 20 rfl rfl)
theorem dX2_nameOf_23 : decode cX2_nameOf 23 = .ok (.lcmp, 1) := dk_148 (dk_at dksX2_nameOf_0 23 rfl rfl)
theorem dX2_nameOf_24 : decode cX2_nameOf 24 = .ok (.ifCond .ne 5, 3) := dk_154 0 5 (dk_at dksX2_nameOf_1 0 rfl rfl)
theorem dX2_nameOf_27 : decode cX2_nameOf 27 = .ok (.iconst 0, 1) := dk_3 (dk_at dksX2_nameOf_1 3 rfl rfl)
theorem dX2_nameOf_28 : decode cX2_nameOf 28 = .ok (.ireturn, 1) := dk_172 (dk_at dksX2_nameOf_1 4 rfl rfl)
theorem dX2_nameOf_29 : decode cX2_nameOf 29 = .ok (.aload_n 0, 1) := dk_42 (dk_at dksX2_nameOf_1 5 rfl rfl)
theorem dX2_nameOf_30 : decode cX2_nameOf 30 = .ok (.getfield 121, 3) := dk_180 0 121 (dk_at dksX2_nameOf_1 6 rfl rfl)
theorem dX2_nameOf_33 : decode cX2_nameOf 33 = .ok (.bipush 100, 2) := dk_16 100 (dk_at dksX2_nameOf_1 9 rfl rfl)
theorem dX2_nameOf_35 : decode cX2_nameOf 35 = .ok (.bipush 97, 2) := dk_16 97 (dk_at dksX2_nameOf_1 11 rfl rfl)
theorem dX2_nameOf_37 : decode cX2_nameOf 37 = .ok (.bipush 116, 2) := dk_16 116 (dk_at dksX2_nameOf_1 13 rfl rfl)
theorem dX2_nameOf_39 : decode cX2_nameOf 39 = .ok (.bipush 101, 2) := dk_16 101 (dk_at dksX2_nameOf_1 15 rfl rfl)
theorem dX2_nameOf_41 : decode cX2_nameOf 41 = .ok (.invokestatic 138, 3) := dk_184 0 138 (dk_at dksX2_nameOf_1 17 rfl rfl)
theorem dX2_nameOf_44 : decode cX2_nameOf 44 = .ok (.lcmp, 1) := dk_148 (dk_at dksX2_nameOf_1 20 rfl rfl)
theorem dX2_nameOf_45 : decode cX2_nameOf 45 = .ok (.ifCond .ne 5, 3) := dk_154 0 5 (dk_at dksX2_nameOf_1 21 rfl rfl)
theorem dX2_nameOf_48 : decode cX2_nameOf 48 = .ok (.iconst 1, 1) := dk_4 (dk_at dksX2_nameOf_2 0 rfl rfl)
theorem dX2_nameOf_49 : decode cX2_nameOf 49 = .ok (.ireturn, 1) := dk_172 (dk_at dksX2_nameOf_2 1 rfl rfl)
theorem dX2_nameOf_50 : decode cX2_nameOf 50 = .ok (.aload_n 0, 1) := dk_42 (dk_at dksX2_nameOf_2 2 rfl rfl)
theorem dX2_nameOf_51 : decode cX2_nameOf 51 = .ok (.getfield 121, 3) := dk_180 0 121 (dk_at dksX2_nameOf_2 3 rfl rfl)
theorem dX2_nameOf_54 : decode cX2_nameOf 54 = .ok (.bipush 104, 2) := dk_16 104 (dk_at dksX2_nameOf_2 6 rfl rfl)
theorem dX2_nameOf_56 : decode cX2_nameOf 56 = .ok (.bipush 111, 2) := dk_16 111 (dk_at dksX2_nameOf_2 8 rfl rfl)
theorem dX2_nameOf_58 : decode cX2_nameOf 58 = .ok (.bipush 117, 2) := dk_16 117 (dk_at dksX2_nameOf_2 10 rfl rfl)
theorem dX2_nameOf_60 : decode cX2_nameOf 60 = .ok (.bipush 115, 2) := dk_16 115 (dk_at dksX2_nameOf_2 12 rfl rfl)
theorem dX2_nameOf_62 : decode cX2_nameOf 62 = .ok (.bipush 101, 2) := dk_16 101 (dk_at dksX2_nameOf_2 14 rfl rfl)
theorem dX2_nameOf_64 : decode cX2_nameOf 64 = .ok (.invokestatic 142, 3) := dk_184 0 142 (dk_at dksX2_nameOf_2 16 rfl rfl)
theorem dX2_nameOf_67 : decode cX2_nameOf 67 = .ok (.lcmp, 1) := dk_148 (dk_at dksX2_nameOf_2 19 rfl rfl)
theorem dX2_nameOf_68 : decode cX2_nameOf 68 = .ok (.ifCond .ne 5, 3) := dk_154 0 5 (dk_at dksX2_nameOf_2 20 rfl rfl)
theorem dX2_nameOf_71 : decode cX2_nameOf 71 = .ok (.iconst 2, 1) := dk_5 (dk_at dksX2_nameOf_2 23 rfl rfl)
theorem dX2_nameOf_72 : decode cX2_nameOf 72 = .ok (.ireturn, 1) := dk_172 (dk_at dksX2_nameOf_3 0 rfl rfl)
theorem dX2_nameOf_73 : decode cX2_nameOf 73 = .ok (.aload_n 0, 1) := dk_42 (dk_at dksX2_nameOf_3 1 rfl rfl)
theorem dX2_nameOf_74 : decode cX2_nameOf 74 = .ok (.getfield 121, 3) := dk_180 0 121 (dk_at dksX2_nameOf_3 2 rfl rfl)
theorem dX2_nameOf_77 : decode cX2_nameOf 77 = .ok (.bipush 112, 2) := dk_16 112 (dk_at dksX2_nameOf_3 5 rfl rfl)
theorem dX2_nameOf_79 : decode cX2_nameOf 79 = .ok (.bipush 117, 2) := dk_16 117 (dk_at dksX2_nameOf_3 7 rfl rfl)
theorem dX2_nameOf_81 : decode cX2_nameOf 81 = .ok (.bipush 114, 2) := dk_16 114 (dk_at dksX2_nameOf_3 9 rfl rfl)
theorem dX2_nameOf_83 : decode cX2_nameOf 83 = .ok (.bipush 115, 2) := dk_16 115 (dk_at dksX2_nameOf_3 11 rfl rfl)
theorem dX2_nameOf_85 : decode cX2_nameOf 85 = .ok (.bipush 101, 2) := dk_16 101 (dk_at dksX2_nameOf_3 13 rfl rfl)
theorem dX2_nameOf_87 : decode cX2_nameOf 87 = .ok (.invokestatic 142, 3) := dk_184 0 142 (dk_at dksX2_nameOf_3 15 rfl rfl)
theorem dX2_nameOf_90 : decode cX2_nameOf 90 = .ok (.lcmp, 1) := dk_148 (dk_at dksX2_nameOf_3 18 rfl rfl)
theorem dX2_nameOf_91 : decode cX2_nameOf 91 = .ok (.ifCond .ne 5, 3) := dk_154 0 5 (dk_at dksX2_nameOf_3 19 rfl rfl)
theorem dX2_nameOf_94 : decode cX2_nameOf 94 = .ok (.iconst 3, 1) := dk_6 (dk_at dksX2_nameOf_3 22 rfl rfl)
theorem dX2_nameOf_95 : decode cX2_nameOf 95 = .ok (.ireturn, 1) := dk_172 (dk_at dksX2_nameOf_3 23 rfl rfl)
theorem dX2_nameOf_96 : decode cX2_nameOf 96 = .ok (.aload_n 0, 1) := dk_42 (dk_at dksX2_nameOf_4 0 rfl rfl)
theorem dX2_nameOf_97 : decode cX2_nameOf 97 = .ok (.invokevirtual 156, 3) := dk_182 0 156 (dk_at dksX2_nameOf_4 1 rfl rfl)
theorem dX2_nameOf_100 : decode cX2_nameOf 100 = .ok (.ifCond .eq 5, 3) := dk_153 0 5 (dk_at dksX2_nameOf_4 4 rfl rfl)
theorem dX2_nameOf_103 : decode cX2_nameOf 103 = .ok (.iconst 4, 1) := dk_7 (dk_at dksX2_nameOf_4 7 rfl rfl)
theorem dX2_nameOf_104 : decode cX2_nameOf 104 = .ok (.ireturn, 1) := dk_172 (dk_at dksX2_nameOf_4 8 rfl rfl)
theorem dX2_nameOf_105 : decode cX2_nameOf 105 = .ok (.aload_n 0, 1) := dk_42 (dk_at dksX2_nameOf_4 9 rfl rfl)
theorem dX2_nameOf_106 : decode cX2_nameOf 106 = .ok (.getfield 121, 3) := dk_180 0 121 (dk_at dksX2_nameOf_4 10 rfl rfl)
theorem dX2_nameOf_109 : decode cX2_nameOf 109 = .ok (.bipush 100, 2) := dk_16 100 (dk_at dksX2_nameOf_4 13 rfl rfl)
theorem dX2_nameOf_111 : decode cX2_nameOf 111 = .ok (.bipush 97, 2) := dk_16 97 (dk_at dksX2_nameOf_4 15 rfl rfl)
theorem dX2_nameOf_113 : decode cX2_nameOf 113 = .ok (.bipush 121, 2) := dk_16 121 (dk_at dksX2_nameOf_4 17 rfl rfl)
theorem dX2_nameOf_115 : decode cX2_nameOf 115 = .ok (.bipush 115, 2) := dk_16 115 (dk_at dksX2_nameOf_4 19 rfl rfl)
theorem dX2_nameOf_117 : decode cX2_nameOf 117 = .ok (.invokestatic 138, 3) := dk_184 0 138 (dk_at dksX2_nameOf_4 21 rfl rfl)
theorem dX2_nameOf_120 : decode cX2_nameOf 120 = .ok (.lcmp, 1) := dk_148 (dk_at dksX2_nameOf_5 0 rfl rfl)
theorem dX2_nameOf_121 : decode cX2_nameOf 121 = .ok (.ifCond .ne 5, 3) := dk_154 0 5 (dk_at dksX2_nameOf_5 1 rfl rfl)
theorem dX2_nameOf_124 : decode cX2_nameOf 124 = .ok (.iconst 5, 1) := dk_8 (dk_at dksX2_nameOf_5 4 rfl rfl)
theorem dX2_nameOf_125 : decode cX2_nameOf 125 = .ok (.ireturn, 1) := dk_172 (dk_at dksX2_nameOf_5 5 rfl rfl)
theorem dX2_nameOf_126 : decode cX2_nameOf 126 = .ok (.aload_n 0, 1) := dk_42 (dk_at dksX2_nameOf_5 6 rfl rfl)
theorem dX2_nameOf_127 : decode cX2_nameOf 127 = .ok (.getfield 121, 3) := dk_180 0 121 (dk_at dksX2_nameOf_5 7 rfl rfl)
theorem dX2_nameOf_130 : decode cX2_nameOf 130 = .ok (.bipush 111, 2) := dk_16 111 (dk_at dksX2_nameOf_5 10 rfl rfl)
theorem dX2_nameOf_132 : decode cX2_nameOf 132 = .ok (.bipush 112, 2) := dk_16 112 (dk_at dksX2_nameOf_5 12 rfl rfl)
theorem dX2_nameOf_134 : decode cX2_nameOf 134 = .ok (.bipush 101, 2) := dk_16 101 (dk_at dksX2_nameOf_5 14 rfl rfl)
theorem dX2_nameOf_136 : decode cX2_nameOf 136 = .ok (.bipush 110, 2) := dk_16 110 (dk_at dksX2_nameOf_5 16 rfl rfl)
theorem dX2_nameOf_138 : decode cX2_nameOf 138 = .ok (.invokestatic 138, 3) := dk_184 0 138 (dk_at dksX2_nameOf_5 18 rfl rfl)
theorem dX2_nameOf_141 : decode cX2_nameOf 141 = .ok (.lcmp, 1) := dk_148 (dk_at dksX2_nameOf_5 21 rfl rfl)
theorem dX2_nameOf_142 : decode cX2_nameOf 142 = .ok (.ifCond .ne 8, 3) := dk_154 0 8 (dk_at dksX2_nameOf_6 0 rfl rfl)
theorem dX2_nameOf_145 : decode cX2_nameOf 145 = .ok (.bipush 6, 2) := dk_16 6 (dk_at dksX2_nameOf_6 3 rfl rfl)
theorem dX2_nameOf_147 : decode cX2_nameOf 147 = .ok (.goto 32, 3) := dk_167 0 32 (dk_at dksX2_nameOf_6 5 rfl rfl)
theorem dX2_nameOf_150 : decode cX2_nameOf 150 = .ok (.aload_n 0, 1) := dk_42 (dk_at dksX2_nameOf_6 8 rfl rfl)
theorem dX2_nameOf_151 : decode cX2_nameOf 151 = .ok (.getfield 121, 3) := dk_180 0 121 (dk_at dksX2_nameOf_6 9 rfl rfl)
theorem dX2_nameOf_154 : decode cX2_nameOf 154 = .ok (.bipush 98, 2) := dk_16 98 (dk_at dksX2_nameOf_6 12 rfl rfl)
theorem dX2_nameOf_156 : decode cX2_nameOf 156 = .ok (.bipush 101, 2) := dk_16 101 (dk_at dksX2_nameOf_6 14 rfl rfl)
theorem dX2_nameOf_158 : decode cX2_nameOf 158 = .ok (.bipush 115, 2) := dk_16 115 (dk_at dksX2_nameOf_6 16 rfl rfl)
theorem dX2_nameOf_160 : decode cX2_nameOf 160 = .ok (.bipush 105, 2) := dk_16 105 (dk_at dksX2_nameOf_6 18 rfl rfl)
theorem dX2_nameOf_162 : decode cX2_nameOf 162 = .ok (.bipush 100, 2) := dk_16 100 (dk_at dksX2_nameOf_6 20 rfl rfl)
theorem dX2_nameOf_164 : decode cX2_nameOf 164 = .ok (.bipush 101, 2) := dk_16 101 (dk_at dksX2_nameOf_6 22 rfl rfl)
theorem dX2_nameOf_166 : decode cX2_nameOf 166 = .ok (.invokestatic 160, 3) := dk_184 0 160 (dk_at dksX2_nameOf_7 0 rfl rfl)
theorem dX2_nameOf_169 : decode cX2_nameOf 169 = .ok (.lcmp, 1) := dk_148 (dk_at dksX2_nameOf_7 3 rfl rfl)
theorem dX2_nameOf_170 : decode cX2_nameOf 170 = .ok (.ifCond .ne 8, 3) := dk_154 0 8 (dk_at dksX2_nameOf_7 4 rfl rfl)
theorem dX2_nameOf_173 : decode cX2_nameOf 173 = .ok (.bipush 7, 2) := dk_16 7 (dk_at dksX2_nameOf_7 7 rfl rfl)
theorem dX2_nameOf_175 : decode cX2_nameOf 175 = .ok (.goto 4, 3) := dk_167 0 4 (dk_at dksX2_nameOf_7 9 rfl rfl)
theorem dX2_nameOf_178 : decode cX2_nameOf 178 = .ok (.iconst (-1), 1) := dk_2 (dk_at dksX2_nameOf_7 12 rfl rfl)
theorem dX2_nameOf_179 : decode cX2_nameOf 179 = .ok (.ireturn, 1) := dk_172 (dk_at dksX2_nameOf_7 13 rfl rfl)
abbrev cX2_opened : ByteArray := prog_19_method_38_code
def yX2_opened : MethodName := ⟨RX2, "opened", "(I)I"⟩
def dkwX2_opened_2 : List UInt8 := [172]
abbrev dktX2_opened_2 : List UInt8 := dkwX2_opened_2 ++ []
def dkwX2_opened_1 : List UInt8 := [180, 0, 29, 42, 180, 0, 164, 27, 79, 42, 89, 180, 0, 164, 4, 96, 181, 0, 164, 42, 182, 0, 184, 3]
abbrev dktX2_opened_1 : List UInt8 := dkwX2_opened_1 ++ dktX2_opened_2
def dkwX2_opened_0 : List UInt8 := [42, 180, 0, 174, 16, 8, 160, 0, 5, 6, 172, 42, 89, 180, 0, 174, 4, 96, 181, 0, 174, 42]
abbrev dktX2_opened_0 : List UInt8 := dkwX2_opened_0 ++ dktX2_opened_1
theorem dksX2_opened_0 : cX2_opened.data.toList.drop 0 = dktX2_opened_0 := by decide +kernel
theorem dksX2_opened_1 : cX2_opened.data.toList.drop 22 = dktX2_opened_1 := dk_seg dksX2_opened_0 22 rfl rfl
theorem dksX2_opened_2 : cX2_opened.data.toList.drop 46 = dktX2_opened_2 := dk_seg dksX2_opened_1 24 rfl rfl
theorem dX2_opened_0 : decode cX2_opened 0 = .ok (.aload_n 0, 1) := dk_42 (dk_at dksX2_opened_0 0 rfl rfl)
theorem dX2_opened_1 : decode cX2_opened 1 = .ok (.getfield 174, 3) := dk_180 0 174 (dk_at dksX2_opened_0 1 rfl rfl)
theorem dX2_opened_4 : decode cX2_opened 4 = .ok (.bipush 8, 2) := dk_16 8 (dk_at dksX2_opened_0 4 rfl rfl)
theorem dX2_opened_6 : decode cX2_opened 6 = .ok (.if_icmp .ne 5, 3) := dk_160 0 5 (dk_at dksX2_opened_0 6 rfl rfl)
theorem dX2_opened_9 : decode cX2_opened 9 = .ok (.iconst 3, 1) := dk_6 (dk_at dksX2_opened_0 9 rfl rfl)
theorem dX2_opened_10 : decode cX2_opened 10 = .ok (.ireturn, 1) := dk_172 (dk_at dksX2_opened_0 10 rfl rfl)
theorem dX2_opened_11 : decode cX2_opened 11 = .ok (.aload_n 0, 1) := dk_42 (dk_at dksX2_opened_0 11 rfl rfl)
theorem dX2_opened_12 : decode cX2_opened 12 = .ok (.dup, 1) := dk_89 (dk_at dksX2_opened_0 12 rfl rfl)
theorem dX2_opened_13 : decode cX2_opened 13 = .ok (.getfield 174, 3) := dk_180 0 174 (dk_at dksX2_opened_0 13 rfl rfl)
theorem dX2_opened_16 : decode cX2_opened 16 = .ok (.iconst 1, 1) := dk_4 (dk_at dksX2_opened_0 16 rfl rfl)
theorem dX2_opened_17 : decode cX2_opened 17 = .ok (.iadd, 1) := dk_96 (dk_at dksX2_opened_0 17 rfl rfl)
theorem dX2_opened_18 : decode cX2_opened 18 = .ok (.putfield 174, 3) := dk_181 0 174 (dk_at dksX2_opened_0 18 rfl rfl)
theorem dX2_opened_21 : decode cX2_opened 21 = .ok (.aload_n 0, 1) := dk_42 (dk_at dksX2_opened_0 21 rfl rfl)
theorem dX2_opened_22 : decode cX2_opened 22 = .ok (.getfield 29, 3) := dk_180 0 29 (dk_at dksX2_opened_1 0 rfl rfl)
theorem dX2_opened_25 : decode cX2_opened 25 = .ok (.aload_n 0, 1) := dk_42 (dk_at dksX2_opened_1 3 rfl rfl)
theorem dX2_opened_26 : decode cX2_opened 26 = .ok (.getfield 164, 3) := dk_180 0 164 (dk_at dksX2_opened_1 4 rfl rfl)
theorem dX2_opened_29 : decode cX2_opened 29 = .ok (.iload_n 1, 1) := dk_27 (dk_at dksX2_opened_1 7 rfl rfl)
theorem dX2_opened_30 : decode cX2_opened 30 = .ok (.iastore, 1) := dk_79 (dk_at dksX2_opened_1 8 rfl rfl)
theorem dX2_opened_31 : decode cX2_opened 31 = .ok (.aload_n 0, 1) := dk_42 (dk_at dksX2_opened_1 9 rfl rfl)
theorem dX2_opened_32 : decode cX2_opened 32 = .ok (.dup, 1) := dk_89 (dk_at dksX2_opened_1 10 rfl rfl)
theorem dX2_opened_33 : decode cX2_opened 33 = .ok (.getfield 164, 3) := dk_180 0 164 (dk_at dksX2_opened_1 11 rfl rfl)
theorem dX2_opened_36 : decode cX2_opened 36 = .ok (.iconst 1, 1) := dk_4 (dk_at dksX2_opened_1 14 rfl rfl)
theorem dX2_opened_37 : decode cX2_opened 37 = .ok (.iadd, 1) := dk_96 (dk_at dksX2_opened_1 15 rfl rfl)
theorem dX2_opened_38 : decode cX2_opened 38 = .ok (.putfield 164, 3) := dk_181 0 164 (dk_at dksX2_opened_1 16 rfl rfl)
theorem dX2_opened_41 : decode cX2_opened 41 = .ok (.aload_n 0, 1) := dk_42 (dk_at dksX2_opened_1 19 rfl rfl)
theorem dX2_opened_42 : decode cX2_opened 42 = .ok (.invokevirtual 184, 3) := dk_182 0 184 (dk_at dksX2_opened_1 20 rfl rfl)
theorem dX2_opened_45 : decode cX2_opened 45 = .ok (.iconst 0, 1) := dk_3 (dk_at dksX2_opened_1 23 rfl rfl)
theorem dX2_opened_46 : decode cX2_opened 46 = .ok (.ireturn, 1) := dk_172 (dk_at dksX2_opened_2 0 rfl rfl)
abbrev cX2_isAskAhead : ByteArray := prog_19_method_37_code
def yX2_isAskAhead : MethodName := ⟨RX2, "isAskAhead", "()Z"⟩
def dkwX2_isAskAhead_2 : List UInt8 := [172]
abbrev dktX2_isAskAhead_2 : List UInt8 := dkwX2_isAskAhead_2 ++ []
def dkwX2_isAskAhead_1 : List UInt8 := [46, 184, 0, 167, 4, 6, 184, 0, 65, 153, 0, 14, 42, 182, 0, 181, 154, 0, 7, 4, 167, 0, 4, 3]
abbrev dktX2_isAskAhead_1 : List UInt8 := dkwX2_isAskAhead_1 ++ dktX2_isAskAhead_2
def dkwX2_isAskAhead_0 : List UInt8 := [42, 180, 0, 177, 153, 0, 43, 42, 180, 0, 164, 153, 0, 25, 42, 180, 0, 29, 42, 180, 0, 164, 4, 100]
abbrev dktX2_isAskAhead_0 : List UInt8 := dkwX2_isAskAhead_0 ++ dktX2_isAskAhead_1
theorem dksX2_isAskAhead_0 : cX2_isAskAhead.data.toList.drop 0 = dktX2_isAskAhead_0 := by decide +kernel
theorem dksX2_isAskAhead_1 : cX2_isAskAhead.data.toList.drop 24 = dktX2_isAskAhead_1 := dk_seg dksX2_isAskAhead_0 24 rfl rfl
theorem dksX2_isAskAhead_2 : cX2_isAskAhead.data.toList.drop 48 = dktX2_isAskAhead_2 := dk_seg dksX2_isAskAhead_1 24 rfl rfl
theorem dX2_isAskAhead_0 : decode cX2_isAskAhead 0 = .ok (.aload_n 0, 1) := dk_42 (dk_at dksX2_isAskAhead_0 0 rfl rfl)
theorem dX2_isAskAhead_1 : decode cX2_isAskAhead 1 = .ok (.getfield 177, 3) := dk_180 0 177 (dk_at dksX2_isAskAhead_0 1 rfl rfl)
theorem dX2_isAskAhead_4 : decode cX2_isAskAhead 4 = .ok (.ifCond .eq 43, 3) := dk_153 0 43 (dk_at dksX2_isAskAhead_0 4 rfl rfl)
theorem dX2_isAskAhead_7 : decode cX2_isAskAhead 7 = .ok (.aload_n 0, 1) := dk_42 (dk_at dksX2_isAskAhead_0 7 rfl rfl)
theorem dX2_isAskAhead_8 : decode cX2_isAskAhead 8 = .ok (.getfield 164, 3) := dk_180 0 164 (dk_at dksX2_isAskAhead_0 8 rfl rfl)
theorem dX2_isAskAhead_11 : decode cX2_isAskAhead 11 = .ok (.ifCond .eq 25, 3) := dk_153 0 25 (dk_at dksX2_isAskAhead_0 11 rfl rfl)
theorem dX2_isAskAhead_14 : decode cX2_isAskAhead 14 = .ok (.aload_n 0, 1) := dk_42 (dk_at dksX2_isAskAhead_0 14 rfl rfl)
theorem dX2_isAskAhead_15 : decode cX2_isAskAhead 15 = .ok (.getfield 29, 3) := dk_180 0 29 (dk_at dksX2_isAskAhead_0 15 rfl rfl)
theorem dX2_isAskAhead_18 : decode cX2_isAskAhead 18 = .ok (.aload_n 0, 1) := dk_42 (dk_at dksX2_isAskAhead_0 18 rfl rfl)
theorem dX2_isAskAhead_19 : decode cX2_isAskAhead 19 = .ok (.getfield 164, 3) := dk_180 0 164 (dk_at dksX2_isAskAhead_0 19 rfl rfl)
theorem dX2_isAskAhead_22 : decode cX2_isAskAhead 22 = .ok (.iconst 1, 1) := dk_4 (dk_at dksX2_isAskAhead_0 22 rfl rfl)
theorem dX2_isAskAhead_23 : decode cX2_isAskAhead 23 = .ok (.isub, 1) := dk_100 (dk_at dksX2_isAskAhead_0 23 rfl rfl)
theorem dX2_isAskAhead_24 : decode cX2_isAskAhead 24 = .ok (.iaload, 1) := dk_46 (dk_at dksX2_isAskAhead_1 0 rfl rfl)
theorem dX2_isAskAhead_25 : decode cX2_isAskAhead 25 = .ok (.invokestatic 167, 3) := dk_184 0 167 (dk_at dksX2_isAskAhead_1 1 rfl rfl)
theorem dX2_isAskAhead_28 : decode cX2_isAskAhead 28 = .ok (.iconst 1, 1) := dk_4 (dk_at dksX2_isAskAhead_1 4 rfl rfl)
theorem dX2_isAskAhead_29 : decode cX2_isAskAhead 29 = .ok (.iconst 3, 1) := dk_6 (dk_at dksX2_isAskAhead_1 5 rfl rfl)
theorem dX2_isAskAhead_30 : decode cX2_isAskAhead 30 = .ok (.invokestatic 65, 3) := dk_184 0 65 (dk_at dksX2_isAskAhead_1 6 rfl rfl)
theorem dX2_isAskAhead_33 : decode cX2_isAskAhead 33 = .ok (.ifCond .eq 14, 3) := dk_153 0 14 (dk_at dksX2_isAskAhead_1 9 rfl rfl)
theorem dX2_isAskAhead_36 : decode cX2_isAskAhead 36 = .ok (.aload_n 0, 1) := dk_42 (dk_at dksX2_isAskAhead_1 12 rfl rfl)
theorem dX2_isAskAhead_37 : decode cX2_isAskAhead 37 = .ok (.invokevirtual 181, 3) := dk_182 0 181 (dk_at dksX2_isAskAhead_1 13 rfl rfl)
theorem dX2_isAskAhead_40 : decode cX2_isAskAhead 40 = .ok (.ifCond .ne 7, 3) := dk_154 0 7 (dk_at dksX2_isAskAhead_1 16 rfl rfl)
theorem dX2_isAskAhead_43 : decode cX2_isAskAhead 43 = .ok (.iconst 1, 1) := dk_4 (dk_at dksX2_isAskAhead_1 19 rfl rfl)
theorem dX2_isAskAhead_44 : decode cX2_isAskAhead 44 = .ok (.goto 4, 3) := dk_167 0 4 (dk_at dksX2_isAskAhead_1 20 rfl rfl)
theorem dX2_isAskAhead_47 : decode cX2_isAskAhead 47 = .ok (.iconst 0, 1) := dk_3 (dk_at dksX2_isAskAhead_1 23 rfl rfl)
theorem dX2_isAskAhead_48 : decode cX2_isAskAhead 48 = .ok (.ireturn, 1) := dk_172 (dk_at dksX2_isAskAhead_2 0 rfl rfl)
abbrev cX2_fault : ByteArray := prog_19_method_54_code
def yX2_fault : MethodName := ⟨RX2, "fault", "(I)I"⟩
def dkwX2_fault_1 : List UInt8 := [172]
abbrev dktX2_fault_1 : List UInt8 := dkwX2_fault_1 ++ []
def dkwX2_fault_0 : List UInt8 := [27, 154, 0, 10, 42, 180, 0, 22, 167, 0, 16, 27, 4, 160, 0, 10, 42, 180, 0, 26, 167, 0, 4, 2]
abbrev dktX2_fault_0 : List UInt8 := dkwX2_fault_0 ++ dktX2_fault_1
theorem dksX2_fault_0 : cX2_fault.data.toList.drop 0 = dktX2_fault_0 := by decide +kernel
theorem dksX2_fault_1 : cX2_fault.data.toList.drop 24 = dktX2_fault_1 := dk_seg dksX2_fault_0 24 rfl rfl
theorem dX2_fault_0 : decode cX2_fault 0 = .ok (.iload_n 1, 1) := dk_27 (dk_at dksX2_fault_0 0 rfl rfl)
theorem dX2_fault_1 : decode cX2_fault 1 = .ok (.ifCond .ne 10, 3) := dk_154 0 10 (dk_at dksX2_fault_0 1 rfl rfl)
theorem dX2_fault_4 : decode cX2_fault 4 = .ok (.aload_n 0, 1) := dk_42 (dk_at dksX2_fault_0 4 rfl rfl)
theorem dX2_fault_5 : decode cX2_fault 5 = .ok (.getfield 22, 3) := dk_180 0 22 (dk_at dksX2_fault_0 5 rfl rfl)
theorem dX2_fault_8 : decode cX2_fault 8 = .ok (.goto 16, 3) := dk_167 0 16 (dk_at dksX2_fault_0 8 rfl rfl)
theorem dX2_fault_11 : decode cX2_fault 11 = .ok (.iload_n 1, 1) := dk_27 (dk_at dksX2_fault_0 11 rfl rfl)
theorem dX2_fault_12 : decode cX2_fault 12 = .ok (.iconst 1, 1) := dk_4 (dk_at dksX2_fault_0 12 rfl rfl)
theorem dX2_fault_13 : decode cX2_fault 13 = .ok (.if_icmp .ne 10, 3) := dk_160 0 10 (dk_at dksX2_fault_0 13 rfl rfl)
theorem dX2_fault_16 : decode cX2_fault 16 = .ok (.aload_n 0, 1) := dk_42 (dk_at dksX2_fault_0 16 rfl rfl)
theorem dX2_fault_17 : decode cX2_fault 17 = .ok (.getfield 26, 3) := dk_180 0 26 (dk_at dksX2_fault_0 17 rfl rfl)
theorem dX2_fault_20 : decode cX2_fault 20 = .ok (.goto 4, 3) := dk_167 0 4 (dk_at dksX2_fault_0 20 rfl rfl)
theorem dX2_fault_23 : decode cX2_fault 23 = .ok (.iconst (-1), 1) := dk_2 (dk_at dksX2_fault_0 23 rfl rfl)
theorem dX2_fault_24 : decode cX2_fault 24 = .ok (.ireturn, 1) := dk_172 (dk_at dksX2_fault_1 0 rfl rfl)
abbrev cX2_by : ByteArray := prog_19_method_55_code
def yX2_by : MethodName := ⟨RX2, "by", "(I)Z"⟩
def dkwX2_by_1 : List UInt8 := [79, 4, 172]
abbrev dktX2_by_1 : List UInt8 := dkwX2_by_1 ++ []
def dkwX2_by_0 : List UInt8 := [27, 2, 42, 180, 0, 7, 4, 46, 4, 100, 184, 0, 65, 154, 0, 5, 3, 172, 42, 180, 0, 7, 5, 27]
abbrev dktX2_by_0 : List UInt8 := dkwX2_by_0 ++ dktX2_by_1
theorem dksX2_by_0 : cX2_by.data.toList.drop 0 = dktX2_by_0 := by decide +kernel
theorem dksX2_by_1 : cX2_by.data.toList.drop 24 = dktX2_by_1 := dk_seg dksX2_by_0 24 rfl rfl
theorem dX2_by_0 : decode cX2_by 0 = .ok (.iload_n 1, 1) := dk_27 (dk_at dksX2_by_0 0 rfl rfl)
theorem dX2_by_1 : decode cX2_by 1 = .ok (.iconst (-1), 1) := dk_2 (dk_at dksX2_by_0 1 rfl rfl)
theorem dX2_by_2 : decode cX2_by 2 = .ok (.aload_n 0, 1) := dk_42 (dk_at dksX2_by_0 2 rfl rfl)
theorem dX2_by_3 : decode cX2_by 3 = .ok (.getfield 7, 3) := dk_180 0 7 (dk_at dksX2_by_0 3 rfl rfl)
theorem dX2_by_6 : decode cX2_by 6 = .ok (.iconst 1, 1) := dk_4 (dk_at dksX2_by_0 6 rfl rfl)
theorem dX2_by_7 : decode cX2_by 7 = .ok (.iaload, 1) := dk_46 (dk_at dksX2_by_0 7 rfl rfl)
theorem dX2_by_8 : decode cX2_by 8 = .ok (.iconst 1, 1) := dk_4 (dk_at dksX2_by_0 8 rfl rfl)
theorem dX2_by_9 : decode cX2_by 9 = .ok (.isub, 1) := dk_100 (dk_at dksX2_by_0 9 rfl rfl)
theorem dX2_by_10 : decode cX2_by 10 = .ok (.invokestatic 65, 3) := dk_184 0 65 (dk_at dksX2_by_0 10 rfl rfl)
theorem dX2_by_13 : decode cX2_by 13 = .ok (.ifCond .ne 5, 3) := dk_154 0 5 (dk_at dksX2_by_0 13 rfl rfl)
theorem dX2_by_16 : decode cX2_by 16 = .ok (.iconst 0, 1) := dk_3 (dk_at dksX2_by_0 16 rfl rfl)
theorem dX2_by_17 : decode cX2_by 17 = .ok (.ireturn, 1) := dk_172 (dk_at dksX2_by_0 17 rfl rfl)
theorem dX2_by_18 : decode cX2_by 18 = .ok (.aload_n 0, 1) := dk_42 (dk_at dksX2_by_0 18 rfl rfl)
theorem dX2_by_19 : decode cX2_by 19 = .ok (.getfield 7, 3) := dk_180 0 7 (dk_at dksX2_by_0 19 rfl rfl)
theorem dX2_by_22 : decode cX2_by 22 = .ok (.iconst 2, 1) := dk_5 (dk_at dksX2_by_0 22 rfl rfl)
theorem dX2_by_23 : decode cX2_by 23 = .ok (.iload_n 1, 1) := dk_27 (dk_at dksX2_by_0 23 rfl rfl)
theorem dX2_by_24 : decode cX2_by 24 = .ok (.iastore, 1) := dk_79 (dk_at dksX2_by_1 0 rfl rfl)
theorem dX2_by_25 : decode cX2_by 25 = .ok (.iconst 1, 1) := dk_4 (dk_at dksX2_by_1 1 rfl rfl)
theorem dX2_by_26 : decode cX2_by 26 = .ok (.ireturn, 1) := dk_172 (dk_at dksX2_by_1 2 rfl rfl)
abbrev cX2_undo : ByteArray := prog_19_method_73_code
def yX2_undo : MethodName := ⟨RX2, "undo", "()I"⟩
def dkwX2_undo_7 : List UInt8 := [96, 28, 96, 46, 79, 132, 2, 1, 167, 255, 226, 42, 180, 0, 7, 6, 46, 172]
abbrev dktX2_undo_7 : List UInt8 := dkwX2_undo_7 ++ []
def dkwX2_undo_6 : List UInt8 := [3, 61, 28, 16, 40, 162, 0, 30, 42, 180, 0, 7, 17, 8, 220, 28, 96, 42, 180, 0, 7, 27, 16, 32]
abbrev dktX2_undo_6 : List UInt8 := dkwX2_undo_6 ++ dktX2_undo_7
def dkwX2_undo_5 : List UInt8 := [7, 96, 7, 28, 104, 96, 29, 96, 46, 182, 0, 84, 132, 3, 1, 167, 255, 218, 132, 2, 1, 167, 255, 185]
abbrev dktX2_undo_5 : List UInt8 := dkwX2_undo_5 ++ dktX2_undo_6
def dkwX2_undo_4 : List UInt8 := [62, 29, 7, 162, 0, 39, 28, 42, 180, 0, 7, 27, 46, 162, 0, 29, 42, 28, 29, 42, 180, 0, 7, 27]
abbrev dktX2_undo_4 : List UInt8 := dkwX2_undo_4 ++ dktX2_undo_5
def dkwX2_undo_3 : List UInt8 := [180, 0, 7, 3, 46, 162, 0, 67, 28, 42, 180, 0, 7, 27, 46, 161, 0, 8, 42, 28, 182, 0, 88, 3]
abbrev dktX2_undo_3 : List UInt8 := dkwX2_undo_3 ++ dktX2_undo_4
def dkwX2_undo_2 : List UInt8 := [28, 96, 42, 180, 0, 7, 27, 4, 96, 28, 96, 46, 79, 132, 2, 1, 167, 255, 229, 3, 61, 28, 42]
abbrev dktX2_undo_2 : List UInt8 := dkwX2_undo_2 ++ dktX2_undo_3
def dkwX2_undo_1 : List UInt8 := [16, 72, 42, 180, 0, 7, 6, 46, 104, 96, 60, 3, 61, 28, 6, 162, 0, 28, 42, 180, 0, 7, 16, 8]
abbrev dktX2_undo_1 : List UInt8 := dkwX2_undo_1 ++ dktX2_undo_2
def dkwX2_undo_0 : List UInt8 := [42, 180, 0, 7, 6, 46, 154, 0, 5, 2, 172, 42, 180, 0, 7, 6, 92, 46, 4, 100, 79, 16, 108]
abbrev dktX2_undo_0 : List UInt8 := dkwX2_undo_0 ++ dktX2_undo_1
theorem dksX2_undo_0 : cX2_undo.data.toList.drop 0 = dktX2_undo_0 := by decide +kernel
theorem dksX2_undo_1 : cX2_undo.data.toList.drop 23 = dktX2_undo_1 := dk_seg dksX2_undo_0 23 rfl rfl
theorem dksX2_undo_2 : cX2_undo.data.toList.drop 47 = dktX2_undo_2 := dk_seg dksX2_undo_1 24 rfl rfl
theorem dksX2_undo_3 : cX2_undo.data.toList.drop 70 = dktX2_undo_3 := dk_seg dksX2_undo_2 23 rfl rfl
theorem dksX2_undo_4 : cX2_undo.data.toList.drop 94 = dktX2_undo_4 := dk_seg dksX2_undo_3 24 rfl rfl
theorem dksX2_undo_5 : cX2_undo.data.toList.drop 118 = dktX2_undo_5 := dk_seg dksX2_undo_4 24 rfl rfl
theorem dksX2_undo_6 : cX2_undo.data.toList.drop 142 = dktX2_undo_6 := dk_seg dksX2_undo_5 24 rfl rfl
theorem dksX2_undo_7 : cX2_undo.data.toList.drop 166 = dktX2_undo_7 := dk_seg dksX2_undo_6 24 rfl rfl
theorem dX2_undo_0 : decode cX2_undo 0 = .ok (.aload_n 0, 1) := dk_42 (dk_at dksX2_undo_0 0 rfl rfl)
theorem dX2_undo_1 : decode cX2_undo 1 = .ok (.getfield 7, 3) := dk_180 0 7 (dk_at dksX2_undo_0 1 rfl rfl)
theorem dX2_undo_4 : decode cX2_undo 4 = .ok (.iconst 3, 1) := dk_6 (dk_at dksX2_undo_0 4 rfl rfl)
theorem dX2_undo_5 : decode cX2_undo 5 = .ok (.iaload, 1) := dk_46 (dk_at dksX2_undo_0 5 rfl rfl)
theorem dX2_undo_6 : decode cX2_undo 6 = .ok (.ifCond .ne 5, 3) := dk_154 0 5 (dk_at dksX2_undo_0 6 rfl rfl)
theorem dX2_undo_9 : decode cX2_undo 9 = .ok (.iconst (-1), 1) := dk_2 (dk_at dksX2_undo_0 9 rfl rfl)
theorem dX2_undo_10 : decode cX2_undo 10 = .ok (.ireturn, 1) := dk_172 (dk_at dksX2_undo_0 10 rfl rfl)
theorem dX2_undo_11 : decode cX2_undo 11 = .ok (.aload_n 0, 1) := dk_42 (dk_at dksX2_undo_0 11 rfl rfl)
theorem dX2_undo_12 : decode cX2_undo 12 = .ok (.getfield 7, 3) := dk_180 0 7 (dk_at dksX2_undo_0 12 rfl rfl)
theorem dX2_undo_15 : decode cX2_undo 15 = .ok (.iconst 3, 1) := dk_6 (dk_at dksX2_undo_0 15 rfl rfl)
theorem dX2_undo_16 : decode cX2_undo 16 = .ok (.dup2, 1) := dk_92 (dk_at dksX2_undo_0 16 rfl rfl)
theorem dX2_undo_17 : decode cX2_undo 17 = .ok (.iaload, 1) := dk_46 (dk_at dksX2_undo_0 17 rfl rfl)
theorem dX2_undo_18 : decode cX2_undo 18 = .ok (.iconst 1, 1) := dk_4 (dk_at dksX2_undo_0 18 rfl rfl)
theorem dX2_undo_19 : decode cX2_undo 19 = .ok (.isub, 1) := dk_100 (dk_at dksX2_undo_0 19 rfl rfl)
theorem dX2_undo_20 : decode cX2_undo 20 = .ok (.iastore, 1) := dk_79 (dk_at dksX2_undo_0 20 rfl rfl)
theorem dX2_undo_21 : decode cX2_undo 21 = .ok (.bipush 108, 2) := dk_16 108 (dk_at dksX2_undo_0 21 rfl rfl)
theorem dX2_undo_23 : decode cX2_undo 23 = .ok (.bipush 72, 2) := dk_16 72 (dk_at dksX2_undo_1 0 rfl rfl)
theorem dX2_undo_25 : decode cX2_undo 25 = .ok (.aload_n 0, 1) := dk_42 (dk_at dksX2_undo_1 2 rfl rfl)
theorem dX2_undo_26 : decode cX2_undo 26 = .ok (.getfield 7, 3) := dk_180 0 7 (dk_at dksX2_undo_1 3 rfl rfl)
theorem dX2_undo_29 : decode cX2_undo 29 = .ok (.iconst 3, 1) := dk_6 (dk_at dksX2_undo_1 6 rfl rfl)
theorem dX2_undo_30 : decode cX2_undo 30 = .ok (.iaload, 1) := dk_46 (dk_at dksX2_undo_1 7 rfl rfl)
theorem dX2_undo_31 : decode cX2_undo 31 = .ok (.imul, 1) := dk_104 (dk_at dksX2_undo_1 8 rfl rfl)
theorem dX2_undo_32 : decode cX2_undo 32 = .ok (.iadd, 1) := dk_96 (dk_at dksX2_undo_1 9 rfl rfl)
theorem dX2_undo_33 : decode cX2_undo 33 = .ok (.istore_n 1, 1) := dk_60 (dk_at dksX2_undo_1 10 rfl rfl)
theorem dX2_undo_34 : decode cX2_undo 34 = .ok (.iconst 0, 1) := dk_3 (dk_at dksX2_undo_1 11 rfl rfl)
theorem dX2_undo_35 : decode cX2_undo 35 = .ok (.istore_n 2, 1) := dk_61 (dk_at dksX2_undo_1 12 rfl rfl)
theorem dX2_undo_36 : decode cX2_undo 36 = .ok (.iload_n 2, 1) := dk_28 (dk_at dksX2_undo_1 13 rfl rfl)
theorem dX2_undo_37 : decode cX2_undo 37 = .ok (.iconst 3, 1) := dk_6 (dk_at dksX2_undo_1 14 rfl rfl)
theorem dX2_undo_38 : decode cX2_undo 38 = .ok (.if_icmp .ge 28, 3) := dk_162 0 28 (dk_at dksX2_undo_1 15 rfl rfl)
theorem dX2_undo_41 : decode cX2_undo 41 = .ok (.aload_n 0, 1) := dk_42 (dk_at dksX2_undo_1 18 rfl rfl)
theorem dX2_undo_42 : decode cX2_undo 42 = .ok (.getfield 7, 3) := dk_180 0 7 (dk_at dksX2_undo_1 19 rfl rfl)
theorem dX2_undo_45 : decode cX2_undo 45 = .ok (.bipush 8, 2) := dk_16 8 (dk_at dksX2_undo_1 22 rfl rfl)
theorem dX2_undo_47 : decode cX2_undo 47 = .ok (.iload_n 2, 1) := dk_28 (dk_at dksX2_undo_2 0 rfl rfl)
theorem dX2_undo_48 : decode cX2_undo 48 = .ok (.iadd, 1) := dk_96 (dk_at dksX2_undo_2 1 rfl rfl)
theorem dX2_undo_49 : decode cX2_undo 49 = .ok (.aload_n 0, 1) := dk_42 (dk_at dksX2_undo_2 2 rfl rfl)
theorem dX2_undo_50 : decode cX2_undo 50 = .ok (.getfield 7, 3) := dk_180 0 7 (dk_at dksX2_undo_2 3 rfl rfl)
theorem dX2_undo_53 : decode cX2_undo 53 = .ok (.iload_n 1, 1) := dk_27 (dk_at dksX2_undo_2 6 rfl rfl)
theorem dX2_undo_54 : decode cX2_undo 54 = .ok (.iconst 1, 1) := dk_4 (dk_at dksX2_undo_2 7 rfl rfl)
theorem dX2_undo_55 : decode cX2_undo 55 = .ok (.iadd, 1) := dk_96 (dk_at dksX2_undo_2 8 rfl rfl)
theorem dX2_undo_56 : decode cX2_undo 56 = .ok (.iload_n 2, 1) := dk_28 (dk_at dksX2_undo_2 9 rfl rfl)
theorem dX2_undo_57 : decode cX2_undo 57 = .ok (.iadd, 1) := dk_96 (dk_at dksX2_undo_2 10 rfl rfl)
theorem dX2_undo_58 : decode cX2_undo 58 = .ok (.iaload, 1) := dk_46 (dk_at dksX2_undo_2 11 rfl rfl)
theorem dX2_undo_59 : decode cX2_undo 59 = .ok (.iastore, 1) := dk_79 (dk_at dksX2_undo_2 12 rfl rfl)
theorem dX2_undo_60 : decode cX2_undo 60 = .ok (.iinc 2 1, 3) := dk_132 2 1 (dk_at dksX2_undo_2 13 rfl rfl)
theorem dX2_undo_63 : decode cX2_undo 63 = .ok (.goto (-27), 3) := dk_167 255 229 (dk_at dksX2_undo_2 16 rfl rfl)
theorem dX2_undo_66 : decode cX2_undo 66 = .ok (.iconst 0, 1) := dk_3 (dk_at dksX2_undo_2 19 rfl rfl)
theorem dX2_undo_67 : decode cX2_undo 67 = .ok (.istore_n 2, 1) := dk_61 (dk_at dksX2_undo_2 20 rfl rfl)
theorem dX2_undo_68 : decode cX2_undo 68 = .ok (.iload_n 2, 1) := dk_28 (dk_at dksX2_undo_2 21 rfl rfl)
theorem dX2_undo_69 : decode cX2_undo 69 = .ok (.aload_n 0, 1) := dk_42 (dk_at dksX2_undo_2 22 rfl rfl)
theorem dX2_undo_70 : decode cX2_undo 70 = .ok (.getfield 7, 3) := dk_180 0 7 (dk_at dksX2_undo_3 0 rfl rfl)
theorem dX2_undo_73 : decode cX2_undo 73 = .ok (.iconst 0, 1) := dk_3 (dk_at dksX2_undo_3 3 rfl rfl)
theorem dX2_undo_74 : decode cX2_undo 74 = .ok (.iaload, 1) := dk_46 (dk_at dksX2_undo_3 4 rfl rfl)
theorem dX2_undo_75 : decode cX2_undo 75 = .ok (.if_icmp .ge 67, 3) := dk_162 0 67 (dk_at dksX2_undo_3 5 rfl rfl)
theorem dX2_undo_78 : decode cX2_undo 78 = .ok (.iload_n 2, 1) := dk_28 (dk_at dksX2_undo_3 8 rfl rfl)
theorem dX2_undo_79 : decode cX2_undo 79 = .ok (.aload_n 0, 1) := dk_42 (dk_at dksX2_undo_3 9 rfl rfl)
theorem dX2_undo_80 : decode cX2_undo 80 = .ok (.getfield 7, 3) := dk_180 0 7 (dk_at dksX2_undo_3 10 rfl rfl)
theorem dX2_undo_83 : decode cX2_undo 83 = .ok (.iload_n 1, 1) := dk_27 (dk_at dksX2_undo_3 13 rfl rfl)
theorem dX2_undo_84 : decode cX2_undo 84 = .ok (.iaload, 1) := dk_46 (dk_at dksX2_undo_3 14 rfl rfl)
theorem dX2_undo_85 : decode cX2_undo 85 = .ok (.if_icmp .lt 8, 3) := dk_161 0 8 (dk_at dksX2_undo_3 15 rfl rfl)
theorem dX2_undo_88 : decode cX2_undo 88 = .ok (.aload_n 0, 1) := dk_42 (dk_at dksX2_undo_3 18 rfl rfl)
theorem dX2_undo_89 : decode cX2_undo 89 = .ok (.iload_n 2, 1) := dk_28 (dk_at dksX2_undo_3 19 rfl rfl)
theorem dX2_undo_90 : decode cX2_undo 90 = .ok (.invokevirtual 88, 3) := dk_182 0 88 (dk_at dksX2_undo_3 20 rfl rfl)
theorem dX2_undo_93 : decode cX2_undo 93 = .ok (.iconst 0, 1) := dk_3 (dk_at dksX2_undo_3 23 rfl rfl)
theorem dX2_undo_94 : decode cX2_undo 94 = .ok (.istore_n 3, 1) := dk_62 (dk_at dksX2_undo_4 0 rfl rfl)
theorem dX2_undo_95 : decode cX2_undo 95 = .ok (.iload_n 3, 1) := dk_29 (dk_at dksX2_undo_4 1 rfl rfl)
theorem dX2_undo_96 : decode cX2_undo 96 = .ok (.iconst 4, 1) := dk_7 (dk_at dksX2_undo_4 2 rfl rfl)
theorem dX2_undo_97 : decode cX2_undo 97 = .ok (.if_icmp .ge 39, 3) := dk_162 0 39 (dk_at dksX2_undo_4 3 rfl rfl)
theorem dX2_undo_100 : decode cX2_undo 100 = .ok (.iload_n 2, 1) := dk_28 (dk_at dksX2_undo_4 6 rfl rfl)
theorem dX2_undo_101 : decode cX2_undo 101 = .ok (.aload_n 0, 1) := dk_42 (dk_at dksX2_undo_4 7 rfl rfl)
theorem dX2_undo_102 : decode cX2_undo 102 = .ok (.getfield 7, 3) := dk_180 0 7 (dk_at dksX2_undo_4 8 rfl rfl)
theorem dX2_undo_105 : decode cX2_undo 105 = .ok (.iload_n 1, 1) := dk_27 (dk_at dksX2_undo_4 11 rfl rfl)
theorem dX2_undo_106 : decode cX2_undo 106 = .ok (.iaload, 1) := dk_46 (dk_at dksX2_undo_4 12 rfl rfl)
theorem dX2_undo_107 : decode cX2_undo 107 = .ok (.if_icmp .ge 29, 3) := dk_162 0 29 (dk_at dksX2_undo_4 13 rfl rfl)
theorem dX2_undo_110 : decode cX2_undo 110 = .ok (.aload_n 0, 1) := dk_42 (dk_at dksX2_undo_4 16 rfl rfl)
theorem dX2_undo_111 : decode cX2_undo 111 = .ok (.iload_n 2, 1) := dk_28 (dk_at dksX2_undo_4 17 rfl rfl)
theorem dX2_undo_112 : decode cX2_undo 112 = .ok (.iload_n 3, 1) := dk_29 (dk_at dksX2_undo_4 18 rfl rfl)
theorem dX2_undo_113 : decode cX2_undo 113 = .ok (.aload_n 0, 1) := dk_42 (dk_at dksX2_undo_4 19 rfl rfl)
theorem dX2_undo_114 : decode cX2_undo 114 = .ok (.getfield 7, 3) := dk_180 0 7 (dk_at dksX2_undo_4 20 rfl rfl)
theorem dX2_undo_117 : decode cX2_undo 117 = .ok (.iload_n 1, 1) := dk_27 (dk_at dksX2_undo_4 23 rfl rfl)
theorem dX2_undo_118 : decode cX2_undo 118 = .ok (.iconst 4, 1) := dk_7 (dk_at dksX2_undo_5 0 rfl rfl)
theorem dX2_undo_119 : decode cX2_undo 119 = .ok (.iadd, 1) := dk_96 (dk_at dksX2_undo_5 1 rfl rfl)
theorem dX2_undo_120 : decode cX2_undo 120 = .ok (.iconst 4, 1) := dk_7 (dk_at dksX2_undo_5 2 rfl rfl)
theorem dX2_undo_121 : decode cX2_undo 121 = .ok (.iload_n 2, 1) := dk_28 (dk_at dksX2_undo_5 3 rfl rfl)
theorem dX2_undo_122 : decode cX2_undo 122 = .ok (.imul, 1) := dk_104 (dk_at dksX2_undo_5 4 rfl rfl)
theorem dX2_undo_123 : decode cX2_undo 123 = .ok (.iadd, 1) := dk_96 (dk_at dksX2_undo_5 5 rfl rfl)
theorem dX2_undo_124 : decode cX2_undo 124 = .ok (.iload_n 3, 1) := dk_29 (dk_at dksX2_undo_5 6 rfl rfl)
theorem dX2_undo_125 : decode cX2_undo 125 = .ok (.iadd, 1) := dk_96 (dk_at dksX2_undo_5 7 rfl rfl)
theorem dX2_undo_126 : decode cX2_undo 126 = .ok (.iaload, 1) := dk_46 (dk_at dksX2_undo_5 8 rfl rfl)
theorem dX2_undo_127 : decode cX2_undo 127 = .ok (.invokevirtual 84, 3) := dk_182 0 84 (dk_at dksX2_undo_5 9 rfl rfl)
theorem dX2_undo_130 : decode cX2_undo 130 = .ok (.iinc 3 1, 3) := dk_132 3 1 (dk_at dksX2_undo_5 12 rfl rfl)
theorem dX2_undo_133 : decode cX2_undo 133 = .ok (.goto (-38), 3) := dk_167 255 218 (dk_at dksX2_undo_5 15 rfl rfl)
theorem dX2_undo_136 : decode cX2_undo 136 = .ok (.iinc 2 1, 3) := dk_132 2 1 (dk_at dksX2_undo_5 18 rfl rfl)
theorem dX2_undo_139 : decode cX2_undo 139 = .ok (.goto (-71), 3) := dk_167 255 185 (dk_at dksX2_undo_5 21 rfl rfl)
theorem dX2_undo_142 : decode cX2_undo 142 = .ok (.iconst 0, 1) := dk_3 (dk_at dksX2_undo_6 0 rfl rfl)
theorem dX2_undo_143 : decode cX2_undo 143 = .ok (.istore_n 2, 1) := dk_61 (dk_at dksX2_undo_6 1 rfl rfl)
theorem dX2_undo_144 : decode cX2_undo 144 = .ok (.iload_n 2, 1) := dk_28 (dk_at dksX2_undo_6 2 rfl rfl)
theorem dX2_undo_145 : decode cX2_undo 145 = .ok (.bipush 40, 2) := dk_16 40 (dk_at dksX2_undo_6 3 rfl rfl)
theorem dX2_undo_147 : decode cX2_undo 147 = .ok (.if_icmp .ge 30, 3) := dk_162 0 30 (dk_at dksX2_undo_6 5 rfl rfl)
theorem dX2_undo_150 : decode cX2_undo 150 = .ok (.aload_n 0, 1) := dk_42 (dk_at dksX2_undo_6 8 rfl rfl)
theorem dX2_undo_151 : decode cX2_undo 151 = .ok (.getfield 7, 3) := dk_180 0 7 (dk_at dksX2_undo_6 9 rfl rfl)
theorem dX2_undo_154 : decode cX2_undo 154 = .ok (.sipush 2268, 3) := dk_17 8 220 (dk_at dksX2_undo_6 12 rfl rfl)
theorem dX2_undo_157 : decode cX2_undo 157 = .ok (.iload_n 2, 1) := dk_28 (dk_at dksX2_undo_6 15 rfl rfl)
theorem dX2_undo_158 : decode cX2_undo 158 = .ok (.iadd, 1) := dk_96 (dk_at dksX2_undo_6 16 rfl rfl)
theorem dX2_undo_159 : decode cX2_undo 159 = .ok (.aload_n 0, 1) := dk_42 (dk_at dksX2_undo_6 17 rfl rfl)
theorem dX2_undo_160 : decode cX2_undo 160 = .ok (.getfield 7, 3) := dk_180 0 7 (dk_at dksX2_undo_6 18 rfl rfl)
theorem dX2_undo_163 : decode cX2_undo 163 = .ok (.iload_n 1, 1) := dk_27 (dk_at dksX2_undo_6 21 rfl rfl)
theorem dX2_undo_164 : decode cX2_undo 164 = .ok (.bipush 32, 2) := dk_16 32 (dk_at dksX2_undo_6 22 rfl rfl)
theorem dX2_undo_166 : decode cX2_undo 166 = .ok (.iadd, 1) := dk_96 (dk_at dksX2_undo_7 0 rfl rfl)
theorem dX2_undo_167 : decode cX2_undo 167 = .ok (.iload_n 2, 1) := dk_28 (dk_at dksX2_undo_7 1 rfl rfl)
theorem dX2_undo_168 : decode cX2_undo 168 = .ok (.iadd, 1) := dk_96 (dk_at dksX2_undo_7 2 rfl rfl)
theorem dX2_undo_169 : decode cX2_undo 169 = .ok (.iaload, 1) := dk_46 (dk_at dksX2_undo_7 3 rfl rfl)
theorem dX2_undo_170 : decode cX2_undo 170 = .ok (.iastore, 1) := dk_79 (dk_at dksX2_undo_7 4 rfl rfl)
theorem dX2_undo_171 : decode cX2_undo 171 = .ok (.iinc 2 1, 3) := dk_132 2 1 (dk_at dksX2_undo_7 5 rfl rfl)
theorem dX2_undo_174 : decode cX2_undo 174 = .ok (.goto (-30), 3) := dk_167 255 226 (dk_at dksX2_undo_7 8 rfl rfl)
theorem dX2_undo_177 : decode cX2_undo 177 = .ok (.aload_n 0, 1) := dk_42 (dk_at dksX2_undo_7 11 rfl rfl)
theorem dX2_undo_178 : decode cX2_undo 178 = .ok (.getfield 7, 3) := dk_180 0 7 (dk_at dksX2_undo_7 12 rfl rfl)
theorem dX2_undo_181 : decode cX2_undo 181 = .ok (.iconst 3, 1) := dk_6 (dk_at dksX2_undo_7 15 rfl rfl)
theorem dX2_undo_182 : decode cX2_undo 182 = .ok (.iaload, 1) := dk_46 (dk_at dksX2_undo_7 16 rfl rfl)
theorem dX2_undo_183 : decode cX2_undo 183 = .ok (.ireturn, 1) := dk_172 (dk_at dksX2_undo_7 17 rfl rfl)
abbrev cX2_knock : ByteArray := prog_19_method_76_code
def yX2_knock : MethodName := ⟨RX2, "knock", "(I)I"⟩
def dkwX2_knock_0 : List UInt8 := [42, 27, 182, 0, 77, 154, 0, 5, 2, 172, 42, 182, 1, 79, 42, 27, 182, 1, 82, 172]
abbrev dktX2_knock_0 : List UInt8 := dkwX2_knock_0 ++ []
theorem dksX2_knock_0 : cX2_knock.data.toList.drop 0 = dktX2_knock_0 := by decide +kernel
theorem dX2_knock_0 : decode cX2_knock 0 = .ok (.aload_n 0, 1) := dk_42 (dk_at dksX2_knock_0 0 rfl rfl)
theorem dX2_knock_1 : decode cX2_knock 1 = .ok (.iload_n 1, 1) := dk_27 (dk_at dksX2_knock_0 1 rfl rfl)
theorem dX2_knock_2 : decode cX2_knock 2 = .ok (.invokevirtual 77, 3) := dk_182 0 77 (dk_at dksX2_knock_0 2 rfl rfl)
theorem dX2_knock_5 : decode cX2_knock 5 = .ok (.ifCond .ne 5, 3) := dk_154 0 5 (dk_at dksX2_knock_0 5 rfl rfl)
theorem dX2_knock_8 : decode cX2_knock 8 = .ok (.iconst (-1), 1) := dk_2 (dk_at dksX2_knock_0 8 rfl rfl)
theorem dX2_knock_9 : decode cX2_knock 9 = .ok (.ireturn, 1) := dk_172 (dk_at dksX2_knock_0 9 rfl rfl)
theorem dX2_knock_10 : decode cX2_knock 10 = .ok (.aload_n 0, 1) := dk_42 (dk_at dksX2_knock_0 10 rfl rfl)
theorem dX2_knock_11 : decode cX2_knock 11 = .ok (.invokevirtual 335, 3) := dk_182 1 79 (dk_at dksX2_knock_0 11 rfl rfl)
theorem dX2_knock_14 : decode cX2_knock 14 = .ok (.aload_n 0, 1) := dk_42 (dk_at dksX2_knock_0 14 rfl rfl)
theorem dX2_knock_15 : decode cX2_knock 15 = .ok (.iload_n 1, 1) := dk_27 (dk_at dksX2_knock_0 15 rfl rfl)
theorem dX2_knock_16 : decode cX2_knock 16 = .ok (.invokevirtual 338, 3) := dk_182 1 82 (dk_at dksX2_knock_0 16 rfl rfl)
theorem dX2_knock_19 : decode cX2_knock 19 = .ok (.ireturn, 1) := dk_172 (dk_at dksX2_knock_0 19 rfl rfl)
abbrev cX2_isHere : ByteArray := prog_19_method_10_code
def yX2_isHere : MethodName := ⟨RX2, "isHere", "(I)Z"⟩
def dkwX2_isHere_0 : List UInt8 := [42, 27, 182, 0, 69, 153, 0, 16, 42, 27, 6, 182, 0, 73, 154, 0, 7, 4, 167, 0, 4, 3, 172]
abbrev dktX2_isHere_0 : List UInt8 := dkwX2_isHere_0 ++ []
theorem dksX2_isHere_0 : cX2_isHere.data.toList.drop 0 = dktX2_isHere_0 := by decide +kernel
theorem dX2_isHere_0 : decode cX2_isHere 0 = .ok (.aload_n 0, 1) := dk_42 (dk_at dksX2_isHere_0 0 rfl rfl)
theorem dX2_isHere_1 : decode cX2_isHere 1 = .ok (.iload_n 1, 1) := dk_27 (dk_at dksX2_isHere_0 1 rfl rfl)
theorem dX2_isHere_2 : decode cX2_isHere 2 = .ok (.invokevirtual 69, 3) := dk_182 0 69 (dk_at dksX2_isHere_0 2 rfl rfl)
theorem dX2_isHere_5 : decode cX2_isHere 5 = .ok (.ifCond .eq 16, 3) := dk_153 0 16 (dk_at dksX2_isHere_0 5 rfl rfl)
theorem dX2_isHere_8 : decode cX2_isHere 8 = .ok (.aload_n 0, 1) := dk_42 (dk_at dksX2_isHere_0 8 rfl rfl)
theorem dX2_isHere_9 : decode cX2_isHere 9 = .ok (.iload_n 1, 1) := dk_27 (dk_at dksX2_isHere_0 9 rfl rfl)
theorem dX2_isHere_10 : decode cX2_isHere 10 = .ok (.iconst 3, 1) := dk_6 (dk_at dksX2_isHere_0 10 rfl rfl)
theorem dX2_isHere_11 : decode cX2_isHere 11 = .ok (.invokevirtual 73, 3) := dk_182 0 73 (dk_at dksX2_isHere_0 11 rfl rfl)
theorem dX2_isHere_14 : decode cX2_isHere 14 = .ok (.ifCond .ne 7, 3) := dk_154 0 7 (dk_at dksX2_isHere_0 14 rfl rfl)
theorem dX2_isHere_17 : decode cX2_isHere 17 = .ok (.iconst 1, 1) := dk_4 (dk_at dksX2_isHere_0 17 rfl rfl)
theorem dX2_isHere_18 : decode cX2_isHere 18 = .ok (.goto 4, 3) := dk_167 0 4 (dk_at dksX2_isHere_0 18 rfl rfl)
theorem dX2_isHere_21 : decode cX2_isHere 21 = .ok (.iconst 0, 1) := dk_3 (dk_at dksX2_isHere_0 21 rfl rfl)
theorem dX2_isHere_22 : decode cX2_isHere 22 = .ok (.ireturn, 1) := dk_172 (dk_at dksX2_isHere_0 22 rfl rfl)
abbrev cX2_isHouse : ByteArray := prog_19_method_7_code
def yX2_isHouse : MethodName := ⟨RX2, "isHouse", "(I)Z"⟩
def dkwX2_isHouse_0 : List UInt8 := [27, 3, 42, 180, 0, 7, 3, 46, 4, 100, 184, 0, 65, 172]
abbrev dktX2_isHouse_0 : List UInt8 := dkwX2_isHouse_0 ++ []
theorem dksX2_isHouse_0 : cX2_isHouse.data.toList.drop 0 = dktX2_isHouse_0 := by decide +kernel
theorem dX2_isHouse_0 : decode cX2_isHouse 0 = .ok (.iload_n 1, 1) := dk_27 (dk_at dksX2_isHouse_0 0 rfl rfl)
theorem dX2_isHouse_1 : decode cX2_isHouse 1 = .ok (.iconst 0, 1) := dk_3 (dk_at dksX2_isHouse_0 1 rfl rfl)
theorem dX2_isHouse_2 : decode cX2_isHouse 2 = .ok (.aload_n 0, 1) := dk_42 (dk_at dksX2_isHouse_0 2 rfl rfl)
theorem dX2_isHouse_3 : decode cX2_isHouse 3 = .ok (.getfield 7, 3) := dk_180 0 7 (dk_at dksX2_isHouse_0 3 rfl rfl)
theorem dX2_isHouse_6 : decode cX2_isHouse 6 = .ok (.iconst 0, 1) := dk_3 (dk_at dksX2_isHouse_0 6 rfl rfl)
theorem dX2_isHouse_7 : decode cX2_isHouse 7 = .ok (.iaload, 1) := dk_46 (dk_at dksX2_isHouse_0 7 rfl rfl)
theorem dX2_isHouse_8 : decode cX2_isHouse 8 = .ok (.iconst 1, 1) := dk_4 (dk_at dksX2_isHouse_0 8 rfl rfl)
theorem dX2_isHouse_9 : decode cX2_isHouse 9 = .ok (.isub, 1) := dk_100 (dk_at dksX2_isHouse_0 9 rfl rfl)
theorem dX2_isHouse_10 : decode cX2_isHouse 10 = .ok (.invokestatic 65, 3) := dk_184 0 65 (dk_at dksX2_isHouse_0 10 rfl rfl)
theorem dX2_isHouse_13 : decode cX2_isHouse 13 = .ok (.ireturn, 1) := dk_172 (dk_at dksX2_isHouse_0 13 rfl rfl)
abbrev cX2_keep : ByteArray := prog_19_method_72_code
def yX2_keep : MethodName := ⟨RX2, "keep", "()V"⟩
def dkwX2_keep_8 : List UInt8 := [132, 2, 1, 167, 255, 226, 42, 180, 0, 7, 6, 92, 46, 4, 96, 79, 177]
abbrev dktX2_keep_8 : List UInt8 := dkwX2_keep_8 ++ []
def dkwX2_keep_7 : List UInt8 := [162, 0, 30, 42, 180, 0, 7, 27, 16, 32, 96, 28, 96, 42, 180, 0, 7, 17, 8, 220, 28, 96, 46, 79]
abbrev dktX2_keep_7 : List UInt8 := dkwX2_keep_7 ++ dktX2_keep_8
def dkwX2_keep_6 : List UInt8 := [28, 29, 182, 0, 73, 79, 132, 3, 1, 167, 255, 228, 132, 2, 1, 167, 255, 214, 3, 61, 28, 16, 40]
abbrev dktX2_keep_6 : List UInt8 := dkwX2_keep_6 ++ dktX2_keep_7
def dkwX2_keep_5 : List UInt8 := [162, 0, 42, 3, 62, 29, 7, 162, 0, 29, 42, 180, 0, 7, 27, 7, 96, 7, 28, 104, 96, 29, 96, 42]
abbrev dktX2_keep_5 : List UInt8 := dkwX2_keep_5 ++ dktX2_keep_6
def dkwX2_keep_4 : List UInt8 := [96, 28, 96, 42, 180, 0, 7, 16, 8, 28, 96, 46, 79, 132, 2, 1, 167, 255, 229, 3, 61, 28, 16, 7]
abbrev dktX2_keep_4 : List UInt8 := dkwX2_keep_4 ++ dktX2_keep_5
def dkwX2_keep_3 : List UInt8 := [180, 0, 7, 27, 42, 180, 0, 7, 3, 46, 79, 3, 61, 28, 6, 162, 0, 28, 42, 180, 0, 7, 27, 4]
abbrev dktX2_keep_3 : List UInt8 := dkwX2_keep_3 ++ dktX2_keep_4
def dkwX2_keep_2 : List UInt8 := [180, 0, 7, 6, 92, 46, 4, 100, 79, 16, 108, 16, 72, 42, 180, 0, 7, 6, 46, 104, 96, 60, 42]
abbrev dktX2_keep_2 : List UInt8 := dkwX2_keep_2 ++ dktX2_keep_3
def dkwX2_keep_1 : List UInt8 := [16, 108, 27, 96, 42, 180, 0, 7, 17, 0, 180, 27, 96, 46, 79, 132, 1, 1, 167, 255, 227, 42]
abbrev dktX2_keep_1 : List UInt8 := dkwX2_keep_1 ++ dktX2_keep_2
def dkwX2_keep_0 : List UInt8 := [42, 180, 0, 7, 6, 46, 16, 30, 160, 0, 47, 3, 60, 27, 17, 8, 40, 162, 0, 28, 42, 180, 0, 7]
abbrev dktX2_keep_0 : List UInt8 := dkwX2_keep_0 ++ dktX2_keep_1
theorem dksX2_keep_0 : cX2_keep.data.toList.drop 0 = dktX2_keep_0 := by decide +kernel
theorem dksX2_keep_1 : cX2_keep.data.toList.drop 24 = dktX2_keep_1 := dk_seg dksX2_keep_0 24 rfl rfl
theorem dksX2_keep_2 : cX2_keep.data.toList.drop 46 = dktX2_keep_2 := dk_seg dksX2_keep_1 22 rfl rfl
theorem dksX2_keep_3 : cX2_keep.data.toList.drop 69 = dktX2_keep_3 := dk_seg dksX2_keep_2 23 rfl rfl
theorem dksX2_keep_4 : cX2_keep.data.toList.drop 93 = dktX2_keep_4 := dk_seg dksX2_keep_3 24 rfl rfl
theorem dksX2_keep_5 : cX2_keep.data.toList.drop 117 = dktX2_keep_5 := dk_seg dksX2_keep_4 24 rfl rfl
theorem dksX2_keep_6 : cX2_keep.data.toList.drop 141 = dktX2_keep_6 := dk_seg dksX2_keep_5 24 rfl rfl
theorem dksX2_keep_7 : cX2_keep.data.toList.drop 164 = dktX2_keep_7 := dk_seg dksX2_keep_6 23 rfl rfl
theorem dksX2_keep_8 : cX2_keep.data.toList.drop 188 = dktX2_keep_8 := dk_seg dksX2_keep_7 24 rfl rfl
theorem dX2_keep_0 : decode cX2_keep 0 = .ok (.aload_n 0, 1) := dk_42 (dk_at dksX2_keep_0 0 rfl rfl)
theorem dX2_keep_1 : decode cX2_keep 1 = .ok (.getfield 7, 3) := dk_180 0 7 (dk_at dksX2_keep_0 1 rfl rfl)
theorem dX2_keep_4 : decode cX2_keep 4 = .ok (.iconst 3, 1) := dk_6 (dk_at dksX2_keep_0 4 rfl rfl)
theorem dX2_keep_5 : decode cX2_keep 5 = .ok (.iaload, 1) := dk_46 (dk_at dksX2_keep_0 5 rfl rfl)
theorem dX2_keep_6 : decode cX2_keep 6 = .ok (.bipush 30, 2) := dk_16 30 (dk_at dksX2_keep_0 6 rfl rfl)
theorem dX2_keep_8 : decode cX2_keep 8 = .ok (.if_icmp .ne 47, 3) := dk_160 0 47 (dk_at dksX2_keep_0 8 rfl rfl)
theorem dX2_keep_11 : decode cX2_keep 11 = .ok (.iconst 0, 1) := dk_3 (dk_at dksX2_keep_0 11 rfl rfl)
theorem dX2_keep_12 : decode cX2_keep 12 = .ok (.istore_n 1, 1) := dk_60 (dk_at dksX2_keep_0 12 rfl rfl)
theorem dX2_keep_13 : decode cX2_keep 13 = .ok (.iload_n 1, 1) := dk_27 (dk_at dksX2_keep_0 13 rfl rfl)
theorem dX2_keep_14 : decode cX2_keep 14 = .ok (.sipush 2088, 3) := dk_17 8 40 (dk_at dksX2_keep_0 14 rfl rfl)
theorem dX2_keep_17 : decode cX2_keep 17 = .ok (.if_icmp .ge 28, 3) := dk_162 0 28 (dk_at dksX2_keep_0 17 rfl rfl)
theorem dX2_keep_20 : decode cX2_keep 20 = .ok (.aload_n 0, 1) := dk_42 (dk_at dksX2_keep_0 20 rfl rfl)
theorem dX2_keep_21 : decode cX2_keep 21 = .ok (.getfield 7, 3) := dk_180 0 7 (dk_at dksX2_keep_0 21 rfl rfl)
theorem dX2_keep_24 : decode cX2_keep 24 = .ok (.bipush 108, 2) := dk_16 108 (dk_at dksX2_keep_1 0 rfl rfl)
theorem dX2_keep_26 : decode cX2_keep 26 = .ok (.iload_n 1, 1) := dk_27 (dk_at dksX2_keep_1 2 rfl rfl)
theorem dX2_keep_27 : decode cX2_keep 27 = .ok (.iadd, 1) := dk_96 (dk_at dksX2_keep_1 3 rfl rfl)
theorem dX2_keep_28 : decode cX2_keep 28 = .ok (.aload_n 0, 1) := dk_42 (dk_at dksX2_keep_1 4 rfl rfl)
theorem dX2_keep_29 : decode cX2_keep 29 = .ok (.getfield 7, 3) := dk_180 0 7 (dk_at dksX2_keep_1 5 rfl rfl)
theorem dX2_keep_32 : decode cX2_keep 32 = .ok (.sipush 180, 3) := dk_17 0 180 (dk_at dksX2_keep_1 8 rfl rfl)
theorem dX2_keep_35 : decode cX2_keep 35 = .ok (.iload_n 1, 1) := dk_27 (dk_at dksX2_keep_1 11 rfl rfl)
theorem dX2_keep_36 : decode cX2_keep 36 = .ok (.iadd, 1) := dk_96 (dk_at dksX2_keep_1 12 rfl rfl)
theorem dX2_keep_37 : decode cX2_keep 37 = .ok (.iaload, 1) := dk_46 (dk_at dksX2_keep_1 13 rfl rfl)
theorem dX2_keep_38 : decode cX2_keep 38 = .ok (.iastore, 1) := dk_79 (dk_at dksX2_keep_1 14 rfl rfl)
theorem dX2_keep_39 : decode cX2_keep 39 = .ok (.iinc 1 1, 3) := dk_132 1 1 (dk_at dksX2_keep_1 15 rfl rfl)
theorem dX2_keep_42 : decode cX2_keep 42 = .ok (.goto (-29), 3) := dk_167 255 227 (dk_at dksX2_keep_1 18 rfl rfl)
theorem dX2_keep_45 : decode cX2_keep 45 = .ok (.aload_n 0, 1) := dk_42 (dk_at dksX2_keep_1 21 rfl rfl)
theorem dX2_keep_46 : decode cX2_keep 46 = .ok (.getfield 7, 3) := dk_180 0 7 (dk_at dksX2_keep_2 0 rfl rfl)
theorem dX2_keep_49 : decode cX2_keep 49 = .ok (.iconst 3, 1) := dk_6 (dk_at dksX2_keep_2 3 rfl rfl)
theorem dX2_keep_50 : decode cX2_keep 50 = .ok (.dup2, 1) := dk_92 (dk_at dksX2_keep_2 4 rfl rfl)
theorem dX2_keep_51 : decode cX2_keep 51 = .ok (.iaload, 1) := dk_46 (dk_at dksX2_keep_2 5 rfl rfl)
theorem dX2_keep_52 : decode cX2_keep 52 = .ok (.iconst 1, 1) := dk_4 (dk_at dksX2_keep_2 6 rfl rfl)
theorem dX2_keep_53 : decode cX2_keep 53 = .ok (.isub, 1) := dk_100 (dk_at dksX2_keep_2 7 rfl rfl)
theorem dX2_keep_54 : decode cX2_keep 54 = .ok (.iastore, 1) := dk_79 (dk_at dksX2_keep_2 8 rfl rfl)
theorem dX2_keep_55 : decode cX2_keep 55 = .ok (.bipush 108, 2) := dk_16 108 (dk_at dksX2_keep_2 9 rfl rfl)
theorem dX2_keep_57 : decode cX2_keep 57 = .ok (.bipush 72, 2) := dk_16 72 (dk_at dksX2_keep_2 11 rfl rfl)
theorem dX2_keep_59 : decode cX2_keep 59 = .ok (.aload_n 0, 1) := dk_42 (dk_at dksX2_keep_2 13 rfl rfl)
theorem dX2_keep_60 : decode cX2_keep 60 = .ok (.getfield 7, 3) := dk_180 0 7 (dk_at dksX2_keep_2 14 rfl rfl)
theorem dX2_keep_63 : decode cX2_keep 63 = .ok (.iconst 3, 1) := dk_6 (dk_at dksX2_keep_2 17 rfl rfl)
theorem dX2_keep_64 : decode cX2_keep 64 = .ok (.iaload, 1) := dk_46 (dk_at dksX2_keep_2 18 rfl rfl)
theorem dX2_keep_65 : decode cX2_keep 65 = .ok (.imul, 1) := dk_104 (dk_at dksX2_keep_2 19 rfl rfl)
theorem dX2_keep_66 : decode cX2_keep 66 = .ok (.iadd, 1) := dk_96 (dk_at dksX2_keep_2 20 rfl rfl)
theorem dX2_keep_67 : decode cX2_keep 67 = .ok (.istore_n 1, 1) := dk_60 (dk_at dksX2_keep_2 21 rfl rfl)
theorem dX2_keep_68 : decode cX2_keep 68 = .ok (.aload_n 0, 1) := dk_42 (dk_at dksX2_keep_2 22 rfl rfl)
theorem dX2_keep_69 : decode cX2_keep 69 = .ok (.getfield 7, 3) := dk_180 0 7 (dk_at dksX2_keep_3 0 rfl rfl)
theorem dX2_keep_72 : decode cX2_keep 72 = .ok (.iload_n 1, 1) := dk_27 (dk_at dksX2_keep_3 3 rfl rfl)
theorem dX2_keep_73 : decode cX2_keep 73 = .ok (.aload_n 0, 1) := dk_42 (dk_at dksX2_keep_3 4 rfl rfl)
theorem dX2_keep_74 : decode cX2_keep 74 = .ok (.getfield 7, 3) := dk_180 0 7 (dk_at dksX2_keep_3 5 rfl rfl)
theorem dX2_keep_77 : decode cX2_keep 77 = .ok (.iconst 0, 1) := dk_3 (dk_at dksX2_keep_3 8 rfl rfl)
theorem dX2_keep_78 : decode cX2_keep 78 = .ok (.iaload, 1) := dk_46 (dk_at dksX2_keep_3 9 rfl rfl)
theorem dX2_keep_79 : decode cX2_keep 79 = .ok (.iastore, 1) := dk_79 (dk_at dksX2_keep_3 10 rfl rfl)
theorem dX2_keep_80 : decode cX2_keep 80 = .ok (.iconst 0, 1) := dk_3 (dk_at dksX2_keep_3 11 rfl rfl)
theorem dX2_keep_81 : decode cX2_keep 81 = .ok (.istore_n 2, 1) := dk_61 (dk_at dksX2_keep_3 12 rfl rfl)
theorem dX2_keep_82 : decode cX2_keep 82 = .ok (.iload_n 2, 1) := dk_28 (dk_at dksX2_keep_3 13 rfl rfl)
theorem dX2_keep_83 : decode cX2_keep 83 = .ok (.iconst 3, 1) := dk_6 (dk_at dksX2_keep_3 14 rfl rfl)
theorem dX2_keep_84 : decode cX2_keep 84 = .ok (.if_icmp .ge 28, 3) := dk_162 0 28 (dk_at dksX2_keep_3 15 rfl rfl)
theorem dX2_keep_87 : decode cX2_keep 87 = .ok (.aload_n 0, 1) := dk_42 (dk_at dksX2_keep_3 18 rfl rfl)
theorem dX2_keep_88 : decode cX2_keep 88 = .ok (.getfield 7, 3) := dk_180 0 7 (dk_at dksX2_keep_3 19 rfl rfl)
theorem dX2_keep_91 : decode cX2_keep 91 = .ok (.iload_n 1, 1) := dk_27 (dk_at dksX2_keep_3 22 rfl rfl)
theorem dX2_keep_92 : decode cX2_keep 92 = .ok (.iconst 1, 1) := dk_4 (dk_at dksX2_keep_3 23 rfl rfl)
theorem dX2_keep_93 : decode cX2_keep 93 = .ok (.iadd, 1) := dk_96 (dk_at dksX2_keep_4 0 rfl rfl)
theorem dX2_keep_94 : decode cX2_keep 94 = .ok (.iload_n 2, 1) := dk_28 (dk_at dksX2_keep_4 1 rfl rfl)
theorem dX2_keep_95 : decode cX2_keep 95 = .ok (.iadd, 1) := dk_96 (dk_at dksX2_keep_4 2 rfl rfl)
theorem dX2_keep_96 : decode cX2_keep 96 = .ok (.aload_n 0, 1) := dk_42 (dk_at dksX2_keep_4 3 rfl rfl)
theorem dX2_keep_97 : decode cX2_keep 97 = .ok (.getfield 7, 3) := dk_180 0 7 (dk_at dksX2_keep_4 4 rfl rfl)
theorem dX2_keep_100 : decode cX2_keep 100 = .ok (.bipush 8, 2) := dk_16 8 (dk_at dksX2_keep_4 7 rfl rfl)
theorem dX2_keep_102 : decode cX2_keep 102 = .ok (.iload_n 2, 1) := dk_28 (dk_at dksX2_keep_4 9 rfl rfl)
theorem dX2_keep_103 : decode cX2_keep 103 = .ok (.iadd, 1) := dk_96 (dk_at dksX2_keep_4 10 rfl rfl)
theorem dX2_keep_104 : decode cX2_keep 104 = .ok (.iaload, 1) := dk_46 (dk_at dksX2_keep_4 11 rfl rfl)
theorem dX2_keep_105 : decode cX2_keep 105 = .ok (.iastore, 1) := dk_79 (dk_at dksX2_keep_4 12 rfl rfl)
theorem dX2_keep_106 : decode cX2_keep 106 = .ok (.iinc 2 1, 3) := dk_132 2 1 (dk_at dksX2_keep_4 13 rfl rfl)
theorem dX2_keep_109 : decode cX2_keep 109 = .ok (.goto (-27), 3) := dk_167 255 229 (dk_at dksX2_keep_4 16 rfl rfl)
theorem dX2_keep_112 : decode cX2_keep 112 = .ok (.iconst 0, 1) := dk_3 (dk_at dksX2_keep_4 19 rfl rfl)
theorem dX2_keep_113 : decode cX2_keep 113 = .ok (.istore_n 2, 1) := dk_61 (dk_at dksX2_keep_4 20 rfl rfl)
theorem dX2_keep_114 : decode cX2_keep 114 = .ok (.iload_n 2, 1) := dk_28 (dk_at dksX2_keep_4 21 rfl rfl)
theorem dX2_keep_115 : decode cX2_keep 115 = .ok (.bipush 7, 2) := dk_16 7 (dk_at dksX2_keep_4 22 rfl rfl)
theorem dX2_keep_117 : decode cX2_keep 117 = .ok (.if_icmp .ge 42, 3) := dk_162 0 42 (dk_at dksX2_keep_5 0 rfl rfl)
theorem dX2_keep_120 : decode cX2_keep 120 = .ok (.iconst 0, 1) := dk_3 (dk_at dksX2_keep_5 3 rfl rfl)
theorem dX2_keep_121 : decode cX2_keep 121 = .ok (.istore_n 3, 1) := dk_62 (dk_at dksX2_keep_5 4 rfl rfl)
theorem dX2_keep_122 : decode cX2_keep 122 = .ok (.iload_n 3, 1) := dk_29 (dk_at dksX2_keep_5 5 rfl rfl)
theorem dX2_keep_123 : decode cX2_keep 123 = .ok (.iconst 4, 1) := dk_7 (dk_at dksX2_keep_5 6 rfl rfl)
theorem dX2_keep_124 : decode cX2_keep 124 = .ok (.if_icmp .ge 29, 3) := dk_162 0 29 (dk_at dksX2_keep_5 7 rfl rfl)
theorem dX2_keep_127 : decode cX2_keep 127 = .ok (.aload_n 0, 1) := dk_42 (dk_at dksX2_keep_5 10 rfl rfl)
theorem dX2_keep_128 : decode cX2_keep 128 = .ok (.getfield 7, 3) := dk_180 0 7 (dk_at dksX2_keep_5 11 rfl rfl)
theorem dX2_keep_131 : decode cX2_keep 131 = .ok (.iload_n 1, 1) := dk_27 (dk_at dksX2_keep_5 14 rfl rfl)
theorem dX2_keep_132 : decode cX2_keep 132 = .ok (.iconst 4, 1) := dk_7 (dk_at dksX2_keep_5 15 rfl rfl)
theorem dX2_keep_133 : decode cX2_keep 133 = .ok (.iadd, 1) := dk_96 (dk_at dksX2_keep_5 16 rfl rfl)
theorem dX2_keep_134 : decode cX2_keep 134 = .ok (.iconst 4, 1) := dk_7 (dk_at dksX2_keep_5 17 rfl rfl)
theorem dX2_keep_135 : decode cX2_keep 135 = .ok (.iload_n 2, 1) := dk_28 (dk_at dksX2_keep_5 18 rfl rfl)
theorem dX2_keep_136 : decode cX2_keep 136 = .ok (.imul, 1) := dk_104 (dk_at dksX2_keep_5 19 rfl rfl)
theorem dX2_keep_137 : decode cX2_keep 137 = .ok (.iadd, 1) := dk_96 (dk_at dksX2_keep_5 20 rfl rfl)
theorem dX2_keep_138 : decode cX2_keep 138 = .ok (.iload_n 3, 1) := dk_29 (dk_at dksX2_keep_5 21 rfl rfl)
theorem dX2_keep_139 : decode cX2_keep 139 = .ok (.iadd, 1) := dk_96 (dk_at dksX2_keep_5 22 rfl rfl)
theorem dX2_keep_140 : decode cX2_keep 140 = .ok (.aload_n 0, 1) := dk_42 (dk_at dksX2_keep_5 23 rfl rfl)
theorem dX2_keep_141 : decode cX2_keep 141 = .ok (.iload_n 2, 1) := dk_28 (dk_at dksX2_keep_6 0 rfl rfl)
theorem dX2_keep_142 : decode cX2_keep 142 = .ok (.iload_n 3, 1) := dk_29 (dk_at dksX2_keep_6 1 rfl rfl)
theorem dX2_keep_143 : decode cX2_keep 143 = .ok (.invokevirtual 73, 3) := dk_182 0 73 (dk_at dksX2_keep_6 2 rfl rfl)
theorem dX2_keep_146 : decode cX2_keep 146 = .ok (.iastore, 1) := dk_79 (dk_at dksX2_keep_6 5 rfl rfl)
theorem dX2_keep_147 : decode cX2_keep 147 = .ok (.iinc 3 1, 3) := dk_132 3 1 (dk_at dksX2_keep_6 6 rfl rfl)
theorem dX2_keep_150 : decode cX2_keep 150 = .ok (.goto (-28), 3) := dk_167 255 228 (dk_at dksX2_keep_6 9 rfl rfl)
theorem dX2_keep_153 : decode cX2_keep 153 = .ok (.iinc 2 1, 3) := dk_132 2 1 (dk_at dksX2_keep_6 12 rfl rfl)
theorem dX2_keep_156 : decode cX2_keep 156 = .ok (.goto (-42), 3) := dk_167 255 214 (dk_at dksX2_keep_6 15 rfl rfl)
theorem dX2_keep_159 : decode cX2_keep 159 = .ok (.iconst 0, 1) := dk_3 (dk_at dksX2_keep_6 18 rfl rfl)
theorem dX2_keep_160 : decode cX2_keep 160 = .ok (.istore_n 2, 1) := dk_61 (dk_at dksX2_keep_6 19 rfl rfl)
theorem dX2_keep_161 : decode cX2_keep 161 = .ok (.iload_n 2, 1) := dk_28 (dk_at dksX2_keep_6 20 rfl rfl)
theorem dX2_keep_162 : decode cX2_keep 162 = .ok (.bipush 40, 2) := dk_16 40 (dk_at dksX2_keep_6 21 rfl rfl)
theorem dX2_keep_164 : decode cX2_keep 164 = .ok (.if_icmp .ge 30, 3) := dk_162 0 30 (dk_at dksX2_keep_7 0 rfl rfl)
theorem dX2_keep_167 : decode cX2_keep 167 = .ok (.aload_n 0, 1) := dk_42 (dk_at dksX2_keep_7 3 rfl rfl)
theorem dX2_keep_168 : decode cX2_keep 168 = .ok (.getfield 7, 3) := dk_180 0 7 (dk_at dksX2_keep_7 4 rfl rfl)
theorem dX2_keep_171 : decode cX2_keep 171 = .ok (.iload_n 1, 1) := dk_27 (dk_at dksX2_keep_7 7 rfl rfl)
theorem dX2_keep_172 : decode cX2_keep 172 = .ok (.bipush 32, 2) := dk_16 32 (dk_at dksX2_keep_7 8 rfl rfl)
theorem dX2_keep_174 : decode cX2_keep 174 = .ok (.iadd, 1) := dk_96 (dk_at dksX2_keep_7 10 rfl rfl)
theorem dX2_keep_175 : decode cX2_keep 175 = .ok (.iload_n 2, 1) := dk_28 (dk_at dksX2_keep_7 11 rfl rfl)
theorem dX2_keep_176 : decode cX2_keep 176 = .ok (.iadd, 1) := dk_96 (dk_at dksX2_keep_7 12 rfl rfl)
theorem dX2_keep_177 : decode cX2_keep 177 = .ok (.aload_n 0, 1) := dk_42 (dk_at dksX2_keep_7 13 rfl rfl)
theorem dX2_keep_178 : decode cX2_keep 178 = .ok (.getfield 7, 3) := dk_180 0 7 (dk_at dksX2_keep_7 14 rfl rfl)
theorem dX2_keep_181 : decode cX2_keep 181 = .ok (.sipush 2268, 3) := dk_17 8 220 (dk_at dksX2_keep_7 17 rfl rfl)
theorem dX2_keep_184 : decode cX2_keep 184 = .ok (.iload_n 2, 1) := dk_28 (dk_at dksX2_keep_7 20 rfl rfl)
theorem dX2_keep_185 : decode cX2_keep 185 = .ok (.iadd, 1) := dk_96 (dk_at dksX2_keep_7 21 rfl rfl)
theorem dX2_keep_186 : decode cX2_keep 186 = .ok (.iaload, 1) := dk_46 (dk_at dksX2_keep_7 22 rfl rfl)
theorem dX2_keep_187 : decode cX2_keep 187 = .ok (.iastore, 1) := dk_79 (dk_at dksX2_keep_7 23 rfl rfl)
theorem dX2_keep_188 : decode cX2_keep 188 = .ok (.iinc 2 1, 3) := dk_132 2 1 (dk_at dksX2_keep_8 0 rfl rfl)
theorem dX2_keep_191 : decode cX2_keep 191 = .ok (.goto (-30), 3) := dk_167 255 226 (dk_at dksX2_keep_8 3 rfl rfl)
theorem dX2_keep_194 : decode cX2_keep 194 = .ok (.aload_n 0, 1) := dk_42 (dk_at dksX2_keep_8 6 rfl rfl)
theorem dX2_keep_195 : decode cX2_keep 195 = .ok (.getfield 7, 3) := dk_180 0 7 (dk_at dksX2_keep_8 7 rfl rfl)
theorem dX2_keep_198 : decode cX2_keep 198 = .ok (.iconst 3, 1) := dk_6 (dk_at dksX2_keep_8 10 rfl rfl)
theorem dX2_keep_199 : decode cX2_keep 199 = .ok (.dup2, 1) := dk_92 (dk_at dksX2_keep_8 11 rfl rfl)
theorem dX2_keep_200 : decode cX2_keep 200 = .ok (.iaload, 1) := dk_46 (dk_at dksX2_keep_8 12 rfl rfl)
theorem dX2_keep_201 : decode cX2_keep 201 = .ok (.iconst 1, 1) := dk_4 (dk_at dksX2_keep_8 13 rfl rfl)
theorem dX2_keep_202 : decode cX2_keep 202 = .ok (.iadd, 1) := dk_96 (dk_at dksX2_keep_8 14 rfl rfl)
theorem dX2_keep_203 : decode cX2_keep 203 = .ok (.iastore, 1) := dk_79 (dk_at dksX2_keep_8 15 rfl rfl)
theorem dX2_keep_204 : decode cX2_keep 204 = .ok (.return_, 1) := dk_177 (dk_at dksX2_keep_8 16 rfl rfl)
abbrev cX2_knockNow : ByteArray := prog_19_method_75_code
def yX2_knockNow : MethodName := ⟨RX2, "knockNow", "(I)I"⟩
def dkwX2_knockNow_3 : List UInt8 := [182, 0, 84, 28, 172]
abbrev dktX2_knockNow_3 : List UInt8 := dkwX2_knockNow_3 ++ []
def dkwX2_knockNow_2 : List UInt8 := [167, 0, 4, 3, 62, 42, 27, 5, 42, 27, 5, 182, 0, 73, 29, 96, 133, 3, 16, 99, 184, 1, 43]
abbrev dktX2_knockNow_2 : List UInt8 := dkwX2_knockNow_2 ++ dktX2_knockNow_3
def dkwX2_knockNow_1 : List UInt8 := [28, 182, 1, 73, 28, 4, 160, 0, 7, 2, 167, 0, 16, 42, 27, 182, 1, 76, 153, 0, 7, 4]
abbrev dktX2_knockNow_1 : List UInt8 := dkwX2_knockNow_1 ++ dktX2_knockNow_2
def dkwX2_knockNow_0 : List UInt8 := [42, 27, 3, 182, 0, 73, 42, 182, 1, 64, 184, 0, 80, 153, 0, 7, 4, 167, 0, 4, 3, 61, 42, 27]
abbrev dktX2_knockNow_0 : List UInt8 := dkwX2_knockNow_0 ++ dktX2_knockNow_1
theorem dksX2_knockNow_0 : cX2_knockNow.data.toList.drop 0 = dktX2_knockNow_0 := by decide +kernel
theorem dksX2_knockNow_1 : cX2_knockNow.data.toList.drop 24 = dktX2_knockNow_1 := dk_seg dksX2_knockNow_0 24 rfl rfl
theorem dksX2_knockNow_2 : cX2_knockNow.data.toList.drop 46 = dktX2_knockNow_2 := dk_seg dksX2_knockNow_1 22 rfl rfl
theorem dksX2_knockNow_3 : cX2_knockNow.data.toList.drop 69 = dktX2_knockNow_3 := dk_seg dksX2_knockNow_2 23 rfl rfl
theorem dX2_knockNow_0 : decode cX2_knockNow 0 = .ok (.aload_n 0, 1) := dk_42 (dk_at dksX2_knockNow_0 0 rfl rfl)
theorem dX2_knockNow_1 : decode cX2_knockNow 1 = .ok (.iload_n 1, 1) := dk_27 (dk_at dksX2_knockNow_0 1 rfl rfl)
theorem dX2_knockNow_2 : decode cX2_knockNow 2 = .ok (.iconst 0, 1) := dk_3 (dk_at dksX2_knockNow_0 2 rfl rfl)
theorem dX2_knockNow_3 : decode cX2_knockNow 3 = .ok (.invokevirtual 73, 3) := dk_182 0 73 (dk_at dksX2_knockNow_0 3 rfl rfl)
theorem dX2_knockNow_6 : decode cX2_knockNow 6 = .ok (.aload_n 0, 1) := dk_42 (dk_at dksX2_knockNow_0 6 rfl rfl)
theorem dX2_knockNow_7 : decode cX2_knockNow 7 = .ok (.invokevirtual 320, 3) := dk_182 1 64 (dk_at dksX2_knockNow_0 7 rfl rfl)
theorem dX2_knockNow_10 : decode cX2_knockNow 10 = .ok (.invokestatic 80, 3) := dk_184 0 80 (dk_at dksX2_knockNow_0 10 rfl rfl)
theorem dX2_knockNow_13 : decode cX2_knockNow 13 = .ok (.ifCond .eq 7, 3) := dk_153 0 7 (dk_at dksX2_knockNow_0 13 rfl rfl)
theorem dX2_knockNow_16 : decode cX2_knockNow 16 = .ok (.iconst 1, 1) := dk_4 (dk_at dksX2_knockNow_0 16 rfl rfl)
theorem dX2_knockNow_17 : decode cX2_knockNow 17 = .ok (.goto 4, 3) := dk_167 0 4 (dk_at dksX2_knockNow_0 17 rfl rfl)
theorem dX2_knockNow_20 : decode cX2_knockNow 20 = .ok (.iconst 0, 1) := dk_3 (dk_at dksX2_knockNow_0 20 rfl rfl)
theorem dX2_knockNow_21 : decode cX2_knockNow 21 = .ok (.istore_n 2, 1) := dk_61 (dk_at dksX2_knockNow_0 21 rfl rfl)
theorem dX2_knockNow_22 : decode cX2_knockNow 22 = .ok (.aload_n 0, 1) := dk_42 (dk_at dksX2_knockNow_0 22 rfl rfl)
theorem dX2_knockNow_23 : decode cX2_knockNow 23 = .ok (.iload_n 1, 1) := dk_27 (dk_at dksX2_knockNow_0 23 rfl rfl)
theorem dX2_knockNow_24 : decode cX2_knockNow 24 = .ok (.iload_n 2, 1) := dk_28 (dk_at dksX2_knockNow_1 0 rfl rfl)
theorem dX2_knockNow_25 : decode cX2_knockNow 25 = .ok (.invokevirtual 329, 3) := dk_182 1 73 (dk_at dksX2_knockNow_1 1 rfl rfl)
theorem dX2_knockNow_28 : decode cX2_knockNow 28 = .ok (.iload_n 2, 1) := dk_28 (dk_at dksX2_knockNow_1 4 rfl rfl)
theorem dX2_knockNow_29 : decode cX2_knockNow 29 = .ok (.iconst 1, 1) := dk_4 (dk_at dksX2_knockNow_1 5 rfl rfl)
theorem dX2_knockNow_30 : decode cX2_knockNow 30 = .ok (.if_icmp .ne 7, 3) := dk_160 0 7 (dk_at dksX2_knockNow_1 6 rfl rfl)
theorem dX2_knockNow_33 : decode cX2_knockNow 33 = .ok (.iconst (-1), 1) := dk_2 (dk_at dksX2_knockNow_1 9 rfl rfl)
theorem dX2_knockNow_34 : decode cX2_knockNow 34 = .ok (.goto 16, 3) := dk_167 0 16 (dk_at dksX2_knockNow_1 10 rfl rfl)
theorem dX2_knockNow_37 : decode cX2_knockNow 37 = .ok (.aload_n 0, 1) := dk_42 (dk_at dksX2_knockNow_1 13 rfl rfl)
theorem dX2_knockNow_38 : decode cX2_knockNow 38 = .ok (.iload_n 1, 1) := dk_27 (dk_at dksX2_knockNow_1 14 rfl rfl)
theorem dX2_knockNow_39 : decode cX2_knockNow 39 = .ok (.invokevirtual 332, 3) := dk_182 1 76 (dk_at dksX2_knockNow_1 15 rfl rfl)
theorem dX2_knockNow_42 : decode cX2_knockNow 42 = .ok (.ifCond .eq 7, 3) := dk_153 0 7 (dk_at dksX2_knockNow_1 18 rfl rfl)
theorem dX2_knockNow_45 : decode cX2_knockNow 45 = .ok (.iconst 1, 1) := dk_4 (dk_at dksX2_knockNow_1 21 rfl rfl)
theorem dX2_knockNow_46 : decode cX2_knockNow 46 = .ok (.goto 4, 3) := dk_167 0 4 (dk_at dksX2_knockNow_2 0 rfl rfl)
theorem dX2_knockNow_49 : decode cX2_knockNow 49 = .ok (.iconst 0, 1) := dk_3 (dk_at dksX2_knockNow_2 3 rfl rfl)
theorem dX2_knockNow_50 : decode cX2_knockNow 50 = .ok (.istore_n 3, 1) := dk_62 (dk_at dksX2_knockNow_2 4 rfl rfl)
theorem dX2_knockNow_51 : decode cX2_knockNow 51 = .ok (.aload_n 0, 1) := dk_42 (dk_at dksX2_knockNow_2 5 rfl rfl)
theorem dX2_knockNow_52 : decode cX2_knockNow 52 = .ok (.iload_n 1, 1) := dk_27 (dk_at dksX2_knockNow_2 6 rfl rfl)
theorem dX2_knockNow_53 : decode cX2_knockNow 53 = .ok (.iconst 2, 1) := dk_5 (dk_at dksX2_knockNow_2 7 rfl rfl)
theorem dX2_knockNow_54 : decode cX2_knockNow 54 = .ok (.aload_n 0, 1) := dk_42 (dk_at dksX2_knockNow_2 8 rfl rfl)
theorem dX2_knockNow_55 : decode cX2_knockNow 55 = .ok (.iload_n 1, 1) := dk_27 (dk_at dksX2_knockNow_2 9 rfl rfl)
theorem dX2_knockNow_56 : decode cX2_knockNow 56 = .ok (.iconst 2, 1) := dk_5 (dk_at dksX2_knockNow_2 10 rfl rfl)
theorem dX2_knockNow_57 : decode cX2_knockNow 57 = .ok (.invokevirtual 73, 3) := dk_182 0 73 (dk_at dksX2_knockNow_2 11 rfl rfl)
theorem dX2_knockNow_60 : decode cX2_knockNow 60 = .ok (.iload_n 3, 1) := dk_29 (dk_at dksX2_knockNow_2 14 rfl rfl)
theorem dX2_knockNow_61 : decode cX2_knockNow 61 = .ok (.iadd, 1) := dk_96 (dk_at dksX2_knockNow_2 15 rfl rfl)
theorem dX2_knockNow_62 : decode cX2_knockNow 62 = .ok (.i2l, 1) := dk_133 (dk_at dksX2_knockNow_2 16 rfl rfl)
theorem dX2_knockNow_63 : decode cX2_knockNow 63 = .ok (.iconst 0, 1) := dk_3 (dk_at dksX2_knockNow_2 17 rfl rfl)
theorem dX2_knockNow_64 : decode cX2_knockNow 64 = .ok (.bipush 99, 2) := dk_16 99 (dk_at dksX2_knockNow_2 18 rfl rfl)
theorem dX2_knockNow_66 : decode cX2_knockNow 66 = .ok (.invokestatic 299, 3) := dk_184 1 43 (dk_at dksX2_knockNow_2 20 rfl rfl)
theorem dX2_knockNow_69 : decode cX2_knockNow 69 = .ok (.invokevirtual 84, 3) := dk_182 0 84 (dk_at dksX2_knockNow_3 0 rfl rfl)
theorem dX2_knockNow_72 : decode cX2_knockNow 72 = .ok (.iload_n 2, 1) := dk_28 (dk_at dksX2_knockNow_3 3 rfl rfl)
theorem dX2_knockNow_73 : decode cX2_knockNow 73 = .ok (.ireturn, 1) := dk_172 (dk_at dksX2_knockNow_3 4 rfl rfl)
abbrev cX2_date : ByteArray := prog_19_method_12_code
def yX2_date : MethodName := ⟨RX2, "date", "()I"⟩
def dkwX2_date_0 : List UInt8 := [42, 180, 0, 7, 16, 8, 46, 16, 20, 112, 172]
abbrev dktX2_date_0 : List UInt8 := dkwX2_date_0 ++ []
theorem dksX2_date_0 : cX2_date.data.toList.drop 0 = dktX2_date_0 := by decide +kernel
theorem dX2_date_0 : decode cX2_date 0 = .ok (.aload_n 0, 1) := dk_42 (dk_at dksX2_date_0 0 rfl rfl)
theorem dX2_date_1 : decode cX2_date 1 = .ok (.getfield 7, 3) := dk_180 0 7 (dk_at dksX2_date_0 1 rfl rfl)
theorem dX2_date_4 : decode cX2_date 4 = .ok (.bipush 8, 2) := dk_16 8 (dk_at dksX2_date_0 4 rfl rfl)
theorem dX2_date_6 : decode cX2_date 6 = .ok (.iaload, 1) := dk_46 (dk_at dksX2_date_0 6 rfl rfl)
theorem dX2_date_7 : decode cX2_date 7 = .ok (.bipush 20, 2) := dk_16 20 (dk_at dksX2_date_0 7 rfl rfl)
theorem dX2_date_9 : decode cX2_date 9 = .ok (.irem, 1) := dk_112 (dk_at dksX2_date_0 9 rfl rfl)
theorem dX2_date_10 : decode cX2_date 10 = .ok (.ireturn, 1) := dk_172 (dk_at dksX2_date_0 10 rfl rfl)
abbrev cX2_write : ByteArray := prog_19_method_74_code
def yX2_write : MethodName := ⟨RX2, "write", "(II)V"⟩
def dkwX2_write_4 : List UInt8 := [16, 10, 92, 46, 4, 96, 79, 177]
abbrev dktX2_write_4 : List UInt8 := dkwX2_write_4 ++ []
def dkwX2_write_3 : List UInt8 := [46, 96, 42, 180, 0, 7, 16, 8, 46, 16, 16, 104, 27, 5, 104, 96, 28, 96, 79, 42, 180, 0, 7]
abbrev dktX2_write_3 : List UInt8 := dkwX2_write_3 ++ dktX2_write_4
def dkwX2_write_2 : List UInt8 := [42, 180, 0, 7, 16, 10, 92, 46, 4, 100, 79, 42, 180, 0, 7, 17, 8, 220, 42, 180, 0, 7, 16, 10]
abbrev dktX2_write_2 : List UInt8 := dkwX2_write_2 ++ dktX2_write_3
def dkwX2_write_1 : List UInt8 := [17, 8, 220, 29, 96, 4, 100, 42, 180, 0, 7, 17, 8, 220, 29, 96, 46, 79, 132, 3, 1, 167, 255, 225]
abbrev dktX2_write_1 : List UInt8 := dkwX2_write_1 ++ dktX2_write_2
def dkwX2_write_0 : List UInt8 := [42, 180, 0, 7, 16, 10, 46, 16, 40, 160, 0, 50, 4, 62, 29, 16, 40, 162, 0, 31, 42, 180, 0, 7]
abbrev dktX2_write_0 : List UInt8 := dkwX2_write_0 ++ dktX2_write_1
theorem dksX2_write_0 : cX2_write.data.toList.drop 0 = dktX2_write_0 := by decide +kernel
theorem dksX2_write_1 : cX2_write.data.toList.drop 24 = dktX2_write_1 := dk_seg dksX2_write_0 24 rfl rfl
theorem dksX2_write_2 : cX2_write.data.toList.drop 48 = dktX2_write_2 := dk_seg dksX2_write_1 24 rfl rfl
theorem dksX2_write_3 : cX2_write.data.toList.drop 72 = dktX2_write_3 := dk_seg dksX2_write_2 24 rfl rfl
theorem dksX2_write_4 : cX2_write.data.toList.drop 95 = dktX2_write_4 := dk_seg dksX2_write_3 23 rfl rfl
theorem dX2_write_0 : decode cX2_write 0 = .ok (.aload_n 0, 1) := dk_42 (dk_at dksX2_write_0 0 rfl rfl)
theorem dX2_write_1 : decode cX2_write 1 = .ok (.getfield 7, 3) := dk_180 0 7 (dk_at dksX2_write_0 1 rfl rfl)
theorem dX2_write_4 : decode cX2_write 4 = .ok (.bipush 10, 2) := dk_16 10 (dk_at dksX2_write_0 4 rfl rfl)
theorem dX2_write_6 : decode cX2_write 6 = .ok (.iaload, 1) := dk_46 (dk_at dksX2_write_0 6 rfl rfl)
theorem dX2_write_7 : decode cX2_write 7 = .ok (.bipush 40, 2) := dk_16 40 (dk_at dksX2_write_0 7 rfl rfl)
theorem dX2_write_9 : decode cX2_write 9 = .ok (.if_icmp .ne 50, 3) := dk_160 0 50 (dk_at dksX2_write_0 9 rfl rfl)
theorem dX2_write_12 : decode cX2_write 12 = .ok (.iconst 1, 1) := dk_4 (dk_at dksX2_write_0 12 rfl rfl)
theorem dX2_write_13 : decode cX2_write 13 = .ok (.istore_n 3, 1) := dk_62 (dk_at dksX2_write_0 13 rfl rfl)
theorem dX2_write_14 : decode cX2_write 14 = .ok (.iload_n 3, 1) := dk_29 (dk_at dksX2_write_0 14 rfl rfl)
theorem dX2_write_15 : decode cX2_write 15 = .ok (.bipush 40, 2) := dk_16 40 (dk_at dksX2_write_0 15 rfl rfl)
theorem dX2_write_17 : decode cX2_write 17 = .ok (.if_icmp .ge 31, 3) := dk_162 0 31 (dk_at dksX2_write_0 17 rfl rfl)
theorem dX2_write_20 : decode cX2_write 20 = .ok (.aload_n 0, 1) := dk_42 (dk_at dksX2_write_0 20 rfl rfl)
theorem dX2_write_21 : decode cX2_write 21 = .ok (.getfield 7, 3) := dk_180 0 7 (dk_at dksX2_write_0 21 rfl rfl)
theorem dX2_write_24 : decode cX2_write 24 = .ok (.sipush 2268, 3) := dk_17 8 220 (dk_at dksX2_write_1 0 rfl rfl)
theorem dX2_write_27 : decode cX2_write 27 = .ok (.iload_n 3, 1) := dk_29 (dk_at dksX2_write_1 3 rfl rfl)
theorem dX2_write_28 : decode cX2_write 28 = .ok (.iadd, 1) := dk_96 (dk_at dksX2_write_1 4 rfl rfl)
theorem dX2_write_29 : decode cX2_write 29 = .ok (.iconst 1, 1) := dk_4 (dk_at dksX2_write_1 5 rfl rfl)
theorem dX2_write_30 : decode cX2_write 30 = .ok (.isub, 1) := dk_100 (dk_at dksX2_write_1 6 rfl rfl)
theorem dX2_write_31 : decode cX2_write 31 = .ok (.aload_n 0, 1) := dk_42 (dk_at dksX2_write_1 7 rfl rfl)
theorem dX2_write_32 : decode cX2_write 32 = .ok (.getfield 7, 3) := dk_180 0 7 (dk_at dksX2_write_1 8 rfl rfl)
theorem dX2_write_35 : decode cX2_write 35 = .ok (.sipush 2268, 3) := dk_17 8 220 (dk_at dksX2_write_1 11 rfl rfl)
theorem dX2_write_38 : decode cX2_write 38 = .ok (.iload_n 3, 1) := dk_29 (dk_at dksX2_write_1 14 rfl rfl)
theorem dX2_write_39 : decode cX2_write 39 = .ok (.iadd, 1) := dk_96 (dk_at dksX2_write_1 15 rfl rfl)
theorem dX2_write_40 : decode cX2_write 40 = .ok (.iaload, 1) := dk_46 (dk_at dksX2_write_1 16 rfl rfl)
theorem dX2_write_41 : decode cX2_write 41 = .ok (.iastore, 1) := dk_79 (dk_at dksX2_write_1 17 rfl rfl)
theorem dX2_write_42 : decode cX2_write 42 = .ok (.iinc 3 1, 3) := dk_132 3 1 (dk_at dksX2_write_1 18 rfl rfl)
theorem dX2_write_45 : decode cX2_write 45 = .ok (.goto (-31), 3) := dk_167 255 225 (dk_at dksX2_write_1 21 rfl rfl)
theorem dX2_write_48 : decode cX2_write 48 = .ok (.aload_n 0, 1) := dk_42 (dk_at dksX2_write_2 0 rfl rfl)
theorem dX2_write_49 : decode cX2_write 49 = .ok (.getfield 7, 3) := dk_180 0 7 (dk_at dksX2_write_2 1 rfl rfl)
theorem dX2_write_52 : decode cX2_write 52 = .ok (.bipush 10, 2) := dk_16 10 (dk_at dksX2_write_2 4 rfl rfl)
theorem dX2_write_54 : decode cX2_write 54 = .ok (.dup2, 1) := dk_92 (dk_at dksX2_write_2 6 rfl rfl)
theorem dX2_write_55 : decode cX2_write 55 = .ok (.iaload, 1) := dk_46 (dk_at dksX2_write_2 7 rfl rfl)
theorem dX2_write_56 : decode cX2_write 56 = .ok (.iconst 1, 1) := dk_4 (dk_at dksX2_write_2 8 rfl rfl)
theorem dX2_write_57 : decode cX2_write 57 = .ok (.isub, 1) := dk_100 (dk_at dksX2_write_2 9 rfl rfl)
theorem dX2_write_58 : decode cX2_write 58 = .ok (.iastore, 1) := dk_79 (dk_at dksX2_write_2 10 rfl rfl)
theorem dX2_write_59 : decode cX2_write 59 = .ok (.aload_n 0, 1) := dk_42 (dk_at dksX2_write_2 11 rfl rfl)
theorem dX2_write_60 : decode cX2_write 60 = .ok (.getfield 7, 3) := dk_180 0 7 (dk_at dksX2_write_2 12 rfl rfl)
theorem dX2_write_63 : decode cX2_write 63 = .ok (.sipush 2268, 3) := dk_17 8 220 (dk_at dksX2_write_2 15 rfl rfl)
theorem dX2_write_66 : decode cX2_write 66 = .ok (.aload_n 0, 1) := dk_42 (dk_at dksX2_write_2 18 rfl rfl)
theorem dX2_write_67 : decode cX2_write 67 = .ok (.getfield 7, 3) := dk_180 0 7 (dk_at dksX2_write_2 19 rfl rfl)
theorem dX2_write_70 : decode cX2_write 70 = .ok (.bipush 10, 2) := dk_16 10 (dk_at dksX2_write_2 22 rfl rfl)
theorem dX2_write_72 : decode cX2_write 72 = .ok (.iaload, 1) := dk_46 (dk_at dksX2_write_3 0 rfl rfl)
theorem dX2_write_73 : decode cX2_write 73 = .ok (.iadd, 1) := dk_96 (dk_at dksX2_write_3 1 rfl rfl)
theorem dX2_write_74 : decode cX2_write 74 = .ok (.aload_n 0, 1) := dk_42 (dk_at dksX2_write_3 2 rfl rfl)
theorem dX2_write_75 : decode cX2_write 75 = .ok (.getfield 7, 3) := dk_180 0 7 (dk_at dksX2_write_3 3 rfl rfl)
theorem dX2_write_78 : decode cX2_write 78 = .ok (.bipush 8, 2) := dk_16 8 (dk_at dksX2_write_3 6 rfl rfl)
theorem dX2_write_80 : decode cX2_write 80 = .ok (.iaload, 1) := dk_46 (dk_at dksX2_write_3 8 rfl rfl)
theorem dX2_write_81 : decode cX2_write 81 = .ok (.bipush 16, 2) := dk_16 16 (dk_at dksX2_write_3 9 rfl rfl)
theorem dX2_write_83 : decode cX2_write 83 = .ok (.imul, 1) := dk_104 (dk_at dksX2_write_3 11 rfl rfl)
theorem dX2_write_84 : decode cX2_write 84 = .ok (.iload_n 1, 1) := dk_27 (dk_at dksX2_write_3 12 rfl rfl)
theorem dX2_write_85 : decode cX2_write 85 = .ok (.iconst 2, 1) := dk_5 (dk_at dksX2_write_3 13 rfl rfl)
theorem dX2_write_86 : decode cX2_write 86 = .ok (.imul, 1) := dk_104 (dk_at dksX2_write_3 14 rfl rfl)
theorem dX2_write_87 : decode cX2_write 87 = .ok (.iadd, 1) := dk_96 (dk_at dksX2_write_3 15 rfl rfl)
theorem dX2_write_88 : decode cX2_write 88 = .ok (.iload_n 2, 1) := dk_28 (dk_at dksX2_write_3 16 rfl rfl)
theorem dX2_write_89 : decode cX2_write 89 = .ok (.iadd, 1) := dk_96 (dk_at dksX2_write_3 17 rfl rfl)
theorem dX2_write_90 : decode cX2_write 90 = .ok (.iastore, 1) := dk_79 (dk_at dksX2_write_3 18 rfl rfl)
theorem dX2_write_91 : decode cX2_write 91 = .ok (.aload_n 0, 1) := dk_42 (dk_at dksX2_write_3 19 rfl rfl)
theorem dX2_write_92 : decode cX2_write 92 = .ok (.getfield 7, 3) := dk_180 0 7 (dk_at dksX2_write_3 20 rfl rfl)
theorem dX2_write_95 : decode cX2_write 95 = .ok (.bipush 10, 2) := dk_16 10 (dk_at dksX2_write_4 0 rfl rfl)
theorem dX2_write_97 : decode cX2_write 97 = .ok (.dup2, 1) := dk_92 (dk_at dksX2_write_4 2 rfl rfl)
theorem dX2_write_98 : decode cX2_write 98 = .ok (.iaload, 1) := dk_46 (dk_at dksX2_write_4 3 rfl rfl)
theorem dX2_write_99 : decode cX2_write 99 = .ok (.iconst 1, 1) := dk_4 (dk_at dksX2_write_4 4 rfl rfl)
theorem dX2_write_100 : decode cX2_write 100 = .ok (.iadd, 1) := dk_96 (dk_at dksX2_write_4 5 rfl rfl)
theorem dX2_write_101 : decode cX2_write 101 = .ok (.iastore, 1) := dk_79 (dk_at dksX2_write_4 6 rfl rfl)
theorem dX2_write_102 : decode cX2_write 102 = .ok (.return_, 1) := dk_177 (dk_at dksX2_write_4 7 rfl rfl)
abbrev cX2_isLetting : ByteArray := prog_19_method_70_code
def yX2_isLetting : MethodName := ⟨RX2, "isLetting", "(I)Z"⟩
def dkwX2_isLetting_2 : List UInt8 := [180, 0, 39, 3, 51, 172]
abbrev dktX2_isLetting_2 : List UInt8 := dkwX2_isLetting_2 ++ []
def dkwX2_isLetting_1 : List UInt8 := [167, 0, 4, 3, 172, 42, 27, 42, 180, 0, 7, 16, 8, 46, 182, 1, 58, 42, 28, 182, 1, 40, 42]
abbrev dktX2_isLetting_1 : List UInt8 := dkwX2_isLetting_1 ++ dktX2_isLetting_2
def dkwX2_isLetting_0 : List UInt8 := [42, 5, 182, 1, 37, 61, 28, 156, 0, 20, 42, 27, 5, 182, 0, 73, 16, 50, 162, 0, 7, 4]
abbrev dktX2_isLetting_0 : List UInt8 := dkwX2_isLetting_0 ++ dktX2_isLetting_1
theorem dksX2_isLetting_0 : cX2_isLetting.data.toList.drop 0 = dktX2_isLetting_0 := by decide +kernel
theorem dksX2_isLetting_1 : cX2_isLetting.data.toList.drop 22 = dktX2_isLetting_1 := dk_seg dksX2_isLetting_0 22 rfl rfl
theorem dksX2_isLetting_2 : cX2_isLetting.data.toList.drop 45 = dktX2_isLetting_2 := dk_seg dksX2_isLetting_1 23 rfl rfl
theorem dX2_isLetting_0 : decode cX2_isLetting 0 = .ok (.aload_n 0, 1) := dk_42 (dk_at dksX2_isLetting_0 0 rfl rfl)
theorem dX2_isLetting_1 : decode cX2_isLetting 1 = .ok (.iconst 2, 1) := dk_5 (dk_at dksX2_isLetting_0 1 rfl rfl)
theorem dX2_isLetting_2 : decode cX2_isLetting 2 = .ok (.invokevirtual 293, 3) := dk_182 1 37 (dk_at dksX2_isLetting_0 2 rfl rfl)
theorem dX2_isLetting_5 : decode cX2_isLetting 5 = .ok (.istore_n 2, 1) := dk_61 (dk_at dksX2_isLetting_0 5 rfl rfl)
theorem dX2_isLetting_6 : decode cX2_isLetting 6 = .ok (.iload_n 2, 1) := dk_28 (dk_at dksX2_isLetting_0 6 rfl rfl)
theorem dX2_isLetting_7 : decode cX2_isLetting 7 = .ok (.ifCond .ge 20, 3) := dk_156 0 20 (dk_at dksX2_isLetting_0 7 rfl rfl)
theorem dX2_isLetting_10 : decode cX2_isLetting 10 = .ok (.aload_n 0, 1) := dk_42 (dk_at dksX2_isLetting_0 10 rfl rfl)
theorem dX2_isLetting_11 : decode cX2_isLetting 11 = .ok (.iload_n 1, 1) := dk_27 (dk_at dksX2_isLetting_0 11 rfl rfl)
theorem dX2_isLetting_12 : decode cX2_isLetting 12 = .ok (.iconst 2, 1) := dk_5 (dk_at dksX2_isLetting_0 12 rfl rfl)
theorem dX2_isLetting_13 : decode cX2_isLetting 13 = .ok (.invokevirtual 73, 3) := dk_182 0 73 (dk_at dksX2_isLetting_0 13 rfl rfl)
theorem dX2_isLetting_16 : decode cX2_isLetting 16 = .ok (.bipush 50, 2) := dk_16 50 (dk_at dksX2_isLetting_0 16 rfl rfl)
theorem dX2_isLetting_18 : decode cX2_isLetting 18 = .ok (.if_icmp .ge 7, 3) := dk_162 0 7 (dk_at dksX2_isLetting_0 18 rfl rfl)
theorem dX2_isLetting_21 : decode cX2_isLetting 21 = .ok (.iconst 1, 1) := dk_4 (dk_at dksX2_isLetting_0 21 rfl rfl)
theorem dX2_isLetting_22 : decode cX2_isLetting 22 = .ok (.goto 4, 3) := dk_167 0 4 (dk_at dksX2_isLetting_1 0 rfl rfl)
theorem dX2_isLetting_25 : decode cX2_isLetting 25 = .ok (.iconst 0, 1) := dk_3 (dk_at dksX2_isLetting_1 3 rfl rfl)
theorem dX2_isLetting_26 : decode cX2_isLetting 26 = .ok (.ireturn, 1) := dk_172 (dk_at dksX2_isLetting_1 4 rfl rfl)
theorem dX2_isLetting_27 : decode cX2_isLetting 27 = .ok (.aload_n 0, 1) := dk_42 (dk_at dksX2_isLetting_1 5 rfl rfl)
theorem dX2_isLetting_28 : decode cX2_isLetting 28 = .ok (.iload_n 1, 1) := dk_27 (dk_at dksX2_isLetting_1 6 rfl rfl)
theorem dX2_isLetting_29 : decode cX2_isLetting 29 = .ok (.aload_n 0, 1) := dk_42 (dk_at dksX2_isLetting_1 7 rfl rfl)
theorem dX2_isLetting_30 : decode cX2_isLetting 30 = .ok (.getfield 7, 3) := dk_180 0 7 (dk_at dksX2_isLetting_1 8 rfl rfl)
theorem dX2_isLetting_33 : decode cX2_isLetting 33 = .ok (.bipush 8, 2) := dk_16 8 (dk_at dksX2_isLetting_1 11 rfl rfl)
theorem dX2_isLetting_35 : decode cX2_isLetting 35 = .ok (.iaload, 1) := dk_46 (dk_at dksX2_isLetting_1 13 rfl rfl)
theorem dX2_isLetting_36 : decode cX2_isLetting 36 = .ok (.invokevirtual 314, 3) := dk_182 1 58 (dk_at dksX2_isLetting_1 14 rfl rfl)
theorem dX2_isLetting_39 : decode cX2_isLetting 39 = .ok (.aload_n 0, 1) := dk_42 (dk_at dksX2_isLetting_1 17 rfl rfl)
theorem dX2_isLetting_40 : decode cX2_isLetting 40 = .ok (.iload_n 2, 1) := dk_28 (dk_at dksX2_isLetting_1 18 rfl rfl)
theorem dX2_isLetting_41 : decode cX2_isLetting 41 = .ok (.invokevirtual 296, 3) := dk_182 1 40 (dk_at dksX2_isLetting_1 19 rfl rfl)
theorem dX2_isLetting_44 : decode cX2_isLetting 44 = .ok (.aload_n 0, 1) := dk_42 (dk_at dksX2_isLetting_1 22 rfl rfl)
theorem dX2_isLetting_45 : decode cX2_isLetting 45 = .ok (.getfield 39, 3) := dk_180 0 39 (dk_at dksX2_isLetting_2 0 rfl rfl)
theorem dX2_isLetting_48 : decode cX2_isLetting 48 = .ok (.iconst 0, 1) := dk_3 (dk_at dksX2_isLetting_2 3 rfl rfl)
theorem dX2_isLetting_49 : decode cX2_isLetting 49 = .ok (.baload, 1) := dk_51 (dk_at dksX2_isLetting_2 4 rfl rfl)
theorem dX2_isLetting_50 : decode cX2_isLetting 50 = .ok (.ireturn, 1) := dk_172 (dk_at dksX2_isLetting_2 5 rfl rfl)
abbrev cX2_clauseOf : ByteArray := prog_19_method_63_code
def yX2_clauseOf : MethodName := ⟨RX2, "clauseOf", "(I)I"⟩
def dkwX2_clauseOf_2 : List UInt8 := [104, 96, 46, 27, 160, 0, 5, 28, 172, 132, 2, 1, 167, 255, 198, 2, 172]
abbrev dktX2_clauseOf_2 : List UInt8 := dkwX2_clauseOf_2 ++ []
def dkwX2_clauseOf_1 : List UInt8 := [46, 104, 46, 162, 0, 36, 42, 180, 0, 16, 17, 2, 193, 42, 180, 0, 7, 5, 46, 104, 4, 96, 7, 28]
abbrev dktX2_clauseOf_1 : List UInt8 := dkwX2_clauseOf_1 ++ dktX2_clauseOf_2
def dkwX2_clauseOf_0 : List UInt8 := [3, 61, 42, 180, 0, 7, 5, 46, 155, 0, 55, 28, 42, 180, 0, 16, 17, 2, 193, 42, 180, 0, 7, 5]
abbrev dktX2_clauseOf_0 : List UInt8 := dkwX2_clauseOf_0 ++ dktX2_clauseOf_1
theorem dksX2_clauseOf_0 : cX2_clauseOf.data.toList.drop 0 = dktX2_clauseOf_0 := by decide +kernel
theorem dksX2_clauseOf_1 : cX2_clauseOf.data.toList.drop 24 = dktX2_clauseOf_1 := dk_seg dksX2_clauseOf_0 24 rfl rfl
theorem dksX2_clauseOf_2 : cX2_clauseOf.data.toList.drop 48 = dktX2_clauseOf_2 := dk_seg dksX2_clauseOf_1 24 rfl rfl
theorem dX2_clauseOf_0 : decode cX2_clauseOf 0 = .ok (.iconst 0, 1) := dk_3 (dk_at dksX2_clauseOf_0 0 rfl rfl)
theorem dX2_clauseOf_1 : decode cX2_clauseOf 1 = .ok (.istore_n 2, 1) := dk_61 (dk_at dksX2_clauseOf_0 1 rfl rfl)
theorem dX2_clauseOf_2 : decode cX2_clauseOf 2 = .ok (.aload_n 0, 1) := dk_42 (dk_at dksX2_clauseOf_0 2 rfl rfl)
theorem dX2_clauseOf_3 : decode cX2_clauseOf 3 = .ok (.getfield 7, 3) := dk_180 0 7 (dk_at dksX2_clauseOf_0 3 rfl rfl)
theorem dX2_clauseOf_6 : decode cX2_clauseOf 6 = .ok (.iconst 2, 1) := dk_5 (dk_at dksX2_clauseOf_0 6 rfl rfl)
theorem dX2_clauseOf_7 : decode cX2_clauseOf 7 = .ok (.iaload, 1) := dk_46 (dk_at dksX2_clauseOf_0 7 rfl rfl)
theorem dX2_clauseOf_8 : decode cX2_clauseOf 8 = .ok (.ifCond .lt 55, 3) := dk_155 0 55 (dk_at dksX2_clauseOf_0 8 rfl rfl)
theorem dX2_clauseOf_11 : decode cX2_clauseOf 11 = .ok (.iload_n 2, 1) := dk_28 (dk_at dksX2_clauseOf_0 11 rfl rfl)
theorem dX2_clauseOf_12 : decode cX2_clauseOf 12 = .ok (.aload_n 0, 1) := dk_42 (dk_at dksX2_clauseOf_0 12 rfl rfl)
theorem dX2_clauseOf_13 : decode cX2_clauseOf 13 = .ok (.getfield 16, 3) := dk_180 0 16 (dk_at dksX2_clauseOf_0 13 rfl rfl)
theorem dX2_clauseOf_16 : decode cX2_clauseOf 16 = .ok (.sipush 705, 3) := dk_17 2 193 (dk_at dksX2_clauseOf_0 16 rfl rfl)
theorem dX2_clauseOf_19 : decode cX2_clauseOf 19 = .ok (.aload_n 0, 1) := dk_42 (dk_at dksX2_clauseOf_0 19 rfl rfl)
theorem dX2_clauseOf_20 : decode cX2_clauseOf 20 = .ok (.getfield 7, 3) := dk_180 0 7 (dk_at dksX2_clauseOf_0 20 rfl rfl)
theorem dX2_clauseOf_23 : decode cX2_clauseOf 23 = .ok (.iconst 2, 1) := dk_5 (dk_at dksX2_clauseOf_0 23 rfl rfl)
theorem dX2_clauseOf_24 : decode cX2_clauseOf 24 = .ok (.iaload, 1) := dk_46 (dk_at dksX2_clauseOf_1 0 rfl rfl)
theorem dX2_clauseOf_25 : decode cX2_clauseOf 25 = .ok (.imul, 1) := dk_104 (dk_at dksX2_clauseOf_1 1 rfl rfl)
theorem dX2_clauseOf_26 : decode cX2_clauseOf 26 = .ok (.iaload, 1) := dk_46 (dk_at dksX2_clauseOf_1 2 rfl rfl)
theorem dX2_clauseOf_27 : decode cX2_clauseOf 27 = .ok (.if_icmp .ge 36, 3) := dk_162 0 36 (dk_at dksX2_clauseOf_1 3 rfl rfl)
theorem dX2_clauseOf_30 : decode cX2_clauseOf 30 = .ok (.aload_n 0, 1) := dk_42 (dk_at dksX2_clauseOf_1 6 rfl rfl)
theorem dX2_clauseOf_31 : decode cX2_clauseOf 31 = .ok (.getfield 16, 3) := dk_180 0 16 (dk_at dksX2_clauseOf_1 7 rfl rfl)
theorem dX2_clauseOf_34 : decode cX2_clauseOf 34 = .ok (.sipush 705, 3) := dk_17 2 193 (dk_at dksX2_clauseOf_1 10 rfl rfl)
theorem dX2_clauseOf_37 : decode cX2_clauseOf 37 = .ok (.aload_n 0, 1) := dk_42 (dk_at dksX2_clauseOf_1 13 rfl rfl)
theorem dX2_clauseOf_38 : decode cX2_clauseOf 38 = .ok (.getfield 7, 3) := dk_180 0 7 (dk_at dksX2_clauseOf_1 14 rfl rfl)
theorem dX2_clauseOf_41 : decode cX2_clauseOf 41 = .ok (.iconst 2, 1) := dk_5 (dk_at dksX2_clauseOf_1 17 rfl rfl)
theorem dX2_clauseOf_42 : decode cX2_clauseOf 42 = .ok (.iaload, 1) := dk_46 (dk_at dksX2_clauseOf_1 18 rfl rfl)
theorem dX2_clauseOf_43 : decode cX2_clauseOf 43 = .ok (.imul, 1) := dk_104 (dk_at dksX2_clauseOf_1 19 rfl rfl)
theorem dX2_clauseOf_44 : decode cX2_clauseOf 44 = .ok (.iconst 1, 1) := dk_4 (dk_at dksX2_clauseOf_1 20 rfl rfl)
theorem dX2_clauseOf_45 : decode cX2_clauseOf 45 = .ok (.iadd, 1) := dk_96 (dk_at dksX2_clauseOf_1 21 rfl rfl)
theorem dX2_clauseOf_46 : decode cX2_clauseOf 46 = .ok (.iconst 4, 1) := dk_7 (dk_at dksX2_clauseOf_1 22 rfl rfl)
theorem dX2_clauseOf_47 : decode cX2_clauseOf 47 = .ok (.iload_n 2, 1) := dk_28 (dk_at dksX2_clauseOf_1 23 rfl rfl)
theorem dX2_clauseOf_48 : decode cX2_clauseOf 48 = .ok (.imul, 1) := dk_104 (dk_at dksX2_clauseOf_2 0 rfl rfl)
theorem dX2_clauseOf_49 : decode cX2_clauseOf 49 = .ok (.iadd, 1) := dk_96 (dk_at dksX2_clauseOf_2 1 rfl rfl)
theorem dX2_clauseOf_50 : decode cX2_clauseOf 50 = .ok (.iaload, 1) := dk_46 (dk_at dksX2_clauseOf_2 2 rfl rfl)
theorem dX2_clauseOf_51 : decode cX2_clauseOf 51 = .ok (.iload_n 1, 1) := dk_27 (dk_at dksX2_clauseOf_2 3 rfl rfl)
theorem dX2_clauseOf_52 : decode cX2_clauseOf 52 = .ok (.if_icmp .ne 5, 3) := dk_160 0 5 (dk_at dksX2_clauseOf_2 4 rfl rfl)
theorem dX2_clauseOf_55 : decode cX2_clauseOf 55 = .ok (.iload_n 2, 1) := dk_28 (dk_at dksX2_clauseOf_2 7 rfl rfl)
theorem dX2_clauseOf_56 : decode cX2_clauseOf 56 = .ok (.ireturn, 1) := dk_172 (dk_at dksX2_clauseOf_2 8 rfl rfl)
theorem dX2_clauseOf_57 : decode cX2_clauseOf 57 = .ok (.iinc 2 1, 3) := dk_132 2 1 (dk_at dksX2_clauseOf_2 9 rfl rfl)
theorem dX2_clauseOf_60 : decode cX2_clauseOf 60 = .ok (.goto (-58), 3) := dk_167 255 198 (dk_at dksX2_clauseOf_2 12 rfl rfl)
theorem dX2_clauseOf_63 : decode cX2_clauseOf 63 = .ok (.iconst (-1), 1) := dk_2 (dk_at dksX2_clauseOf_2 15 rfl rfl)
theorem dX2_clauseOf_64 : decode cX2_clauseOf 64 = .ok (.ireturn, 1) := dk_172 (dk_at dksX2_clauseOf_2 16 rfl rfl)
abbrev cX2_name : ByteArray := prog_19_method_67_code
def yX2_name : MethodName := ⟨RX2, "name", "(II)V"⟩
def dkwX2_name_4 : List UInt8 := [182, 1, 55, 79, 177]
abbrev dktX2_name_4 : List UInt8 := dkwX2_name_4 ++ []
def dkwX2_name_3 : List UInt8 := [180, 0, 32, 4, 46, 182, 1, 52, 79, 42, 180, 0, 32, 16, 7, 42, 27, 42, 180, 0, 32, 4, 46]
abbrev dktX2_name_3 : List UInt8 := dkwX2_name_3 ++ dktX2_name_4
def dkwX2_name_2 : List UInt8 := [42, 180, 0, 32, 8, 42, 27, 3, 182, 0, 73, 184, 1, 49, 79, 42, 180, 0, 32, 16, 6, 42, 42]
abbrev dktX2_name_2 : List UInt8 := dkwX2_name_2 ++ dktX2_name_3
def dkwX2_name_1 : List UInt8 := [42, 180, 0, 32, 6, 42, 27, 4, 182, 0, 73, 79, 42, 180, 0, 32, 7, 42, 27, 5, 182, 0, 73, 79]
abbrev dktX2_name_1 : List UInt8 := dkwX2_name_1 ++ dktX2_name_2
def dkwX2_name_0 : List UInt8 := [42, 180, 0, 32, 3, 28, 79, 42, 180, 0, 32, 4, 28, 16, 20, 112, 79, 42, 180, 0, 32, 5, 27, 79]
abbrev dktX2_name_0 : List UInt8 := dkwX2_name_0 ++ dktX2_name_1
theorem dksX2_name_0 : cX2_name.data.toList.drop 0 = dktX2_name_0 := by decide +kernel
theorem dksX2_name_1 : cX2_name.data.toList.drop 24 = dktX2_name_1 := dk_seg dksX2_name_0 24 rfl rfl
theorem dksX2_name_2 : cX2_name.data.toList.drop 48 = dktX2_name_2 := dk_seg dksX2_name_1 24 rfl rfl
theorem dksX2_name_3 : cX2_name.data.toList.drop 71 = dktX2_name_3 := dk_seg dksX2_name_2 23 rfl rfl
theorem dksX2_name_4 : cX2_name.data.toList.drop 94 = dktX2_name_4 := dk_seg dksX2_name_3 23 rfl rfl
theorem dX2_name_0 : decode cX2_name 0 = .ok (.aload_n 0, 1) := dk_42 (dk_at dksX2_name_0 0 rfl rfl)
theorem dX2_name_1 : decode cX2_name 1 = .ok (.getfield 32, 3) := dk_180 0 32 (dk_at dksX2_name_0 1 rfl rfl)
theorem dX2_name_4 : decode cX2_name 4 = .ok (.iconst 0, 1) := dk_3 (dk_at dksX2_name_0 4 rfl rfl)
theorem dX2_name_5 : decode cX2_name 5 = .ok (.iload_n 2, 1) := dk_28 (dk_at dksX2_name_0 5 rfl rfl)
theorem dX2_name_6 : decode cX2_name 6 = .ok (.iastore, 1) := dk_79 (dk_at dksX2_name_0 6 rfl rfl)
theorem dX2_name_7 : decode cX2_name 7 = .ok (.aload_n 0, 1) := dk_42 (dk_at dksX2_name_0 7 rfl rfl)
theorem dX2_name_8 : decode cX2_name 8 = .ok (.getfield 32, 3) := dk_180 0 32 (dk_at dksX2_name_0 8 rfl rfl)
theorem dX2_name_11 : decode cX2_name 11 = .ok (.iconst 1, 1) := dk_4 (dk_at dksX2_name_0 11 rfl rfl)
theorem dX2_name_12 : decode cX2_name 12 = .ok (.iload_n 2, 1) := dk_28 (dk_at dksX2_name_0 12 rfl rfl)
theorem dX2_name_13 : decode cX2_name 13 = .ok (.bipush 20, 2) := dk_16 20 (dk_at dksX2_name_0 13 rfl rfl)
theorem dX2_name_15 : decode cX2_name 15 = .ok (.irem, 1) := dk_112 (dk_at dksX2_name_0 15 rfl rfl)
theorem dX2_name_16 : decode cX2_name 16 = .ok (.iastore, 1) := dk_79 (dk_at dksX2_name_0 16 rfl rfl)
theorem dX2_name_17 : decode cX2_name 17 = .ok (.aload_n 0, 1) := dk_42 (dk_at dksX2_name_0 17 rfl rfl)
theorem dX2_name_18 : decode cX2_name 18 = .ok (.getfield 32, 3) := dk_180 0 32 (dk_at dksX2_name_0 18 rfl rfl)
theorem dX2_name_21 : decode cX2_name 21 = .ok (.iconst 2, 1) := dk_5 (dk_at dksX2_name_0 21 rfl rfl)
theorem dX2_name_22 : decode cX2_name 22 = .ok (.iload_n 1, 1) := dk_27 (dk_at dksX2_name_0 22 rfl rfl)
theorem dX2_name_23 : decode cX2_name 23 = .ok (.iastore, 1) := dk_79 (dk_at dksX2_name_0 23 rfl rfl)
theorem dX2_name_24 : decode cX2_name 24 = .ok (.aload_n 0, 1) := dk_42 (dk_at dksX2_name_1 0 rfl rfl)
theorem dX2_name_25 : decode cX2_name 25 = .ok (.getfield 32, 3) := dk_180 0 32 (dk_at dksX2_name_1 1 rfl rfl)
theorem dX2_name_28 : decode cX2_name 28 = .ok (.iconst 3, 1) := dk_6 (dk_at dksX2_name_1 4 rfl rfl)
theorem dX2_name_29 : decode cX2_name 29 = .ok (.aload_n 0, 1) := dk_42 (dk_at dksX2_name_1 5 rfl rfl)
theorem dX2_name_30 : decode cX2_name 30 = .ok (.iload_n 1, 1) := dk_27 (dk_at dksX2_name_1 6 rfl rfl)
theorem dX2_name_31 : decode cX2_name 31 = .ok (.iconst 1, 1) := dk_4 (dk_at dksX2_name_1 7 rfl rfl)
theorem dX2_name_32 : decode cX2_name 32 = .ok (.invokevirtual 73, 3) := dk_182 0 73 (dk_at dksX2_name_1 8 rfl rfl)
theorem dX2_name_35 : decode cX2_name 35 = .ok (.iastore, 1) := dk_79 (dk_at dksX2_name_1 11 rfl rfl)
theorem dX2_name_36 : decode cX2_name 36 = .ok (.aload_n 0, 1) := dk_42 (dk_at dksX2_name_1 12 rfl rfl)
theorem dX2_name_37 : decode cX2_name 37 = .ok (.getfield 32, 3) := dk_180 0 32 (dk_at dksX2_name_1 13 rfl rfl)
theorem dX2_name_40 : decode cX2_name 40 = .ok (.iconst 4, 1) := dk_7 (dk_at dksX2_name_1 16 rfl rfl)
theorem dX2_name_41 : decode cX2_name 41 = .ok (.aload_n 0, 1) := dk_42 (dk_at dksX2_name_1 17 rfl rfl)
theorem dX2_name_42 : decode cX2_name 42 = .ok (.iload_n 1, 1) := dk_27 (dk_at dksX2_name_1 18 rfl rfl)
theorem dX2_name_43 : decode cX2_name 43 = .ok (.iconst 2, 1) := dk_5 (dk_at dksX2_name_1 19 rfl rfl)
theorem dX2_name_44 : decode cX2_name 44 = .ok (.invokevirtual 73, 3) := dk_182 0 73 (dk_at dksX2_name_1 20 rfl rfl)
theorem dX2_name_47 : decode cX2_name 47 = .ok (.iastore, 1) := dk_79 (dk_at dksX2_name_1 23 rfl rfl)
theorem dX2_name_48 : decode cX2_name 48 = .ok (.aload_n 0, 1) := dk_42 (dk_at dksX2_name_2 0 rfl rfl)
theorem dX2_name_49 : decode cX2_name 49 = .ok (.getfield 32, 3) := dk_180 0 32 (dk_at dksX2_name_2 1 rfl rfl)
theorem dX2_name_52 : decode cX2_name 52 = .ok (.iconst 5, 1) := dk_8 (dk_at dksX2_name_2 4 rfl rfl)
theorem dX2_name_53 : decode cX2_name 53 = .ok (.aload_n 0, 1) := dk_42 (dk_at dksX2_name_2 5 rfl rfl)
theorem dX2_name_54 : decode cX2_name 54 = .ok (.iload_n 1, 1) := dk_27 (dk_at dksX2_name_2 6 rfl rfl)
theorem dX2_name_55 : decode cX2_name 55 = .ok (.iconst 0, 1) := dk_3 (dk_at dksX2_name_2 7 rfl rfl)
theorem dX2_name_56 : decode cX2_name 56 = .ok (.invokevirtual 73, 3) := dk_182 0 73 (dk_at dksX2_name_2 8 rfl rfl)
theorem dX2_name_59 : decode cX2_name 59 = .ok (.invokestatic 305, 3) := dk_184 1 49 (dk_at dksX2_name_2 11 rfl rfl)
theorem dX2_name_62 : decode cX2_name 62 = .ok (.iastore, 1) := dk_79 (dk_at dksX2_name_2 14 rfl rfl)
theorem dX2_name_63 : decode cX2_name 63 = .ok (.aload_n 0, 1) := dk_42 (dk_at dksX2_name_2 15 rfl rfl)
theorem dX2_name_64 : decode cX2_name 64 = .ok (.getfield 32, 3) := dk_180 0 32 (dk_at dksX2_name_2 16 rfl rfl)
theorem dX2_name_67 : decode cX2_name 67 = .ok (.bipush 6, 2) := dk_16 6 (dk_at dksX2_name_2 19 rfl rfl)
theorem dX2_name_69 : decode cX2_name 69 = .ok (.aload_n 0, 1) := dk_42 (dk_at dksX2_name_2 21 rfl rfl)
theorem dX2_name_70 : decode cX2_name 70 = .ok (.aload_n 0, 1) := dk_42 (dk_at dksX2_name_2 22 rfl rfl)
theorem dX2_name_71 : decode cX2_name 71 = .ok (.getfield 32, 3) := dk_180 0 32 (dk_at dksX2_name_3 0 rfl rfl)
theorem dX2_name_74 : decode cX2_name 74 = .ok (.iconst 1, 1) := dk_4 (dk_at dksX2_name_3 3 rfl rfl)
theorem dX2_name_75 : decode cX2_name 75 = .ok (.iaload, 1) := dk_46 (dk_at dksX2_name_3 4 rfl rfl)
theorem dX2_name_76 : decode cX2_name 76 = .ok (.invokevirtual 308, 3) := dk_182 1 52 (dk_at dksX2_name_3 5 rfl rfl)
theorem dX2_name_79 : decode cX2_name 79 = .ok (.iastore, 1) := dk_79 (dk_at dksX2_name_3 8 rfl rfl)
theorem dX2_name_80 : decode cX2_name 80 = .ok (.aload_n 0, 1) := dk_42 (dk_at dksX2_name_3 9 rfl rfl)
theorem dX2_name_81 : decode cX2_name 81 = .ok (.getfield 32, 3) := dk_180 0 32 (dk_at dksX2_name_3 10 rfl rfl)
theorem dX2_name_84 : decode cX2_name 84 = .ok (.bipush 7, 2) := dk_16 7 (dk_at dksX2_name_3 13 rfl rfl)
theorem dX2_name_86 : decode cX2_name 86 = .ok (.aload_n 0, 1) := dk_42 (dk_at dksX2_name_3 15 rfl rfl)
theorem dX2_name_87 : decode cX2_name 87 = .ok (.iload_n 1, 1) := dk_27 (dk_at dksX2_name_3 16 rfl rfl)
theorem dX2_name_88 : decode cX2_name 88 = .ok (.aload_n 0, 1) := dk_42 (dk_at dksX2_name_3 17 rfl rfl)
theorem dX2_name_89 : decode cX2_name 89 = .ok (.getfield 32, 3) := dk_180 0 32 (dk_at dksX2_name_3 18 rfl rfl)
theorem dX2_name_92 : decode cX2_name 92 = .ok (.iconst 1, 1) := dk_4 (dk_at dksX2_name_3 21 rfl rfl)
theorem dX2_name_93 : decode cX2_name 93 = .ok (.iaload, 1) := dk_46 (dk_at dksX2_name_3 22 rfl rfl)
theorem dX2_name_94 : decode cX2_name 94 = .ok (.invokevirtual 311, 3) := dk_182 1 55 (dk_at dksX2_name_4 0 rfl rfl)
theorem dX2_name_97 : decode cX2_name 97 = .ok (.iastore, 1) := dk_79 (dk_at dksX2_name_4 3 rfl rfl)
theorem dX2_name_98 : decode cX2_name 98 = .ok (.return_, 1) := dk_177 (dk_at dksX2_name_4 4 rfl rfl)
abbrev cX2_bits : ByteArray := prog_19_method_6_code
def yX2_bits : MethodName := ⟨RX2, "bits", "(I)I"⟩
def dkwX2_bits_0 : List UInt8 := [3, 60, 26, 61, 28, 153, 0, 15, 132, 1, 1, 28, 28, 4, 100, 126, 61, 167, 255, 243, 27, 172]
abbrev dktX2_bits_0 : List UInt8 := dkwX2_bits_0 ++ []
theorem dksX2_bits_0 : cX2_bits.data.toList.drop 0 = dktX2_bits_0 := by decide +kernel
theorem dX2_bits_0 : decode cX2_bits 0 = .ok (.iconst 0, 1) := dk_3 (dk_at dksX2_bits_0 0 rfl rfl)
theorem dX2_bits_1 : decode cX2_bits 1 = .ok (.istore_n 1, 1) := dk_60 (dk_at dksX2_bits_0 1 rfl rfl)
theorem dX2_bits_2 : decode cX2_bits 2 = .ok (.iload_n 0, 1) := dk_26 (dk_at dksX2_bits_0 2 rfl rfl)
theorem dX2_bits_3 : decode cX2_bits 3 = .ok (.istore_n 2, 1) := dk_61 (dk_at dksX2_bits_0 3 rfl rfl)
theorem dX2_bits_4 : decode cX2_bits 4 = .ok (.iload_n 2, 1) := dk_28 (dk_at dksX2_bits_0 4 rfl rfl)
theorem dX2_bits_5 : decode cX2_bits 5 = .ok (.ifCond .eq 15, 3) := dk_153 0 15 (dk_at dksX2_bits_0 5 rfl rfl)
theorem dX2_bits_8 : decode cX2_bits 8 = .ok (.iinc 1 1, 3) := dk_132 1 1 (dk_at dksX2_bits_0 8 rfl rfl)
theorem dX2_bits_11 : decode cX2_bits 11 = .ok (.iload_n 2, 1) := dk_28 (dk_at dksX2_bits_0 11 rfl rfl)
theorem dX2_bits_12 : decode cX2_bits 12 = .ok (.iload_n 2, 1) := dk_28 (dk_at dksX2_bits_0 12 rfl rfl)
theorem dX2_bits_13 : decode cX2_bits 13 = .ok (.iconst 1, 1) := dk_4 (dk_at dksX2_bits_0 13 rfl rfl)
theorem dX2_bits_14 : decode cX2_bits 14 = .ok (.isub, 1) := dk_100 (dk_at dksX2_bits_0 14 rfl rfl)
theorem dX2_bits_15 : decode cX2_bits 15 = .ok (.iand, 1) := dk_126 (dk_at dksX2_bits_0 15 rfl rfl)
theorem dX2_bits_16 : decode cX2_bits 16 = .ok (.istore_n 2, 1) := dk_61 (dk_at dksX2_bits_0 16 rfl rfl)
theorem dX2_bits_17 : decode cX2_bits 17 = .ok (.goto (-13), 3) := dk_167 255 243 (dk_at dksX2_bits_0 17 rfl rfl)
theorem dX2_bits_20 : decode cX2_bits 20 = .ok (.iload_n 1, 1) := dk_27 (dk_at dksX2_bits_0 20 rfl rfl)
theorem dX2_bits_21 : decode cX2_bits 21 = .ok (.ireturn, 1) := dk_172 (dk_at dksX2_bits_0 21 rfl rfl)
abbrev cX2_openOn : ByteArray := prog_19_method_65_code
def yX2_openOn : MethodName := ⟨RX2, "openOn", "(I)I"⟩
def dkwX2_openOn_1 : List UInt8 := [4, 167, 0, 4, 3, 96, 61, 132, 3, 1, 167, 255, 226, 28, 172]
abbrev dktX2_openOn_1 : List UInt8 := dkwX2_openOn_1 ++ []
def dkwX2_openOn_0 : List UInt8 := [3, 61, 3, 62, 29, 42, 180, 0, 7, 3, 46, 162, 0, 26, 28, 42, 29, 27, 182, 1, 46, 153, 0, 7]
abbrev dktX2_openOn_0 : List UInt8 := dkwX2_openOn_0 ++ dktX2_openOn_1
theorem dksX2_openOn_0 : cX2_openOn.data.toList.drop 0 = dktX2_openOn_0 := by decide +kernel
theorem dksX2_openOn_1 : cX2_openOn.data.toList.drop 24 = dktX2_openOn_1 := dk_seg dksX2_openOn_0 24 rfl rfl
theorem dX2_openOn_0 : decode cX2_openOn 0 = .ok (.iconst 0, 1) := dk_3 (dk_at dksX2_openOn_0 0 rfl rfl)
theorem dX2_openOn_1 : decode cX2_openOn 1 = .ok (.istore_n 2, 1) := dk_61 (dk_at dksX2_openOn_0 1 rfl rfl)
theorem dX2_openOn_2 : decode cX2_openOn 2 = .ok (.iconst 0, 1) := dk_3 (dk_at dksX2_openOn_0 2 rfl rfl)
theorem dX2_openOn_3 : decode cX2_openOn 3 = .ok (.istore_n 3, 1) := dk_62 (dk_at dksX2_openOn_0 3 rfl rfl)
theorem dX2_openOn_4 : decode cX2_openOn 4 = .ok (.iload_n 3, 1) := dk_29 (dk_at dksX2_openOn_0 4 rfl rfl)
theorem dX2_openOn_5 : decode cX2_openOn 5 = .ok (.aload_n 0, 1) := dk_42 (dk_at dksX2_openOn_0 5 rfl rfl)
theorem dX2_openOn_6 : decode cX2_openOn 6 = .ok (.getfield 7, 3) := dk_180 0 7 (dk_at dksX2_openOn_0 6 rfl rfl)
theorem dX2_openOn_9 : decode cX2_openOn 9 = .ok (.iconst 0, 1) := dk_3 (dk_at dksX2_openOn_0 9 rfl rfl)
theorem dX2_openOn_10 : decode cX2_openOn 10 = .ok (.iaload, 1) := dk_46 (dk_at dksX2_openOn_0 10 rfl rfl)
theorem dX2_openOn_11 : decode cX2_openOn 11 = .ok (.if_icmp .ge 26, 3) := dk_162 0 26 (dk_at dksX2_openOn_0 11 rfl rfl)
theorem dX2_openOn_14 : decode cX2_openOn 14 = .ok (.iload_n 2, 1) := dk_28 (dk_at dksX2_openOn_0 14 rfl rfl)
theorem dX2_openOn_15 : decode cX2_openOn 15 = .ok (.aload_n 0, 1) := dk_42 (dk_at dksX2_openOn_0 15 rfl rfl)
theorem dX2_openOn_16 : decode cX2_openOn 16 = .ok (.iload_n 3, 1) := dk_29 (dk_at dksX2_openOn_0 16 rfl rfl)
theorem dX2_openOn_17 : decode cX2_openOn 17 = .ok (.iload_n 1, 1) := dk_27 (dk_at dksX2_openOn_0 17 rfl rfl)
theorem dX2_openOn_18 : decode cX2_openOn 18 = .ok (.invokevirtual 302, 3) := dk_182 1 46 (dk_at dksX2_openOn_0 18 rfl rfl)
theorem dX2_openOn_21 : decode cX2_openOn 21 = .ok (.ifCond .eq 7, 3) := dk_153 0 7 (dk_at dksX2_openOn_0 21 rfl rfl)
theorem dX2_openOn_24 : decode cX2_openOn 24 = .ok (.iconst 1, 1) := dk_4 (dk_at dksX2_openOn_1 0 rfl rfl)
theorem dX2_openOn_25 : decode cX2_openOn 25 = .ok (.goto 4, 3) := dk_167 0 4 (dk_at dksX2_openOn_1 1 rfl rfl)
theorem dX2_openOn_28 : decode cX2_openOn 28 = .ok (.iconst 0, 1) := dk_3 (dk_at dksX2_openOn_1 4 rfl rfl)
theorem dX2_openOn_29 : decode cX2_openOn 29 = .ok (.iadd, 1) := dk_96 (dk_at dksX2_openOn_1 5 rfl rfl)
theorem dX2_openOn_30 : decode cX2_openOn 30 = .ok (.istore_n 2, 1) := dk_61 (dk_at dksX2_openOn_1 6 rfl rfl)
theorem dX2_openOn_31 : decode cX2_openOn 31 = .ok (.iinc 3 1, 3) := dk_132 3 1 (dk_at dksX2_openOn_1 7 rfl rfl)
theorem dX2_openOn_34 : decode cX2_openOn 34 = .ok (.goto (-30), 3) := dk_167 255 226 (dk_at dksX2_openOn_1 10 rfl rfl)
theorem dX2_openOn_37 : decode cX2_openOn 37 = .ok (.iload_n 2, 1) := dk_28 (dk_at dksX2_openOn_1 13 rfl rfl)
theorem dX2_openOn_38 : decode cX2_openOn 38 = .ok (.ireturn, 1) := dk_172 (dk_at dksX2_openOn_1 14 rfl rfl)
abbrev cX2_isOpen : ByteArray := prog_19_method_11_code
def yX2_isOpen : MethodName := ⟨RX2, "isOpen", "(II)Z"⟩
def dkwX2_isOpen_1 : List UInt8 := [167, 0, 4, 3, 172]
abbrev dktX2_isOpen_1 : List UInt8 := dkwX2_isOpen_1 ++ []
def dkwX2_isOpen_0 : List UInt8 := [42, 27, 182, 0, 77, 153, 0, 20, 42, 27, 3, 182, 0, 73, 28, 184, 0, 80, 154, 0, 7, 4]
abbrev dktX2_isOpen_0 : List UInt8 := dkwX2_isOpen_0 ++ dktX2_isOpen_1
theorem dksX2_isOpen_0 : cX2_isOpen.data.toList.drop 0 = dktX2_isOpen_0 := by decide +kernel
theorem dksX2_isOpen_1 : cX2_isOpen.data.toList.drop 22 = dktX2_isOpen_1 := dk_seg dksX2_isOpen_0 22 rfl rfl
theorem dX2_isOpen_0 : decode cX2_isOpen 0 = .ok (.aload_n 0, 1) := dk_42 (dk_at dksX2_isOpen_0 0 rfl rfl)
theorem dX2_isOpen_1 : decode cX2_isOpen 1 = .ok (.iload_n 1, 1) := dk_27 (dk_at dksX2_isOpen_0 1 rfl rfl)
theorem dX2_isOpen_2 : decode cX2_isOpen 2 = .ok (.invokevirtual 77, 3) := dk_182 0 77 (dk_at dksX2_isOpen_0 2 rfl rfl)
theorem dX2_isOpen_5 : decode cX2_isOpen 5 = .ok (.ifCond .eq 20, 3) := dk_153 0 20 (dk_at dksX2_isOpen_0 5 rfl rfl)
theorem dX2_isOpen_8 : decode cX2_isOpen 8 = .ok (.aload_n 0, 1) := dk_42 (dk_at dksX2_isOpen_0 8 rfl rfl)
theorem dX2_isOpen_9 : decode cX2_isOpen 9 = .ok (.iload_n 1, 1) := dk_27 (dk_at dksX2_isOpen_0 9 rfl rfl)
theorem dX2_isOpen_10 : decode cX2_isOpen 10 = .ok (.iconst 0, 1) := dk_3 (dk_at dksX2_isOpen_0 10 rfl rfl)
theorem dX2_isOpen_11 : decode cX2_isOpen 11 = .ok (.invokevirtual 73, 3) := dk_182 0 73 (dk_at dksX2_isOpen_0 11 rfl rfl)
theorem dX2_isOpen_14 : decode cX2_isOpen 14 = .ok (.iload_n 2, 1) := dk_28 (dk_at dksX2_isOpen_0 14 rfl rfl)
theorem dX2_isOpen_15 : decode cX2_isOpen 15 = .ok (.invokestatic 80, 3) := dk_184 0 80 (dk_at dksX2_isOpen_0 15 rfl rfl)
theorem dX2_isOpen_18 : decode cX2_isOpen 18 = .ok (.ifCond .ne 7, 3) := dk_154 0 7 (dk_at dksX2_isOpen_0 18 rfl rfl)
theorem dX2_isOpen_21 : decode cX2_isOpen 21 = .ok (.iconst 1, 1) := dk_4 (dk_at dksX2_isOpen_0 21 rfl rfl)
theorem dX2_isOpen_22 : decode cX2_isOpen 22 = .ok (.goto 4, 3) := dk_167 0 4 (dk_at dksX2_isOpen_1 0 rfl rfl)
theorem dX2_isOpen_25 : decode cX2_isOpen 25 = .ok (.iconst 0, 1) := dk_3 (dk_at dksX2_isOpen_1 3 rfl rfl)
theorem dX2_isOpen_26 : decode cX2_isOpen 26 = .ok (.ireturn, 1) := dk_172 (dk_at dksX2_isOpen_1 4 rfl rfl)
abbrev cX2_besideOn : ByteArray := prog_19_method_66_code
def yX2_besideOn : MethodName := ⟨RX2, "besideOn", "(II)I"⟩
def dkwX2_besideOn_1 : List UInt8 := [153, 0, 7, 4, 167, 0, 4, 3, 96, 172]
abbrev dktX2_besideOn_1 : List UInt8 := dkwX2_besideOn_1 ++ []
def dkwX2_besideOn_0 : List UInt8 := [42, 27, 4, 100, 28, 182, 1, 46, 153, 0, 7, 4, 167, 0, 4, 3, 42, 27, 4, 96, 28, 182, 1, 46]
abbrev dktX2_besideOn_0 : List UInt8 := dkwX2_besideOn_0 ++ dktX2_besideOn_1
theorem dksX2_besideOn_0 : cX2_besideOn.data.toList.drop 0 = dktX2_besideOn_0 := by decide +kernel
theorem dksX2_besideOn_1 : cX2_besideOn.data.toList.drop 24 = dktX2_besideOn_1 := dk_seg dksX2_besideOn_0 24 rfl rfl
theorem dX2_besideOn_0 : decode cX2_besideOn 0 = .ok (.aload_n 0, 1) := dk_42 (dk_at dksX2_besideOn_0 0 rfl rfl)
theorem dX2_besideOn_1 : decode cX2_besideOn 1 = .ok (.iload_n 1, 1) := dk_27 (dk_at dksX2_besideOn_0 1 rfl rfl)
theorem dX2_besideOn_2 : decode cX2_besideOn 2 = .ok (.iconst 1, 1) := dk_4 (dk_at dksX2_besideOn_0 2 rfl rfl)
theorem dX2_besideOn_3 : decode cX2_besideOn 3 = .ok (.isub, 1) := dk_100 (dk_at dksX2_besideOn_0 3 rfl rfl)
theorem dX2_besideOn_4 : decode cX2_besideOn 4 = .ok (.iload_n 2, 1) := dk_28 (dk_at dksX2_besideOn_0 4 rfl rfl)
theorem dX2_besideOn_5 : decode cX2_besideOn 5 = .ok (.invokevirtual 302, 3) := dk_182 1 46 (dk_at dksX2_besideOn_0 5 rfl rfl)
theorem dX2_besideOn_8 : decode cX2_besideOn 8 = .ok (.ifCond .eq 7, 3) := dk_153 0 7 (dk_at dksX2_besideOn_0 8 rfl rfl)
theorem dX2_besideOn_11 : decode cX2_besideOn 11 = .ok (.iconst 1, 1) := dk_4 (dk_at dksX2_besideOn_0 11 rfl rfl)
theorem dX2_besideOn_12 : decode cX2_besideOn 12 = .ok (.goto 4, 3) := dk_167 0 4 (dk_at dksX2_besideOn_0 12 rfl rfl)
theorem dX2_besideOn_15 : decode cX2_besideOn 15 = .ok (.iconst 0, 1) := dk_3 (dk_at dksX2_besideOn_0 15 rfl rfl)
theorem dX2_besideOn_16 : decode cX2_besideOn 16 = .ok (.aload_n 0, 1) := dk_42 (dk_at dksX2_besideOn_0 16 rfl rfl)
theorem dX2_besideOn_17 : decode cX2_besideOn 17 = .ok (.iload_n 1, 1) := dk_27 (dk_at dksX2_besideOn_0 17 rfl rfl)
theorem dX2_besideOn_18 : decode cX2_besideOn 18 = .ok (.iconst 1, 1) := dk_4 (dk_at dksX2_besideOn_0 18 rfl rfl)
theorem dX2_besideOn_19 : decode cX2_besideOn 19 = .ok (.iadd, 1) := dk_96 (dk_at dksX2_besideOn_0 19 rfl rfl)
theorem dX2_besideOn_20 : decode cX2_besideOn 20 = .ok (.iload_n 2, 1) := dk_28 (dk_at dksX2_besideOn_0 20 rfl rfl)
theorem dX2_besideOn_21 : decode cX2_besideOn 21 = .ok (.invokevirtual 302, 3) := dk_182 1 46 (dk_at dksX2_besideOn_0 21 rfl rfl)
theorem dX2_besideOn_24 : decode cX2_besideOn 24 = .ok (.ifCond .eq 7, 3) := dk_153 0 7 (dk_at dksX2_besideOn_1 0 rfl rfl)
theorem dX2_besideOn_27 : decode cX2_besideOn 27 = .ok (.iconst 1, 1) := dk_4 (dk_at dksX2_besideOn_1 3 rfl rfl)
theorem dX2_besideOn_28 : decode cX2_besideOn 28 = .ok (.goto 4, 3) := dk_167 0 4 (dk_at dksX2_besideOn_1 4 rfl rfl)
theorem dX2_besideOn_31 : decode cX2_besideOn 31 = .ok (.iconst 0, 1) := dk_3 (dk_at dksX2_besideOn_1 7 rfl rfl)
theorem dX2_besideOn_32 : decode cX2_besideOn 32 = .ok (.iadd, 1) := dk_96 (dk_at dksX2_besideOn_1 8 rfl rfl)
theorem dX2_besideOn_33 : decode cX2_besideOn 33 = .ok (.ireturn, 1) := dk_172 (dk_at dksX2_besideOn_1 9 rfl rfl)
abbrev cX2_work : ByteArray := prog_19_method_62_code
def yX2_work : MethodName := ⟨RX2, "work", "(I)V"⟩
def dkwX2_work_15 : List UInt8 := [100, 51, 42, 180, 0, 39, 21, 5, 51, 184, 1, 33, 84, 132, 6, 1, 167, 254, 188, 177]
abbrev dktX2_work_15 : List UInt8 := dkwX2_work_15 ++ []
def dkwX2_work_14 : List UInt8 := [84, 167, 0, 36, 132, 5, 255, 42, 180, 0, 39, 21, 5, 4, 100, 21, 7, 42, 180, 0, 39, 21, 5, 4]
abbrev dktX2_work_14 : List UInt8 := dkwX2_work_14 ++ dktX2_work_15
def dkwX2_work_13 : List UInt8 := [180, 0, 39, 21, 5, 4, 100, 42, 180, 0, 39, 21, 5, 4, 100, 51, 154, 0, 7, 4, 167, 0, 4, 3]
abbrev dktX2_work_13 : List UInt8 := dkwX2_work_13 ++ dktX2_work_14
def dkwX2_work_12 : List UInt8 := [21, 4, 4, 96, 47, 184, 1, 29, 84, 132, 5, 1, 167, 0, 72, 21, 7, 16, 20, 160, 0, 32, 42]
abbrev dktX2_work_12 : List UInt8 := dkwX2_work_12 ++ dktX2_work_13
def dkwX2_work_11 : List UInt8 := [21, 4, 4, 96, 47, 184, 1, 26, 167, 0, 24, 21, 7, 42, 180, 0, 35, 21, 4, 47, 42, 180, 0, 35]
abbrev dktX2_work_11 : List UInt8 := dkwX2_work_11 ++ dktX2_work_12
def dkwX2_work_10 : List UInt8 := [180, 0, 39, 21, 5, 21, 7, 16, 16, 160, 0, 25, 42, 180, 0, 35, 21, 4, 47, 42, 180, 0, 35]
abbrev dktX2_work_10 : List UInt8 := dkwX2_work_10 ++ dktX2_work_11
def dkwX2_work_9 : List UInt8 := [180, 0, 35, 21, 4, 47, 184, 1, 22, 80, 167, 0, 145, 21, 7, 16, 20, 162, 0, 69, 132, 4, 254, 42]
abbrev dktX2_work_9 : List UInt8 := dkwX2_work_9 ++ dktX2_work_10
def dkwX2_work_8 : List UInt8 := [180, 0, 35, 21, 4, 47, 184, 1, 18, 167, 0, 24, 21, 7, 42, 180, 0, 35, 21, 4, 4, 100, 47, 42]
abbrev dktX2_work_8 : List UInt8 := dkwX2_work_8 ++ dktX2_work_9
def dkwX2_work_7 : List UInt8 := [180, 0, 35, 21, 4, 4, 100, 21, 7, 16, 7, 160, 0, 25, 42, 180, 0, 35, 21, 4, 4, 100, 47, 42]
abbrev dktX2_work_7 : List UInt8 := dkwX2_work_7 ++ dktX2_work_8
def dkwX2_work_6 : List UInt8 := [180, 0, 35, 21, 4, 4, 100, 47, 117, 80, 167, 0, 217, 21, 7, 16, 10, 162, 0, 68, 132, 4, 255, 42]
abbrev dktX2_work_6 : List UInt8 := dkwX2_work_6 ++ dktX2_work_7
def dkwX2_work_5 : List UInt8 := [80, 132, 4, 1, 167, 0, 245, 21, 7, 5, 160, 0, 25, 42, 180, 0, 35, 21, 4, 4, 100, 42]
abbrev dktX2_work_5 : List UInt8 := dkwX2_work_5 ++ dktX2_work_6
def dkwX2_work_4 : List UInt8 := [180, 0, 35, 21, 4, 21, 7, 154, 0, 9, 21, 8, 133, 167, 0, 11, 42, 180, 0, 32, 21, 8, 46, 133]
abbrev dktX2_work_4 : List UInt8 := dkwX2_work_4 ++ dktX2_work_5
def dkwX2_work_3 : List UInt8 := [54, 7, 42, 180, 0, 16, 29, 5, 21, 6, 104, 96, 4, 96, 46, 54, 8, 21, 7, 4, 163, 0, 35, 42]
abbrev dktX2_work_3 : List UInt8 := dkwX2_work_3 ++ dktX2_work_4
def dkwX2_work_2 : List UInt8 := [21, 6, 42, 180, 0, 16, 28, 5, 96, 46, 162, 1, 61, 42, 180, 0, 16, 29, 5, 21, 6, 104, 96, 46]
abbrev dktX2_work_2 : List UInt8 := dkwX2_work_2 ++ dktX2_work_3
def dkwX2_work_1 : List UInt8 := [5, 46, 104, 16, 97, 96, 62, 3, 54, 4, 3, 54, 5, 42, 180, 0, 16, 28, 4, 96, 46, 54, 6]
abbrev dktX2_work_1 : List UInt8 := dkwX2_work_1 ++ dktX2_work_2
def dkwX2_work_0 : List UInt8 := [17, 2, 193, 42, 180, 0, 7, 5, 46, 104, 4, 96, 7, 27, 104, 96, 61, 17, 2, 193, 42, 180, 0, 7]
abbrev dktX2_work_0 : List UInt8 := dkwX2_work_0 ++ dktX2_work_1
theorem dksX2_work_0 : cX2_work.data.toList.drop 0 = dktX2_work_0 := by decide +kernel
theorem dksX2_work_1 : cX2_work.data.toList.drop 24 = dktX2_work_1 := dk_seg dksX2_work_0 24 rfl rfl
theorem dksX2_work_2 : cX2_work.data.toList.drop 47 = dktX2_work_2 := dk_seg dksX2_work_1 23 rfl rfl
theorem dksX2_work_3 : cX2_work.data.toList.drop 71 = dktX2_work_3 := dk_seg dksX2_work_2 24 rfl rfl
theorem dksX2_work_4 : cX2_work.data.toList.drop 95 = dktX2_work_4 := dk_seg dksX2_work_3 24 rfl rfl
theorem dksX2_work_5 : cX2_work.data.toList.drop 119 = dktX2_work_5 := dk_seg dksX2_work_4 24 rfl rfl
theorem dksX2_work_6 : cX2_work.data.toList.drop 141 = dktX2_work_6 := dk_seg dksX2_work_5 22 rfl rfl
theorem dksX2_work_7 : cX2_work.data.toList.drop 165 = dktX2_work_7 := dk_seg dksX2_work_6 24 rfl rfl
theorem dksX2_work_8 : cX2_work.data.toList.drop 189 = dktX2_work_8 := dk_seg dksX2_work_7 24 rfl rfl
theorem dksX2_work_9 : cX2_work.data.toList.drop 213 = dktX2_work_9 := dk_seg dksX2_work_8 24 rfl rfl
theorem dksX2_work_10 : cX2_work.data.toList.drop 237 = dktX2_work_10 := dk_seg dksX2_work_9 24 rfl rfl
theorem dksX2_work_11 : cX2_work.data.toList.drop 260 = dktX2_work_11 := dk_seg dksX2_work_10 23 rfl rfl
theorem dksX2_work_12 : cX2_work.data.toList.drop 284 = dktX2_work_12 := dk_seg dksX2_work_11 24 rfl rfl
theorem dksX2_work_13 : cX2_work.data.toList.drop 307 = dktX2_work_13 := dk_seg dksX2_work_12 23 rfl rfl
theorem dksX2_work_14 : cX2_work.data.toList.drop 331 = dktX2_work_14 := dk_seg dksX2_work_13 24 rfl rfl
theorem dksX2_work_15 : cX2_work.data.toList.drop 355 = dktX2_work_15 := dk_seg dksX2_work_14 24 rfl rfl
theorem dX2_work_0 : decode cX2_work 0 = .ok (.sipush 705, 3) := dk_17 2 193 (dk_at dksX2_work_0 0 rfl rfl)
theorem dX2_work_3 : decode cX2_work 3 = .ok (.aload_n 0, 1) := dk_42 (dk_at dksX2_work_0 3 rfl rfl)
theorem dX2_work_4 : decode cX2_work 4 = .ok (.getfield 7, 3) := dk_180 0 7 (dk_at dksX2_work_0 4 rfl rfl)
theorem dX2_work_7 : decode cX2_work 7 = .ok (.iconst 2, 1) := dk_5 (dk_at dksX2_work_0 7 rfl rfl)
theorem dX2_work_8 : decode cX2_work 8 = .ok (.iaload, 1) := dk_46 (dk_at dksX2_work_0 8 rfl rfl)
theorem dX2_work_9 : decode cX2_work 9 = .ok (.imul, 1) := dk_104 (dk_at dksX2_work_0 9 rfl rfl)
theorem dX2_work_10 : decode cX2_work 10 = .ok (.iconst 1, 1) := dk_4 (dk_at dksX2_work_0 10 rfl rfl)
theorem dX2_work_11 : decode cX2_work 11 = .ok (.iadd, 1) := dk_96 (dk_at dksX2_work_0 11 rfl rfl)
theorem dX2_work_12 : decode cX2_work 12 = .ok (.iconst 4, 1) := dk_7 (dk_at dksX2_work_0 12 rfl rfl)
theorem dX2_work_13 : decode cX2_work 13 = .ok (.iload_n 1, 1) := dk_27 (dk_at dksX2_work_0 13 rfl rfl)
theorem dX2_work_14 : decode cX2_work 14 = .ok (.imul, 1) := dk_104 (dk_at dksX2_work_0 14 rfl rfl)
theorem dX2_work_15 : decode cX2_work 15 = .ok (.iadd, 1) := dk_96 (dk_at dksX2_work_0 15 rfl rfl)
theorem dX2_work_16 : decode cX2_work 16 = .ok (.istore_n 2, 1) := dk_61 (dk_at dksX2_work_0 16 rfl rfl)
theorem dX2_work_17 : decode cX2_work 17 = .ok (.sipush 705, 3) := dk_17 2 193 (dk_at dksX2_work_0 17 rfl rfl)
theorem dX2_work_20 : decode cX2_work 20 = .ok (.aload_n 0, 1) := dk_42 (dk_at dksX2_work_0 20 rfl rfl)
theorem dX2_work_21 : decode cX2_work 21 = .ok (.getfield 7, 3) := dk_180 0 7 (dk_at dksX2_work_0 21 rfl rfl)
theorem dX2_work_24 : decode cX2_work 24 = .ok (.iconst 2, 1) := dk_5 (dk_at dksX2_work_1 0 rfl rfl)
theorem dX2_work_25 : decode cX2_work 25 = .ok (.iaload, 1) := dk_46 (dk_at dksX2_work_1 1 rfl rfl)
theorem dX2_work_26 : decode cX2_work 26 = .ok (.imul, 1) := dk_104 (dk_at dksX2_work_1 2 rfl rfl)
theorem dX2_work_27 : decode cX2_work 27 = .ok (.bipush 97, 2) := dk_16 97 (dk_at dksX2_work_1 3 rfl rfl)
theorem dX2_work_29 : decode cX2_work 29 = .ok (.iadd, 1) := dk_96 (dk_at dksX2_work_1 5 rfl rfl)
theorem dX2_work_30 : decode cX2_work 30 = .ok (.istore_n 3, 1) := dk_62 (dk_at dksX2_work_1 6 rfl rfl)
theorem dX2_work_31 : decode cX2_work 31 = .ok (.iconst 0, 1) := dk_3 (dk_at dksX2_work_1 7 rfl rfl)
theorem dX2_work_32 : decode cX2_work 32 = .ok (.istore 4, 2) := dk_54 4 (dk_at dksX2_work_1 8 rfl rfl)
theorem dX2_work_34 : decode cX2_work 34 = .ok (.iconst 0, 1) := dk_3 (dk_at dksX2_work_1 10 rfl rfl)
theorem dX2_work_35 : decode cX2_work 35 = .ok (.istore 5, 2) := dk_54 5 (dk_at dksX2_work_1 11 rfl rfl)
theorem dX2_work_37 : decode cX2_work 37 = .ok (.aload_n 0, 1) := dk_42 (dk_at dksX2_work_1 13 rfl rfl)
theorem dX2_work_38 : decode cX2_work 38 = .ok (.getfield 16, 3) := dk_180 0 16 (dk_at dksX2_work_1 14 rfl rfl)
theorem dX2_work_41 : decode cX2_work 41 = .ok (.iload_n 2, 1) := dk_28 (dk_at dksX2_work_1 17 rfl rfl)
theorem dX2_work_42 : decode cX2_work 42 = .ok (.iconst 1, 1) := dk_4 (dk_at dksX2_work_1 18 rfl rfl)
theorem dX2_work_43 : decode cX2_work 43 = .ok (.iadd, 1) := dk_96 (dk_at dksX2_work_1 19 rfl rfl)
theorem dX2_work_44 : decode cX2_work 44 = .ok (.iaload, 1) := dk_46 (dk_at dksX2_work_1 20 rfl rfl)
theorem dX2_work_45 : decode cX2_work 45 = .ok (.istore 6, 2) := dk_54 6 (dk_at dksX2_work_1 21 rfl rfl)
theorem dX2_work_47 : decode cX2_work 47 = .ok (.iload 6, 2) := dk_21 6 (dk_at dksX2_work_2 0 rfl rfl)
theorem dX2_work_49 : decode cX2_work 49 = .ok (.aload_n 0, 1) := dk_42 (dk_at dksX2_work_2 2 rfl rfl)
theorem dX2_work_50 : decode cX2_work 50 = .ok (.getfield 16, 3) := dk_180 0 16 (dk_at dksX2_work_2 3 rfl rfl)
theorem dX2_work_53 : decode cX2_work 53 = .ok (.iload_n 2, 1) := dk_28 (dk_at dksX2_work_2 6 rfl rfl)
theorem dX2_work_54 : decode cX2_work 54 = .ok (.iconst 2, 1) := dk_5 (dk_at dksX2_work_2 7 rfl rfl)
theorem dX2_work_55 : decode cX2_work 55 = .ok (.iadd, 1) := dk_96 (dk_at dksX2_work_2 8 rfl rfl)
theorem dX2_work_56 : decode cX2_work 56 = .ok (.iaload, 1) := dk_46 (dk_at dksX2_work_2 9 rfl rfl)
theorem dX2_work_57 : decode cX2_work 57 = .ok (.if_icmp .ge 317, 3) := dk_162 1 61 (dk_at dksX2_work_2 10 rfl rfl)
theorem dX2_work_60 : decode cX2_work 60 = .ok (.aload_n 0, 1) := dk_42 (dk_at dksX2_work_2 13 rfl rfl)
theorem dX2_work_61 : decode cX2_work 61 = .ok (.getfield 16, 3) := dk_180 0 16 (dk_at dksX2_work_2 14 rfl rfl)
theorem dX2_work_64 : decode cX2_work 64 = .ok (.iload_n 3, 1) := dk_29 (dk_at dksX2_work_2 17 rfl rfl)
theorem dX2_work_65 : decode cX2_work 65 = .ok (.iconst 2, 1) := dk_5 (dk_at dksX2_work_2 18 rfl rfl)
theorem dX2_work_66 : decode cX2_work 66 = .ok (.iload 6, 2) := dk_21 6 (dk_at dksX2_work_2 19 rfl rfl)
theorem dX2_work_68 : decode cX2_work 68 = .ok (.imul, 1) := dk_104 (dk_at dksX2_work_2 21 rfl rfl)
theorem dX2_work_69 : decode cX2_work 69 = .ok (.iadd, 1) := dk_96 (dk_at dksX2_work_2 22 rfl rfl)
theorem dX2_work_70 : decode cX2_work 70 = .ok (.iaload, 1) := dk_46 (dk_at dksX2_work_2 23 rfl rfl)
theorem dX2_work_71 : decode cX2_work 71 = .ok (.istore 7, 2) := dk_54 7 (dk_at dksX2_work_3 0 rfl rfl)
theorem dX2_work_73 : decode cX2_work 73 = .ok (.aload_n 0, 1) := dk_42 (dk_at dksX2_work_3 2 rfl rfl)
theorem dX2_work_74 : decode cX2_work 74 = .ok (.getfield 16, 3) := dk_180 0 16 (dk_at dksX2_work_3 3 rfl rfl)
theorem dX2_work_77 : decode cX2_work 77 = .ok (.iload_n 3, 1) := dk_29 (dk_at dksX2_work_3 6 rfl rfl)
theorem dX2_work_78 : decode cX2_work 78 = .ok (.iconst 2, 1) := dk_5 (dk_at dksX2_work_3 7 rfl rfl)
theorem dX2_work_79 : decode cX2_work 79 = .ok (.iload 6, 2) := dk_21 6 (dk_at dksX2_work_3 8 rfl rfl)
theorem dX2_work_81 : decode cX2_work 81 = .ok (.imul, 1) := dk_104 (dk_at dksX2_work_3 10 rfl rfl)
theorem dX2_work_82 : decode cX2_work 82 = .ok (.iadd, 1) := dk_96 (dk_at dksX2_work_3 11 rfl rfl)
theorem dX2_work_83 : decode cX2_work 83 = .ok (.iconst 1, 1) := dk_4 (dk_at dksX2_work_3 12 rfl rfl)
theorem dX2_work_84 : decode cX2_work 84 = .ok (.iadd, 1) := dk_96 (dk_at dksX2_work_3 13 rfl rfl)
theorem dX2_work_85 : decode cX2_work 85 = .ok (.iaload, 1) := dk_46 (dk_at dksX2_work_3 14 rfl rfl)
theorem dX2_work_86 : decode cX2_work 86 = .ok (.istore 8, 2) := dk_54 8 (dk_at dksX2_work_3 15 rfl rfl)
theorem dX2_work_88 : decode cX2_work 88 = .ok (.iload 7, 2) := dk_21 7 (dk_at dksX2_work_3 17 rfl rfl)
theorem dX2_work_90 : decode cX2_work 90 = .ok (.iconst 1, 1) := dk_4 (dk_at dksX2_work_3 19 rfl rfl)
theorem dX2_work_91 : decode cX2_work 91 = .ok (.if_icmp .gt 35, 3) := dk_163 0 35 (dk_at dksX2_work_3 20 rfl rfl)
theorem dX2_work_94 : decode cX2_work 94 = .ok (.aload_n 0, 1) := dk_42 (dk_at dksX2_work_3 23 rfl rfl)
theorem dX2_work_95 : decode cX2_work 95 = .ok (.getfield 35, 3) := dk_180 0 35 (dk_at dksX2_work_4 0 rfl rfl)
theorem dX2_work_98 : decode cX2_work 98 = .ok (.iload 4, 2) := dk_21 4 (dk_at dksX2_work_4 3 rfl rfl)
theorem dX2_work_100 : decode cX2_work 100 = .ok (.iload 7, 2) := dk_21 7 (dk_at dksX2_work_4 5 rfl rfl)
theorem dX2_work_102 : decode cX2_work 102 = .ok (.ifCond .ne 9, 3) := dk_154 0 9 (dk_at dksX2_work_4 7 rfl rfl)
theorem dX2_work_105 : decode cX2_work 105 = .ok (.iload 8, 2) := dk_21 8 (dk_at dksX2_work_4 10 rfl rfl)
theorem dX2_work_107 : decode cX2_work 107 = .ok (.i2l, 1) := dk_133 (dk_at dksX2_work_4 12 rfl rfl)
theorem dX2_work_108 : decode cX2_work 108 = .ok (.goto 11, 3) := dk_167 0 11 (dk_at dksX2_work_4 13 rfl rfl)
theorem dX2_work_111 : decode cX2_work 111 = .ok (.aload_n 0, 1) := dk_42 (dk_at dksX2_work_4 16 rfl rfl)
theorem dX2_work_112 : decode cX2_work 112 = .ok (.getfield 32, 3) := dk_180 0 32 (dk_at dksX2_work_4 17 rfl rfl)
theorem dX2_work_115 : decode cX2_work 115 = .ok (.iload 8, 2) := dk_21 8 (dk_at dksX2_work_4 20 rfl rfl)
theorem dX2_work_117 : decode cX2_work 117 = .ok (.iaload, 1) := dk_46 (dk_at dksX2_work_4 22 rfl rfl)
theorem dX2_work_118 : decode cX2_work 118 = .ok (.i2l, 1) := dk_133 (dk_at dksX2_work_4 23 rfl rfl)
theorem dX2_work_119 : decode cX2_work 119 = .ok (.lastore, 1) := dk_80 (dk_at dksX2_work_5 0 rfl rfl)
theorem dX2_work_120 : decode cX2_work 120 = .ok (.iinc 4 1, 3) := dk_132 4 1 (dk_at dksX2_work_5 1 rfl rfl)
theorem dX2_work_123 : decode cX2_work 123 = .ok (.goto 245, 3) := dk_167 0 245 (dk_at dksX2_work_5 4 rfl rfl)
theorem dX2_work_126 : decode cX2_work 126 = .ok (.iload 7, 2) := dk_21 7 (dk_at dksX2_work_5 7 rfl rfl)
theorem dX2_work_128 : decode cX2_work 128 = .ok (.iconst 2, 1) := dk_5 (dk_at dksX2_work_5 9 rfl rfl)
theorem dX2_work_129 : decode cX2_work 129 = .ok (.if_icmp .ne 25, 3) := dk_160 0 25 (dk_at dksX2_work_5 10 rfl rfl)
theorem dX2_work_132 : decode cX2_work 132 = .ok (.aload_n 0, 1) := dk_42 (dk_at dksX2_work_5 13 rfl rfl)
theorem dX2_work_133 : decode cX2_work 133 = .ok (.getfield 35, 3) := dk_180 0 35 (dk_at dksX2_work_5 14 rfl rfl)
theorem dX2_work_136 : decode cX2_work 136 = .ok (.iload 4, 2) := dk_21 4 (dk_at dksX2_work_5 17 rfl rfl)
theorem dX2_work_138 : decode cX2_work 138 = .ok (.iconst 1, 1) := dk_4 (dk_at dksX2_work_5 19 rfl rfl)
theorem dX2_work_139 : decode cX2_work 139 = .ok (.isub, 1) := dk_100 (dk_at dksX2_work_5 20 rfl rfl)
theorem dX2_work_140 : decode cX2_work 140 = .ok (.aload_n 0, 1) := dk_42 (dk_at dksX2_work_5 21 rfl rfl)
theorem dX2_work_141 : decode cX2_work 141 = .ok (.getfield 35, 3) := dk_180 0 35 (dk_at dksX2_work_6 0 rfl rfl)
theorem dX2_work_144 : decode cX2_work 144 = .ok (.iload 4, 2) := dk_21 4 (dk_at dksX2_work_6 3 rfl rfl)
theorem dX2_work_146 : decode cX2_work 146 = .ok (.iconst 1, 1) := dk_4 (dk_at dksX2_work_6 5 rfl rfl)
theorem dX2_work_147 : decode cX2_work 147 = .ok (.isub, 1) := dk_100 (dk_at dksX2_work_6 6 rfl rfl)
theorem dX2_work_148 : decode cX2_work 148 = .ok (.laload, 1) := dk_47 (dk_at dksX2_work_6 7 rfl rfl)
theorem dX2_work_149 : decode cX2_work 149 = .ok (.lneg, 1) := dk_117 (dk_at dksX2_work_6 8 rfl rfl)
theorem dX2_work_150 : decode cX2_work 150 = .ok (.lastore, 1) := dk_80 (dk_at dksX2_work_6 9 rfl rfl)
theorem dX2_work_151 : decode cX2_work 151 = .ok (.goto 217, 3) := dk_167 0 217 (dk_at dksX2_work_6 10 rfl rfl)
theorem dX2_work_154 : decode cX2_work 154 = .ok (.iload 7, 2) := dk_21 7 (dk_at dksX2_work_6 13 rfl rfl)
theorem dX2_work_156 : decode cX2_work 156 = .ok (.bipush 10, 2) := dk_16 10 (dk_at dksX2_work_6 15 rfl rfl)
theorem dX2_work_158 : decode cX2_work 158 = .ok (.if_icmp .ge 68, 3) := dk_162 0 68 (dk_at dksX2_work_6 17 rfl rfl)
theorem dX2_work_161 : decode cX2_work 161 = .ok (.iinc 4 (-1), 3) := dk_132 4 255 (dk_at dksX2_work_6 20 rfl rfl)
theorem dX2_work_164 : decode cX2_work 164 = .ok (.aload_n 0, 1) := dk_42 (dk_at dksX2_work_6 23 rfl rfl)
theorem dX2_work_165 : decode cX2_work 165 = .ok (.getfield 35, 3) := dk_180 0 35 (dk_at dksX2_work_7 0 rfl rfl)
theorem dX2_work_168 : decode cX2_work 168 = .ok (.iload 4, 2) := dk_21 4 (dk_at dksX2_work_7 3 rfl rfl)
theorem dX2_work_170 : decode cX2_work 170 = .ok (.iconst 1, 1) := dk_4 (dk_at dksX2_work_7 5 rfl rfl)
theorem dX2_work_171 : decode cX2_work 171 = .ok (.isub, 1) := dk_100 (dk_at dksX2_work_7 6 rfl rfl)
theorem dX2_work_172 : decode cX2_work 172 = .ok (.iload 7, 2) := dk_21 7 (dk_at dksX2_work_7 7 rfl rfl)
theorem dX2_work_174 : decode cX2_work 174 = .ok (.bipush 7, 2) := dk_16 7 (dk_at dksX2_work_7 9 rfl rfl)
theorem dX2_work_176 : decode cX2_work 176 = .ok (.if_icmp .ne 25, 3) := dk_160 0 25 (dk_at dksX2_work_7 11 rfl rfl)
theorem dX2_work_179 : decode cX2_work 179 = .ok (.aload_n 0, 1) := dk_42 (dk_at dksX2_work_7 14 rfl rfl)
theorem dX2_work_180 : decode cX2_work 180 = .ok (.getfield 35, 3) := dk_180 0 35 (dk_at dksX2_work_7 15 rfl rfl)
theorem dX2_work_183 : decode cX2_work 183 = .ok (.iload 4, 2) := dk_21 4 (dk_at dksX2_work_7 18 rfl rfl)
theorem dX2_work_185 : decode cX2_work 185 = .ok (.iconst 1, 1) := dk_4 (dk_at dksX2_work_7 20 rfl rfl)
theorem dX2_work_186 : decode cX2_work 186 = .ok (.isub, 1) := dk_100 (dk_at dksX2_work_7 21 rfl rfl)
theorem dX2_work_187 : decode cX2_work 187 = .ok (.laload, 1) := dk_47 (dk_at dksX2_work_7 22 rfl rfl)
theorem dX2_work_188 : decode cX2_work 188 = .ok (.aload_n 0, 1) := dk_42 (dk_at dksX2_work_7 23 rfl rfl)
theorem dX2_work_189 : decode cX2_work 189 = .ok (.getfield 35, 3) := dk_180 0 35 (dk_at dksX2_work_8 0 rfl rfl)
theorem dX2_work_192 : decode cX2_work 192 = .ok (.iload 4, 2) := dk_21 4 (dk_at dksX2_work_8 3 rfl rfl)
theorem dX2_work_194 : decode cX2_work 194 = .ok (.laload, 1) := dk_47 (dk_at dksX2_work_8 5 rfl rfl)
theorem dX2_work_195 : decode cX2_work 195 = .ok (.invokestatic 274, 3) := dk_184 1 18 (dk_at dksX2_work_8 6 rfl rfl)
theorem dX2_work_198 : decode cX2_work 198 = .ok (.goto 24, 3) := dk_167 0 24 (dk_at dksX2_work_8 9 rfl rfl)
theorem dX2_work_201 : decode cX2_work 201 = .ok (.iload 7, 2) := dk_21 7 (dk_at dksX2_work_8 12 rfl rfl)
theorem dX2_work_203 : decode cX2_work 203 = .ok (.aload_n 0, 1) := dk_42 (dk_at dksX2_work_8 14 rfl rfl)
theorem dX2_work_204 : decode cX2_work 204 = .ok (.getfield 35, 3) := dk_180 0 35 (dk_at dksX2_work_8 15 rfl rfl)
theorem dX2_work_207 : decode cX2_work 207 = .ok (.iload 4, 2) := dk_21 4 (dk_at dksX2_work_8 18 rfl rfl)
theorem dX2_work_209 : decode cX2_work 209 = .ok (.iconst 1, 1) := dk_4 (dk_at dksX2_work_8 20 rfl rfl)
theorem dX2_work_210 : decode cX2_work 210 = .ok (.isub, 1) := dk_100 (dk_at dksX2_work_8 21 rfl rfl)
theorem dX2_work_211 : decode cX2_work 211 = .ok (.laload, 1) := dk_47 (dk_at dksX2_work_8 22 rfl rfl)
theorem dX2_work_212 : decode cX2_work 212 = .ok (.aload_n 0, 1) := dk_42 (dk_at dksX2_work_8 23 rfl rfl)
theorem dX2_work_213 : decode cX2_work 213 = .ok (.getfield 35, 3) := dk_180 0 35 (dk_at dksX2_work_9 0 rfl rfl)
theorem dX2_work_216 : decode cX2_work 216 = .ok (.iload 4, 2) := dk_21 4 (dk_at dksX2_work_9 3 rfl rfl)
theorem dX2_work_218 : decode cX2_work 218 = .ok (.laload, 1) := dk_47 (dk_at dksX2_work_9 5 rfl rfl)
theorem dX2_work_219 : decode cX2_work 219 = .ok (.invokestatic 278, 3) := dk_184 1 22 (dk_at dksX2_work_9 6 rfl rfl)
theorem dX2_work_222 : decode cX2_work 222 = .ok (.lastore, 1) := dk_80 (dk_at dksX2_work_9 9 rfl rfl)
theorem dX2_work_223 : decode cX2_work 223 = .ok (.goto 145, 3) := dk_167 0 145 (dk_at dksX2_work_9 10 rfl rfl)
theorem dX2_work_226 : decode cX2_work 226 = .ok (.iload 7, 2) := dk_21 7 (dk_at dksX2_work_9 13 rfl rfl)
theorem dX2_work_228 : decode cX2_work 228 = .ok (.bipush 20, 2) := dk_16 20 (dk_at dksX2_work_9 15 rfl rfl)
theorem dX2_work_230 : decode cX2_work 230 = .ok (.if_icmp .ge 69, 3) := dk_162 0 69 (dk_at dksX2_work_9 17 rfl rfl)
theorem dX2_work_233 : decode cX2_work 233 = .ok (.iinc 4 (-2), 3) := dk_132 4 254 (dk_at dksX2_work_9 20 rfl rfl)
theorem dX2_work_236 : decode cX2_work 236 = .ok (.aload_n 0, 1) := dk_42 (dk_at dksX2_work_9 23 rfl rfl)
theorem dX2_work_237 : decode cX2_work 237 = .ok (.getfield 39, 3) := dk_180 0 39 (dk_at dksX2_work_10 0 rfl rfl)
theorem dX2_work_240 : decode cX2_work 240 = .ok (.iload 5, 2) := dk_21 5 (dk_at dksX2_work_10 3 rfl rfl)
theorem dX2_work_242 : decode cX2_work 242 = .ok (.iload 7, 2) := dk_21 7 (dk_at dksX2_work_10 5 rfl rfl)
theorem dX2_work_244 : decode cX2_work 244 = .ok (.bipush 16, 2) := dk_16 16 (dk_at dksX2_work_10 7 rfl rfl)
theorem dX2_work_246 : decode cX2_work 246 = .ok (.if_icmp .ne 25, 3) := dk_160 0 25 (dk_at dksX2_work_10 9 rfl rfl)
theorem dX2_work_249 : decode cX2_work 249 = .ok (.aload_n 0, 1) := dk_42 (dk_at dksX2_work_10 12 rfl rfl)
theorem dX2_work_250 : decode cX2_work 250 = .ok (.getfield 35, 3) := dk_180 0 35 (dk_at dksX2_work_10 13 rfl rfl)
theorem dX2_work_253 : decode cX2_work 253 = .ok (.iload 4, 2) := dk_21 4 (dk_at dksX2_work_10 16 rfl rfl)
theorem dX2_work_255 : decode cX2_work 255 = .ok (.laload, 1) := dk_47 (dk_at dksX2_work_10 18 rfl rfl)
theorem dX2_work_256 : decode cX2_work 256 = .ok (.aload_n 0, 1) := dk_42 (dk_at dksX2_work_10 19 rfl rfl)
theorem dX2_work_257 : decode cX2_work 257 = .ok (.getfield 35, 3) := dk_180 0 35 (dk_at dksX2_work_10 20 rfl rfl)
theorem dX2_work_260 : decode cX2_work 260 = .ok (.iload 4, 2) := dk_21 4 (dk_at dksX2_work_11 0 rfl rfl)
theorem dX2_work_262 : decode cX2_work 262 = .ok (.iconst 1, 1) := dk_4 (dk_at dksX2_work_11 2 rfl rfl)
theorem dX2_work_263 : decode cX2_work 263 = .ok (.iadd, 1) := dk_96 (dk_at dksX2_work_11 3 rfl rfl)
theorem dX2_work_264 : decode cX2_work 264 = .ok (.laload, 1) := dk_47 (dk_at dksX2_work_11 4 rfl rfl)
theorem dX2_work_265 : decode cX2_work 265 = .ok (.invokestatic 282, 3) := dk_184 1 26 (dk_at dksX2_work_11 5 rfl rfl)
theorem dX2_work_268 : decode cX2_work 268 = .ok (.goto 24, 3) := dk_167 0 24 (dk_at dksX2_work_11 8 rfl rfl)
theorem dX2_work_271 : decode cX2_work 271 = .ok (.iload 7, 2) := dk_21 7 (dk_at dksX2_work_11 11 rfl rfl)
theorem dX2_work_273 : decode cX2_work 273 = .ok (.aload_n 0, 1) := dk_42 (dk_at dksX2_work_11 13 rfl rfl)
theorem dX2_work_274 : decode cX2_work 274 = .ok (.getfield 35, 3) := dk_180 0 35 (dk_at dksX2_work_11 14 rfl rfl)
theorem dX2_work_277 : decode cX2_work 277 = .ok (.iload 4, 2) := dk_21 4 (dk_at dksX2_work_11 17 rfl rfl)
theorem dX2_work_279 : decode cX2_work 279 = .ok (.laload, 1) := dk_47 (dk_at dksX2_work_11 19 rfl rfl)
theorem dX2_work_280 : decode cX2_work 280 = .ok (.aload_n 0, 1) := dk_42 (dk_at dksX2_work_11 20 rfl rfl)
theorem dX2_work_281 : decode cX2_work 281 = .ok (.getfield 35, 3) := dk_180 0 35 (dk_at dksX2_work_11 21 rfl rfl)
theorem dX2_work_284 : decode cX2_work 284 = .ok (.iload 4, 2) := dk_21 4 (dk_at dksX2_work_12 0 rfl rfl)
theorem dX2_work_286 : decode cX2_work 286 = .ok (.iconst 1, 1) := dk_4 (dk_at dksX2_work_12 2 rfl rfl)
theorem dX2_work_287 : decode cX2_work 287 = .ok (.iadd, 1) := dk_96 (dk_at dksX2_work_12 3 rfl rfl)
theorem dX2_work_288 : decode cX2_work 288 = .ok (.laload, 1) := dk_47 (dk_at dksX2_work_12 4 rfl rfl)
theorem dX2_work_289 : decode cX2_work 289 = .ok (.invokestatic 285, 3) := dk_184 1 29 (dk_at dksX2_work_12 5 rfl rfl)
theorem dX2_work_292 : decode cX2_work 292 = .ok (.bastore, 1) := dk_84 (dk_at dksX2_work_12 8 rfl rfl)
theorem dX2_work_293 : decode cX2_work 293 = .ok (.iinc 5 1, 3) := dk_132 5 1 (dk_at dksX2_work_12 9 rfl rfl)
theorem dX2_work_296 : decode cX2_work 296 = .ok (.goto 72, 3) := dk_167 0 72 (dk_at dksX2_work_12 12 rfl rfl)
theorem dX2_work_299 : decode cX2_work 299 = .ok (.iload 7, 2) := dk_21 7 (dk_at dksX2_work_12 15 rfl rfl)
theorem dX2_work_301 : decode cX2_work 301 = .ok (.bipush 20, 2) := dk_16 20 (dk_at dksX2_work_12 17 rfl rfl)
theorem dX2_work_303 : decode cX2_work 303 = .ok (.if_icmp .ne 32, 3) := dk_160 0 32 (dk_at dksX2_work_12 19 rfl rfl)
theorem dX2_work_306 : decode cX2_work 306 = .ok (.aload_n 0, 1) := dk_42 (dk_at dksX2_work_12 22 rfl rfl)
theorem dX2_work_307 : decode cX2_work 307 = .ok (.getfield 39, 3) := dk_180 0 39 (dk_at dksX2_work_13 0 rfl rfl)
theorem dX2_work_310 : decode cX2_work 310 = .ok (.iload 5, 2) := dk_21 5 (dk_at dksX2_work_13 3 rfl rfl)
theorem dX2_work_312 : decode cX2_work 312 = .ok (.iconst 1, 1) := dk_4 (dk_at dksX2_work_13 5 rfl rfl)
theorem dX2_work_313 : decode cX2_work 313 = .ok (.isub, 1) := dk_100 (dk_at dksX2_work_13 6 rfl rfl)
theorem dX2_work_314 : decode cX2_work 314 = .ok (.aload_n 0, 1) := dk_42 (dk_at dksX2_work_13 7 rfl rfl)
theorem dX2_work_315 : decode cX2_work 315 = .ok (.getfield 39, 3) := dk_180 0 39 (dk_at dksX2_work_13 8 rfl rfl)
theorem dX2_work_318 : decode cX2_work 318 = .ok (.iload 5, 2) := dk_21 5 (dk_at dksX2_work_13 11 rfl rfl)
theorem dX2_work_320 : decode cX2_work 320 = .ok (.iconst 1, 1) := dk_4 (dk_at dksX2_work_13 13 rfl rfl)
theorem dX2_work_321 : decode cX2_work 321 = .ok (.isub, 1) := dk_100 (dk_at dksX2_work_13 14 rfl rfl)
theorem dX2_work_322 : decode cX2_work 322 = .ok (.baload, 1) := dk_51 (dk_at dksX2_work_13 15 rfl rfl)
theorem dX2_work_323 : decode cX2_work 323 = .ok (.ifCond .ne 7, 3) := dk_154 0 7 (dk_at dksX2_work_13 16 rfl rfl)
theorem dX2_work_326 : decode cX2_work 326 = .ok (.iconst 1, 1) := dk_4 (dk_at dksX2_work_13 19 rfl rfl)
theorem dX2_work_327 : decode cX2_work 327 = .ok (.goto 4, 3) := dk_167 0 4 (dk_at dksX2_work_13 20 rfl rfl)
theorem dX2_work_330 : decode cX2_work 330 = .ok (.iconst 0, 1) := dk_3 (dk_at dksX2_work_13 23 rfl rfl)
theorem dX2_work_331 : decode cX2_work 331 = .ok (.bastore, 1) := dk_84 (dk_at dksX2_work_14 0 rfl rfl)
theorem dX2_work_332 : decode cX2_work 332 = .ok (.goto 36, 3) := dk_167 0 36 (dk_at dksX2_work_14 1 rfl rfl)
theorem dX2_work_335 : decode cX2_work 335 = .ok (.iinc 5 (-1), 3) := dk_132 5 255 (dk_at dksX2_work_14 4 rfl rfl)
theorem dX2_work_338 : decode cX2_work 338 = .ok (.aload_n 0, 1) := dk_42 (dk_at dksX2_work_14 7 rfl rfl)
theorem dX2_work_339 : decode cX2_work 339 = .ok (.getfield 39, 3) := dk_180 0 39 (dk_at dksX2_work_14 8 rfl rfl)
theorem dX2_work_342 : decode cX2_work 342 = .ok (.iload 5, 2) := dk_21 5 (dk_at dksX2_work_14 11 rfl rfl)
theorem dX2_work_344 : decode cX2_work 344 = .ok (.iconst 1, 1) := dk_4 (dk_at dksX2_work_14 13 rfl rfl)
theorem dX2_work_345 : decode cX2_work 345 = .ok (.isub, 1) := dk_100 (dk_at dksX2_work_14 14 rfl rfl)
theorem dX2_work_346 : decode cX2_work 346 = .ok (.iload 7, 2) := dk_21 7 (dk_at dksX2_work_14 15 rfl rfl)
theorem dX2_work_348 : decode cX2_work 348 = .ok (.aload_n 0, 1) := dk_42 (dk_at dksX2_work_14 17 rfl rfl)
theorem dX2_work_349 : decode cX2_work 349 = .ok (.getfield 39, 3) := dk_180 0 39 (dk_at dksX2_work_14 18 rfl rfl)
theorem dX2_work_352 : decode cX2_work 352 = .ok (.iload 5, 2) := dk_21 5 (dk_at dksX2_work_14 21 rfl rfl)
theorem dX2_work_354 : decode cX2_work 354 = .ok (.iconst 1, 1) := dk_4 (dk_at dksX2_work_14 23 rfl rfl)
theorem dX2_work_355 : decode cX2_work 355 = .ok (.isub, 1) := dk_100 (dk_at dksX2_work_15 0 rfl rfl)
theorem dX2_work_356 : decode cX2_work 356 = .ok (.baload, 1) := dk_51 (dk_at dksX2_work_15 1 rfl rfl)
theorem dX2_work_357 : decode cX2_work 357 = .ok (.aload_n 0, 1) := dk_42 (dk_at dksX2_work_15 2 rfl rfl)
theorem dX2_work_358 : decode cX2_work 358 = .ok (.getfield 39, 3) := dk_180 0 39 (dk_at dksX2_work_15 3 rfl rfl)
theorem dX2_work_361 : decode cX2_work 361 = .ok (.iload 5, 2) := dk_21 5 (dk_at dksX2_work_15 6 rfl rfl)
theorem dX2_work_363 : decode cX2_work 363 = .ok (.baload, 1) := dk_51 (dk_at dksX2_work_15 8 rfl rfl)
theorem dX2_work_364 : decode cX2_work 364 = .ok (.invokestatic 289, 3) := dk_184 1 33 (dk_at dksX2_work_15 9 rfl rfl)
theorem dX2_work_367 : decode cX2_work 367 = .ok (.bastore, 1) := dk_84 (dk_at dksX2_work_15 12 rfl rfl)
theorem dX2_work_368 : decode cX2_work 368 = .ok (.iinc 6 1, 3) := dk_132 6 1 (dk_at dksX2_work_15 13 rfl rfl)
theorem dX2_work_371 : decode cX2_work 371 = .ok (.goto (-324), 3) := dk_167 254 188 (dk_at dksX2_work_15 16 rfl rfl)
theorem dX2_work_374 : decode cX2_work 374 = .ok (.return_, 1) := dk_177 (dk_at dksX2_work_15 19 rfl rfl)
abbrev cX2_digit : ByteArray := prog_19_method_59_code
def yX2_digit : MethodName := ⟨RX2, "digit", "(JJ)J"⟩
def dkwX2_digit_3 : List UInt8 := [20, 1, 14, 113, 173]
abbrev dktX2_digit_3 : List UInt8 := dkwX2_digit_3 ++ []
def dkwX2_digit_2 : List UInt8 := [167, 255, 226, 30, 9, 148, 155, 0, 11, 30, 20, 1, 16, 148, 158, 0, 7, 9, 167, 0, 9, 22, 4]
abbrev dktX2_digit_2 : List UInt8 := dkwX2_digit_2 ++ dktX2_digit_3
def dkwX2_digit_1 : List UInt8 := [22, 6, 20, 1, 14, 148, 156, 0, 20, 22, 4, 20, 1, 14, 109, 55, 4, 22, 6, 10, 97, 55, 6]
abbrev dktX2_digit_1 : List UInt8 := dkwX2_digit_1 ++ dktX2_digit_2
def dkwX2_digit_0 : List UInt8 := [32, 9, 148, 156, 0, 8, 32, 117, 167, 0, 4, 32, 55, 4, 9, 55, 6, 22, 6, 30, 148, 156, 0, 29]
abbrev dktX2_digit_0 : List UInt8 := dkwX2_digit_0 ++ dktX2_digit_1
theorem dksX2_digit_0 : cX2_digit.data.toList.drop 0 = dktX2_digit_0 := by decide +kernel
theorem dksX2_digit_1 : cX2_digit.data.toList.drop 24 = dktX2_digit_1 := dk_seg dksX2_digit_0 24 rfl rfl
theorem dksX2_digit_2 : cX2_digit.data.toList.drop 47 = dktX2_digit_2 := dk_seg dksX2_digit_1 23 rfl rfl
theorem dksX2_digit_3 : cX2_digit.data.toList.drop 70 = dktX2_digit_3 := dk_seg dksX2_digit_2 23 rfl rfl
theorem dX2_digit_0 : decode cX2_digit 0 = .ok (.lload_n 2, 1) := dk_32 (dk_at dksX2_digit_0 0 rfl rfl)
theorem dX2_digit_1 : decode cX2_digit 1 = .ok (.lconst 0, 1) := dk_9 (dk_at dksX2_digit_0 1 rfl rfl)
theorem dX2_digit_2 : decode cX2_digit 2 = .ok (.lcmp, 1) := dk_148 (dk_at dksX2_digit_0 2 rfl rfl)
theorem dX2_digit_3 : decode cX2_digit 3 = .ok (.ifCond .ge 8, 3) := dk_156 0 8 (dk_at dksX2_digit_0 3 rfl rfl)
theorem dX2_digit_6 : decode cX2_digit 6 = .ok (.lload_n 2, 1) := dk_32 (dk_at dksX2_digit_0 6 rfl rfl)
theorem dX2_digit_7 : decode cX2_digit 7 = .ok (.lneg, 1) := dk_117 (dk_at dksX2_digit_0 7 rfl rfl)
theorem dX2_digit_8 : decode cX2_digit 8 = .ok (.goto 4, 3) := dk_167 0 4 (dk_at dksX2_digit_0 8 rfl rfl)
theorem dX2_digit_11 : decode cX2_digit 11 = .ok (.lload_n 2, 1) := dk_32 (dk_at dksX2_digit_0 11 rfl rfl)
theorem dX2_digit_12 : decode cX2_digit 12 = .ok (.lstore 4, 2) := dk_55 4 (dk_at dksX2_digit_0 12 rfl rfl)
theorem dX2_digit_14 : decode cX2_digit 14 = .ok (.lconst 0, 1) := dk_9 (dk_at dksX2_digit_0 14 rfl rfl)
theorem dX2_digit_15 : decode cX2_digit 15 = .ok (.lstore 6, 2) := dk_55 6 (dk_at dksX2_digit_0 15 rfl rfl)
theorem dX2_digit_17 : decode cX2_digit 17 = .ok (.lload 6, 2) := dk_22 6 (dk_at dksX2_digit_0 17 rfl rfl)
theorem dX2_digit_19 : decode cX2_digit 19 = .ok (.lload_n 0, 1) := dk_30 (dk_at dksX2_digit_0 19 rfl rfl)
theorem dX2_digit_20 : decode cX2_digit 20 = .ok (.lcmp, 1) := dk_148 (dk_at dksX2_digit_0 20 rfl rfl)
theorem dX2_digit_21 : decode cX2_digit 21 = .ok (.ifCond .ge 29, 3) := dk_156 0 29 (dk_at dksX2_digit_0 21 rfl rfl)
theorem dX2_digit_24 : decode cX2_digit 24 = .ok (.lload 6, 2) := dk_22 6 (dk_at dksX2_digit_1 0 rfl rfl)
theorem dX2_digit_26 : decode cX2_digit 26 = .ok (.ldc2_w 270, 3) := dk_20 1 14 (dk_at dksX2_digit_1 2 rfl rfl)
theorem dX2_digit_29 : decode cX2_digit 29 = .ok (.lcmp, 1) := dk_148 (dk_at dksX2_digit_1 5 rfl rfl)
theorem dX2_digit_30 : decode cX2_digit 30 = .ok (.ifCond .ge 20, 3) := dk_156 0 20 (dk_at dksX2_digit_1 6 rfl rfl)
theorem dX2_digit_33 : decode cX2_digit 33 = .ok (.lload 4, 2) := dk_22 4 (dk_at dksX2_digit_1 9 rfl rfl)
theorem dX2_digit_35 : decode cX2_digit 35 = .ok (.ldc2_w 270, 3) := dk_20 1 14 (dk_at dksX2_digit_1 11 rfl rfl)
theorem dX2_digit_38 : decode cX2_digit 38 = .ok (.ldiv, 1) := dk_109 (dk_at dksX2_digit_1 14 rfl rfl)
theorem dX2_digit_39 : decode cX2_digit 39 = .ok (.lstore 4, 2) := dk_55 4 (dk_at dksX2_digit_1 15 rfl rfl)
theorem dX2_digit_41 : decode cX2_digit 41 = .ok (.lload 6, 2) := dk_22 6 (dk_at dksX2_digit_1 17 rfl rfl)
theorem dX2_digit_43 : decode cX2_digit 43 = .ok (.lconst 1, 1) := dk_10 (dk_at dksX2_digit_1 19 rfl rfl)
theorem dX2_digit_44 : decode cX2_digit 44 = .ok (.ladd, 1) := dk_97 (dk_at dksX2_digit_1 20 rfl rfl)
theorem dX2_digit_45 : decode cX2_digit 45 = .ok (.lstore 6, 2) := dk_55 6 (dk_at dksX2_digit_1 21 rfl rfl)
theorem dX2_digit_47 : decode cX2_digit 47 = .ok (.goto (-30), 3) := dk_167 255 226 (dk_at dksX2_digit_2 0 rfl rfl)
theorem dX2_digit_50 : decode cX2_digit 50 = .ok (.lload_n 0, 1) := dk_30 (dk_at dksX2_digit_2 3 rfl rfl)
theorem dX2_digit_51 : decode cX2_digit 51 = .ok (.lconst 0, 1) := dk_9 (dk_at dksX2_digit_2 4 rfl rfl)
theorem dX2_digit_52 : decode cX2_digit 52 = .ok (.lcmp, 1) := dk_148 (dk_at dksX2_digit_2 5 rfl rfl)
theorem dX2_digit_53 : decode cX2_digit 53 = .ok (.ifCond .lt 11, 3) := dk_155 0 11 (dk_at dksX2_digit_2 6 rfl rfl)
theorem dX2_digit_56 : decode cX2_digit 56 = .ok (.lload_n 0, 1) := dk_30 (dk_at dksX2_digit_2 9 rfl rfl)
theorem dX2_digit_57 : decode cX2_digit 57 = .ok (.ldc2_w 272, 3) := dk_20 1 16 (dk_at dksX2_digit_2 10 rfl rfl)
theorem dX2_digit_60 : decode cX2_digit 60 = .ok (.lcmp, 1) := dk_148 (dk_at dksX2_digit_2 13 rfl rfl)
theorem dX2_digit_61 : decode cX2_digit 61 = .ok (.ifCond .le 7, 3) := dk_158 0 7 (dk_at dksX2_digit_2 14 rfl rfl)
theorem dX2_digit_64 : decode cX2_digit 64 = .ok (.lconst 0, 1) := dk_9 (dk_at dksX2_digit_2 17 rfl rfl)
theorem dX2_digit_65 : decode cX2_digit 65 = .ok (.goto 9, 3) := dk_167 0 9 (dk_at dksX2_digit_2 18 rfl rfl)
theorem dX2_digit_68 : decode cX2_digit 68 = .ok (.lload 4, 2) := dk_22 4 (dk_at dksX2_digit_2 21 rfl rfl)
theorem dX2_digit_70 : decode cX2_digit 70 = .ok (.ldc2_w 270, 3) := dk_20 1 14 (dk_at dksX2_digit_3 0 rfl rfl)
theorem dX2_digit_73 : decode cX2_digit 73 = .ok (.lrem, 1) := dk_113 (dk_at dksX2_digit_3 3 rfl rfl)
theorem dX2_digit_74 : decode cX2_digit 74 = .ok (.lreturn, 1) := dk_173 (dk_at dksX2_digit_3 4 rfl rfl)
abbrev cX2_two : ByteArray := prog_19_method_57_code
def yX2_two : MethodName := ⟨RX2, "two", "(IJJ)J"⟩
def dkwX2_two_3 : List UInt8 := [154, 0, 7, 9, 167, 0, 9, 31, 33, 109, 184, 1, 10, 173]
abbrev dktX2_two_3 : List UInt8 := dkwX2_two_3 ++ []
def dkwX2_two_2 : List UInt8 := [31, 33, 97, 184, 1, 10, 173, 31, 33, 101, 184, 1, 10, 173, 31, 33, 105, 184, 1, 10, 173, 33, 9, 148]
abbrev dktX2_two_2 : List UInt8 := dkwX2_two_2 ++ dktX2_two_3
def dkwX2_two_1 : List UInt8 := [170, 0, 0, 0, 0, 0, 48, 0, 0, 0, 3, 0, 0, 0, 5, 0, 0, 0, 27, 0, 0, 0, 34, 0, 0, 0, 41]
abbrev dktX2_two_1 : List UInt8 := dkwX2_two_1 ++ dktX2_two_2
def dkwX2_two_0 : List UInt8 := [26]
abbrev dktX2_two_0 : List UInt8 := dkwX2_two_0 ++ dktX2_two_1
theorem dksX2_two_0 : cX2_two.data.toList.drop 0 = dktX2_two_0 := by decide +kernel
theorem dksX2_two_1 : cX2_two.data.toList.drop 1 = dktX2_two_1 := dk_seg dksX2_two_0 1 rfl rfl
theorem dksX2_two_2 : cX2_two.data.toList.drop 28 = dktX2_two_2 := dk_seg dksX2_two_1 27 rfl rfl
theorem dksX2_two_3 : cX2_two.data.toList.drop 52 = dktX2_two_3 := dk_seg dksX2_two_2 24 rfl rfl
theorem dX2_two_0 : decode cX2_two 0 = .ok (.iload_n 0, 1) := dk_26 (dk_at dksX2_two_0 0 rfl rfl)
theorem dX2_two_1 : decode cX2_two 1 = .ok (.tableswitch 48 3 5 #[27, 34, 41], 27) := by decide +kernel
theorem dX2_two_28 : decode cX2_two 28 = .ok (.lload_n 1, 1) := dk_31 (dk_at dksX2_two_2 0 rfl rfl)
theorem dX2_two_29 : decode cX2_two 29 = .ok (.lload_n 3, 1) := dk_33 (dk_at dksX2_two_2 1 rfl rfl)
theorem dX2_two_30 : decode cX2_two 30 = .ok (.ladd, 1) := dk_97 (dk_at dksX2_two_2 2 rfl rfl)
theorem dX2_two_31 : decode cX2_two 31 = .ok (.invokestatic 266, 3) := dk_184 1 10 (dk_at dksX2_two_2 3 rfl rfl)
theorem dX2_two_34 : decode cX2_two 34 = .ok (.lreturn, 1) := dk_173 (dk_at dksX2_two_2 6 rfl rfl)
theorem dX2_two_35 : decode cX2_two 35 = .ok (.lload_n 1, 1) := dk_31 (dk_at dksX2_two_2 7 rfl rfl)
theorem dX2_two_36 : decode cX2_two 36 = .ok (.lload_n 3, 1) := dk_33 (dk_at dksX2_two_2 8 rfl rfl)
theorem dX2_two_37 : decode cX2_two 37 = .ok (.lsub, 1) := dk_101 (dk_at dksX2_two_2 9 rfl rfl)
theorem dX2_two_38 : decode cX2_two 38 = .ok (.invokestatic 266, 3) := dk_184 1 10 (dk_at dksX2_two_2 10 rfl rfl)
theorem dX2_two_41 : decode cX2_two 41 = .ok (.lreturn, 1) := dk_173 (dk_at dksX2_two_2 13 rfl rfl)
theorem dX2_two_42 : decode cX2_two 42 = .ok (.lload_n 1, 1) := dk_31 (dk_at dksX2_two_2 14 rfl rfl)
theorem dX2_two_43 : decode cX2_two 43 = .ok (.lload_n 3, 1) := dk_33 (dk_at dksX2_two_2 15 rfl rfl)
theorem dX2_two_44 : decode cX2_two 44 = .ok (.lmul, 1) := dk_105 (dk_at dksX2_two_2 16 rfl rfl)
theorem dX2_two_45 : decode cX2_two 45 = .ok (.invokestatic 266, 3) := dk_184 1 10 (dk_at dksX2_two_2 17 rfl rfl)
theorem dX2_two_48 : decode cX2_two 48 = .ok (.lreturn, 1) := dk_173 (dk_at dksX2_two_2 20 rfl rfl)
theorem dX2_two_49 : decode cX2_two 49 = .ok (.lload_n 3, 1) := dk_33 (dk_at dksX2_two_2 21 rfl rfl)
theorem dX2_two_50 : decode cX2_two 50 = .ok (.lconst 0, 1) := dk_9 (dk_at dksX2_two_2 22 rfl rfl)
theorem dX2_two_51 : decode cX2_two 51 = .ok (.lcmp, 1) := dk_148 (dk_at dksX2_two_2 23 rfl rfl)
theorem dX2_two_52 : decode cX2_two 52 = .ok (.ifCond .ne 7, 3) := dk_154 0 7 (dk_at dksX2_two_3 0 rfl rfl)
theorem dX2_two_55 : decode cX2_two 55 = .ok (.lconst 0, 1) := dk_9 (dk_at dksX2_two_3 3 rfl rfl)
theorem dX2_two_56 : decode cX2_two 56 = .ok (.goto 9, 3) := dk_167 0 9 (dk_at dksX2_two_3 4 rfl rfl)
theorem dX2_two_59 : decode cX2_two 59 = .ok (.lload_n 1, 1) := dk_31 (dk_at dksX2_two_3 7 rfl rfl)
theorem dX2_two_60 : decode cX2_two 60 = .ok (.lload_n 3, 1) := dk_33 (dk_at dksX2_two_3 8 rfl rfl)
theorem dX2_two_61 : decode cX2_two 61 = .ok (.ldiv, 1) := dk_109 (dk_at dksX2_two_3 9 rfl rfl)
theorem dX2_two_62 : decode cX2_two 62 = .ok (.invokestatic 266, 3) := dk_184 1 10 (dk_at dksX2_two_3 10 rfl rfl)
theorem dX2_two_65 : decode cX2_two 65 = .ok (.lreturn, 1) := dk_173 (dk_at dksX2_two_3 13 rfl rfl)
abbrev cX2_clip : ByteArray := prog_19_method_56_code
def yX2_clip : MethodName := ⟨RX2, "clip", "(J)J"⟩
def dkwX2_clip_1 : List UInt8 := [20, 1, 8, 167, 0, 4, 30, 173]
abbrev dktX2_clip_1 : List UInt8 := dkwX2_clip_1 ++ []
def dkwX2_clip_0 : List UInt8 := [30, 20, 1, 6, 148, 158, 0, 9, 20, 1, 6, 167, 0, 18, 30, 20, 1, 8, 148, 156, 0, 9]
abbrev dktX2_clip_0 : List UInt8 := dkwX2_clip_0 ++ dktX2_clip_1
theorem dksX2_clip_0 : cX2_clip.data.toList.drop 0 = dktX2_clip_0 := by decide +kernel
theorem dksX2_clip_1 : cX2_clip.data.toList.drop 22 = dktX2_clip_1 := dk_seg dksX2_clip_0 22 rfl rfl
theorem dX2_clip_0 : decode cX2_clip 0 = .ok (.lload_n 0, 1) := dk_30 (dk_at dksX2_clip_0 0 rfl rfl)
theorem dX2_clip_1 : decode cX2_clip 1 = .ok (.ldc2_w 262, 3) := dk_20 1 6 (dk_at dksX2_clip_0 1 rfl rfl)
theorem dX2_clip_4 : decode cX2_clip 4 = .ok (.lcmp, 1) := dk_148 (dk_at dksX2_clip_0 4 rfl rfl)
theorem dX2_clip_5 : decode cX2_clip 5 = .ok (.ifCond .le 9, 3) := dk_158 0 9 (dk_at dksX2_clip_0 5 rfl rfl)
theorem dX2_clip_8 : decode cX2_clip 8 = .ok (.ldc2_w 262, 3) := dk_20 1 6 (dk_at dksX2_clip_0 8 rfl rfl)
theorem dX2_clip_11 : decode cX2_clip 11 = .ok (.goto 18, 3) := dk_167 0 18 (dk_at dksX2_clip_0 11 rfl rfl)
theorem dX2_clip_14 : decode cX2_clip 14 = .ok (.lload_n 0, 1) := dk_30 (dk_at dksX2_clip_0 14 rfl rfl)
theorem dX2_clip_15 : decode cX2_clip 15 = .ok (.ldc2_w 264, 3) := dk_20 1 8 (dk_at dksX2_clip_0 15 rfl rfl)
theorem dX2_clip_18 : decode cX2_clip 18 = .ok (.lcmp, 1) := dk_148 (dk_at dksX2_clip_0 18 rfl rfl)
theorem dX2_clip_19 : decode cX2_clip 19 = .ok (.ifCond .ge 9, 3) := dk_156 0 9 (dk_at dksX2_clip_0 19 rfl rfl)
theorem dX2_clip_22 : decode cX2_clip 22 = .ok (.ldc2_w 264, 3) := dk_20 1 8 (dk_at dksX2_clip_1 0 rfl rfl)
theorem dX2_clip_25 : decode cX2_clip 25 = .ok (.goto 4, 3) := dk_167 0 4 (dk_at dksX2_clip_1 3 rfl rfl)
theorem dX2_clip_28 : decode cX2_clip 28 = .ok (.lload_n 0, 1) := dk_30 (dk_at dksX2_clip_1 6 rfl rfl)
theorem dX2_clip_29 : decode cX2_clip 29 = .ok (.lreturn, 1) := dk_173 (dk_at dksX2_clip_1 7 rfl rfl)
abbrev cX2_isDividing : ByteArray := prog_19_method_60_code
def yX2_isDividing : MethodName := ⟨RX2, "isDividing", "(JJ)Z"⟩
def dkwX2_isDividing_1 : List UInt8 := [148, 154, 0, 7, 4, 167, 0, 4, 3, 172]
abbrev dktX2_isDividing_1 : List UInt8 := dkwX2_isDividing_1 ++ []
def dkwX2_isDividing_0 : List UInt8 := [30, 9, 148, 154, 0, 17, 32, 9, 148, 154, 0, 7, 4, 167, 0, 20, 3, 167, 0, 16, 32, 30, 113, 9]
abbrev dktX2_isDividing_0 : List UInt8 := dkwX2_isDividing_0 ++ dktX2_isDividing_1
theorem dksX2_isDividing_0 : cX2_isDividing.data.toList.drop 0 = dktX2_isDividing_0 := by decide +kernel
theorem dksX2_isDividing_1 : cX2_isDividing.data.toList.drop 24 = dktX2_isDividing_1 := dk_seg dksX2_isDividing_0 24 rfl rfl
theorem dX2_isDividing_0 : decode cX2_isDividing 0 = .ok (.lload_n 0, 1) := dk_30 (dk_at dksX2_isDividing_0 0 rfl rfl)
theorem dX2_isDividing_1 : decode cX2_isDividing 1 = .ok (.lconst 0, 1) := dk_9 (dk_at dksX2_isDividing_0 1 rfl rfl)
theorem dX2_isDividing_2 : decode cX2_isDividing 2 = .ok (.lcmp, 1) := dk_148 (dk_at dksX2_isDividing_0 2 rfl rfl)
theorem dX2_isDividing_3 : decode cX2_isDividing 3 = .ok (.ifCond .ne 17, 3) := dk_154 0 17 (dk_at dksX2_isDividing_0 3 rfl rfl)
theorem dX2_isDividing_6 : decode cX2_isDividing 6 = .ok (.lload_n 2, 1) := dk_32 (dk_at dksX2_isDividing_0 6 rfl rfl)
theorem dX2_isDividing_7 : decode cX2_isDividing 7 = .ok (.lconst 0, 1) := dk_9 (dk_at dksX2_isDividing_0 7 rfl rfl)
theorem dX2_isDividing_8 : decode cX2_isDividing 8 = .ok (.lcmp, 1) := dk_148 (dk_at dksX2_isDividing_0 8 rfl rfl)
theorem dX2_isDividing_9 : decode cX2_isDividing 9 = .ok (.ifCond .ne 7, 3) := dk_154 0 7 (dk_at dksX2_isDividing_0 9 rfl rfl)
theorem dX2_isDividing_12 : decode cX2_isDividing 12 = .ok (.iconst 1, 1) := dk_4 (dk_at dksX2_isDividing_0 12 rfl rfl)
theorem dX2_isDividing_13 : decode cX2_isDividing 13 = .ok (.goto 20, 3) := dk_167 0 20 (dk_at dksX2_isDividing_0 13 rfl rfl)
theorem dX2_isDividing_16 : decode cX2_isDividing 16 = .ok (.iconst 0, 1) := dk_3 (dk_at dksX2_isDividing_0 16 rfl rfl)
theorem dX2_isDividing_17 : decode cX2_isDividing 17 = .ok (.goto 16, 3) := dk_167 0 16 (dk_at dksX2_isDividing_0 17 rfl rfl)
theorem dX2_isDividing_20 : decode cX2_isDividing 20 = .ok (.lload_n 2, 1) := dk_32 (dk_at dksX2_isDividing_0 20 rfl rfl)
theorem dX2_isDividing_21 : decode cX2_isDividing 21 = .ok (.lload_n 0, 1) := dk_30 (dk_at dksX2_isDividing_0 21 rfl rfl)
theorem dX2_isDividing_22 : decode cX2_isDividing 22 = .ok (.lrem, 1) := dk_113 (dk_at dksX2_isDividing_0 22 rfl rfl)
theorem dX2_isDividing_23 : decode cX2_isDividing 23 = .ok (.lconst 0, 1) := dk_9 (dk_at dksX2_isDividing_0 23 rfl rfl)
theorem dX2_isDividing_24 : decode cX2_isDividing 24 = .ok (.lcmp, 1) := dk_148 (dk_at dksX2_isDividing_1 0 rfl rfl)
theorem dX2_isDividing_25 : decode cX2_isDividing 25 = .ok (.ifCond .ne 7, 3) := dk_154 0 7 (dk_at dksX2_isDividing_1 1 rfl rfl)
theorem dX2_isDividing_28 : decode cX2_isDividing 28 = .ok (.iconst 1, 1) := dk_4 (dk_at dksX2_isDividing_1 4 rfl rfl)
theorem dX2_isDividing_29 : decode cX2_isDividing 29 = .ok (.goto 4, 3) := dk_167 0 4 (dk_at dksX2_isDividing_1 5 rfl rfl)
theorem dX2_isDividing_32 : decode cX2_isDividing 32 = .ok (.iconst 0, 1) := dk_3 (dk_at dksX2_isDividing_1 8 rfl rfl)
theorem dX2_isDividing_33 : decode cX2_isDividing 33 = .ok (.ireturn, 1) := dk_172 (dk_at dksX2_isDividing_1 9 rfl rfl)
abbrev cX2_isAsked : ByteArray := prog_19_method_58_code
def yX2_isAsked : MethodName := ⟨RX2, "isAsked", "(IJJ)Z"⟩
def dkwX2_isAsked_4 : List UInt8 := [167, 0, 18, 3, 167, 0, 14, 31, 33, 148, 153, 0, 7, 4, 167, 0, 4, 3, 172]
abbrev dktX2_isAsked_4 : List UInt8 := dkwX2_isAsked_4 ++ []
def dkwX2_isAsked_3 : List UInt8 := [155, 0, 7, 4, 167, 0, 38, 3, 167, 0, 34, 26, 16, 14, 160, 0, 17, 31, 33, 148, 154, 0, 7, 4]
abbrev dktX2_isAsked_3 : List UInt8 := dkwX2_isAsked_3 ++ dktX2_isAsked_4
def dkwX2_isAsked_2 : List UInt8 := [33, 148, 158, 0, 7, 4, 167, 0, 58, 3, 167, 0, 54, 26, 16, 13, 160, 0, 17, 31, 33, 148]
abbrev dktX2_isAsked_2 : List UInt8 := dkwX2_isAsked_2 ++ dktX2_isAsked_3
def dkwX2_isAsked_1 : List UInt8 := [160, 0, 17, 31, 33, 148, 157, 0, 7, 4, 167, 0, 78, 3, 167, 0, 74, 26, 16, 12, 160, 0, 17, 31]
abbrev dktX2_isAsked_1 : List UInt8 := dkwX2_isAsked_1 ++ dktX2_isAsked_2
def dkwX2_isAsked_0 : List UInt8 := [26, 16, 10, 160, 0, 17, 31, 33, 148, 156, 0, 7, 4, 167, 0, 98, 3, 167, 0, 94, 26, 16, 11]
abbrev dktX2_isAsked_0 : List UInt8 := dkwX2_isAsked_0 ++ dktX2_isAsked_1
theorem dksX2_isAsked_0 : cX2_isAsked.data.toList.drop 0 = dktX2_isAsked_0 := by decide +kernel
theorem dksX2_isAsked_1 : cX2_isAsked.data.toList.drop 23 = dktX2_isAsked_1 := dk_seg dksX2_isAsked_0 23 rfl rfl
theorem dksX2_isAsked_2 : cX2_isAsked.data.toList.drop 47 = dktX2_isAsked_2 := dk_seg dksX2_isAsked_1 24 rfl rfl
theorem dksX2_isAsked_3 : cX2_isAsked.data.toList.drop 69 = dktX2_isAsked_3 := dk_seg dksX2_isAsked_2 22 rfl rfl
theorem dksX2_isAsked_4 : cX2_isAsked.data.toList.drop 93 = dktX2_isAsked_4 := dk_seg dksX2_isAsked_3 24 rfl rfl
theorem dX2_isAsked_0 : decode cX2_isAsked 0 = .ok (.iload_n 0, 1) := dk_26 (dk_at dksX2_isAsked_0 0 rfl rfl)
theorem dX2_isAsked_1 : decode cX2_isAsked 1 = .ok (.bipush 10, 2) := dk_16 10 (dk_at dksX2_isAsked_0 1 rfl rfl)
theorem dX2_isAsked_3 : decode cX2_isAsked 3 = .ok (.if_icmp .ne 17, 3) := dk_160 0 17 (dk_at dksX2_isAsked_0 3 rfl rfl)
theorem dX2_isAsked_6 : decode cX2_isAsked 6 = .ok (.lload_n 1, 1) := dk_31 (dk_at dksX2_isAsked_0 6 rfl rfl)
theorem dX2_isAsked_7 : decode cX2_isAsked 7 = .ok (.lload_n 3, 1) := dk_33 (dk_at dksX2_isAsked_0 7 rfl rfl)
theorem dX2_isAsked_8 : decode cX2_isAsked 8 = .ok (.lcmp, 1) := dk_148 (dk_at dksX2_isAsked_0 8 rfl rfl)
theorem dX2_isAsked_9 : decode cX2_isAsked 9 = .ok (.ifCond .ge 7, 3) := dk_156 0 7 (dk_at dksX2_isAsked_0 9 rfl rfl)
theorem dX2_isAsked_12 : decode cX2_isAsked 12 = .ok (.iconst 1, 1) := dk_4 (dk_at dksX2_isAsked_0 12 rfl rfl)
theorem dX2_isAsked_13 : decode cX2_isAsked 13 = .ok (.goto 98, 3) := dk_167 0 98 (dk_at dksX2_isAsked_0 13 rfl rfl)
theorem dX2_isAsked_16 : decode cX2_isAsked 16 = .ok (.iconst 0, 1) := dk_3 (dk_at dksX2_isAsked_0 16 rfl rfl)
theorem dX2_isAsked_17 : decode cX2_isAsked 17 = .ok (.goto 94, 3) := dk_167 0 94 (dk_at dksX2_isAsked_0 17 rfl rfl)
theorem dX2_isAsked_20 : decode cX2_isAsked 20 = .ok (.iload_n 0, 1) := dk_26 (dk_at dksX2_isAsked_0 20 rfl rfl)
theorem dX2_isAsked_21 : decode cX2_isAsked 21 = .ok (.bipush 11, 2) := dk_16 11 (dk_at dksX2_isAsked_0 21 rfl rfl)
theorem dX2_isAsked_23 : decode cX2_isAsked 23 = .ok (.if_icmp .ne 17, 3) := dk_160 0 17 (dk_at dksX2_isAsked_1 0 rfl rfl)
theorem dX2_isAsked_26 : decode cX2_isAsked 26 = .ok (.lload_n 1, 1) := dk_31 (dk_at dksX2_isAsked_1 3 rfl rfl)
theorem dX2_isAsked_27 : decode cX2_isAsked 27 = .ok (.lload_n 3, 1) := dk_33 (dk_at dksX2_isAsked_1 4 rfl rfl)
theorem dX2_isAsked_28 : decode cX2_isAsked 28 = .ok (.lcmp, 1) := dk_148 (dk_at dksX2_isAsked_1 5 rfl rfl)
theorem dX2_isAsked_29 : decode cX2_isAsked 29 = .ok (.ifCond .gt 7, 3) := dk_157 0 7 (dk_at dksX2_isAsked_1 6 rfl rfl)
theorem dX2_isAsked_32 : decode cX2_isAsked 32 = .ok (.iconst 1, 1) := dk_4 (dk_at dksX2_isAsked_1 9 rfl rfl)
theorem dX2_isAsked_33 : decode cX2_isAsked 33 = .ok (.goto 78, 3) := dk_167 0 78 (dk_at dksX2_isAsked_1 10 rfl rfl)
theorem dX2_isAsked_36 : decode cX2_isAsked 36 = .ok (.iconst 0, 1) := dk_3 (dk_at dksX2_isAsked_1 13 rfl rfl)
theorem dX2_isAsked_37 : decode cX2_isAsked 37 = .ok (.goto 74, 3) := dk_167 0 74 (dk_at dksX2_isAsked_1 14 rfl rfl)
theorem dX2_isAsked_40 : decode cX2_isAsked 40 = .ok (.iload_n 0, 1) := dk_26 (dk_at dksX2_isAsked_1 17 rfl rfl)
theorem dX2_isAsked_41 : decode cX2_isAsked 41 = .ok (.bipush 12, 2) := dk_16 12 (dk_at dksX2_isAsked_1 18 rfl rfl)
theorem dX2_isAsked_43 : decode cX2_isAsked 43 = .ok (.if_icmp .ne 17, 3) := dk_160 0 17 (dk_at dksX2_isAsked_1 20 rfl rfl)
theorem dX2_isAsked_46 : decode cX2_isAsked 46 = .ok (.lload_n 1, 1) := dk_31 (dk_at dksX2_isAsked_1 23 rfl rfl)
theorem dX2_isAsked_47 : decode cX2_isAsked 47 = .ok (.lload_n 3, 1) := dk_33 (dk_at dksX2_isAsked_2 0 rfl rfl)
theorem dX2_isAsked_48 : decode cX2_isAsked 48 = .ok (.lcmp, 1) := dk_148 (dk_at dksX2_isAsked_2 1 rfl rfl)
theorem dX2_isAsked_49 : decode cX2_isAsked 49 = .ok (.ifCond .le 7, 3) := dk_158 0 7 (dk_at dksX2_isAsked_2 2 rfl rfl)
theorem dX2_isAsked_52 : decode cX2_isAsked 52 = .ok (.iconst 1, 1) := dk_4 (dk_at dksX2_isAsked_2 5 rfl rfl)
theorem dX2_isAsked_53 : decode cX2_isAsked 53 = .ok (.goto 58, 3) := dk_167 0 58 (dk_at dksX2_isAsked_2 6 rfl rfl)
theorem dX2_isAsked_56 : decode cX2_isAsked 56 = .ok (.iconst 0, 1) := dk_3 (dk_at dksX2_isAsked_2 9 rfl rfl)
theorem dX2_isAsked_57 : decode cX2_isAsked 57 = .ok (.goto 54, 3) := dk_167 0 54 (dk_at dksX2_isAsked_2 10 rfl rfl)
theorem dX2_isAsked_60 : decode cX2_isAsked 60 = .ok (.iload_n 0, 1) := dk_26 (dk_at dksX2_isAsked_2 13 rfl rfl)
theorem dX2_isAsked_61 : decode cX2_isAsked 61 = .ok (.bipush 13, 2) := dk_16 13 (dk_at dksX2_isAsked_2 14 rfl rfl)
theorem dX2_isAsked_63 : decode cX2_isAsked 63 = .ok (.if_icmp .ne 17, 3) := dk_160 0 17 (dk_at dksX2_isAsked_2 16 rfl rfl)
theorem dX2_isAsked_66 : decode cX2_isAsked 66 = .ok (.lload_n 1, 1) := dk_31 (dk_at dksX2_isAsked_2 19 rfl rfl)
theorem dX2_isAsked_67 : decode cX2_isAsked 67 = .ok (.lload_n 3, 1) := dk_33 (dk_at dksX2_isAsked_2 20 rfl rfl)
theorem dX2_isAsked_68 : decode cX2_isAsked 68 = .ok (.lcmp, 1) := dk_148 (dk_at dksX2_isAsked_2 21 rfl rfl)
theorem dX2_isAsked_69 : decode cX2_isAsked 69 = .ok (.ifCond .lt 7, 3) := dk_155 0 7 (dk_at dksX2_isAsked_3 0 rfl rfl)
theorem dX2_isAsked_72 : decode cX2_isAsked 72 = .ok (.iconst 1, 1) := dk_4 (dk_at dksX2_isAsked_3 3 rfl rfl)
theorem dX2_isAsked_73 : decode cX2_isAsked 73 = .ok (.goto 38, 3) := dk_167 0 38 (dk_at dksX2_isAsked_3 4 rfl rfl)
theorem dX2_isAsked_76 : decode cX2_isAsked 76 = .ok (.iconst 0, 1) := dk_3 (dk_at dksX2_isAsked_3 7 rfl rfl)
theorem dX2_isAsked_77 : decode cX2_isAsked 77 = .ok (.goto 34, 3) := dk_167 0 34 (dk_at dksX2_isAsked_3 8 rfl rfl)
theorem dX2_isAsked_80 : decode cX2_isAsked 80 = .ok (.iload_n 0, 1) := dk_26 (dk_at dksX2_isAsked_3 11 rfl rfl)
theorem dX2_isAsked_81 : decode cX2_isAsked 81 = .ok (.bipush 14, 2) := dk_16 14 (dk_at dksX2_isAsked_3 12 rfl rfl)
theorem dX2_isAsked_83 : decode cX2_isAsked 83 = .ok (.if_icmp .ne 17, 3) := dk_160 0 17 (dk_at dksX2_isAsked_3 14 rfl rfl)
theorem dX2_isAsked_86 : decode cX2_isAsked 86 = .ok (.lload_n 1, 1) := dk_31 (dk_at dksX2_isAsked_3 17 rfl rfl)
theorem dX2_isAsked_87 : decode cX2_isAsked 87 = .ok (.lload_n 3, 1) := dk_33 (dk_at dksX2_isAsked_3 18 rfl rfl)
theorem dX2_isAsked_88 : decode cX2_isAsked 88 = .ok (.lcmp, 1) := dk_148 (dk_at dksX2_isAsked_3 19 rfl rfl)
theorem dX2_isAsked_89 : decode cX2_isAsked 89 = .ok (.ifCond .ne 7, 3) := dk_154 0 7 (dk_at dksX2_isAsked_3 20 rfl rfl)
theorem dX2_isAsked_92 : decode cX2_isAsked 92 = .ok (.iconst 1, 1) := dk_4 (dk_at dksX2_isAsked_3 23 rfl rfl)
theorem dX2_isAsked_93 : decode cX2_isAsked 93 = .ok (.goto 18, 3) := dk_167 0 18 (dk_at dksX2_isAsked_4 0 rfl rfl)
theorem dX2_isAsked_96 : decode cX2_isAsked 96 = .ok (.iconst 0, 1) := dk_3 (dk_at dksX2_isAsked_4 3 rfl rfl)
theorem dX2_isAsked_97 : decode cX2_isAsked 97 = .ok (.goto 14, 3) := dk_167 0 14 (dk_at dksX2_isAsked_4 4 rfl rfl)
theorem dX2_isAsked_100 : decode cX2_isAsked 100 = .ok (.lload_n 1, 1) := dk_31 (dk_at dksX2_isAsked_4 7 rfl rfl)
theorem dX2_isAsked_101 : decode cX2_isAsked 101 = .ok (.lload_n 3, 1) := dk_33 (dk_at dksX2_isAsked_4 8 rfl rfl)
theorem dX2_isAsked_102 : decode cX2_isAsked 102 = .ok (.lcmp, 1) := dk_148 (dk_at dksX2_isAsked_4 9 rfl rfl)
theorem dX2_isAsked_103 : decode cX2_isAsked 103 = .ok (.ifCond .eq 7, 3) := dk_153 0 7 (dk_at dksX2_isAsked_4 10 rfl rfl)
theorem dX2_isAsked_106 : decode cX2_isAsked 106 = .ok (.iconst 1, 1) := dk_4 (dk_at dksX2_isAsked_4 13 rfl rfl)
theorem dX2_isAsked_107 : decode cX2_isAsked 107 = .ok (.goto 4, 3) := dk_167 0 4 (dk_at dksX2_isAsked_4 14 rfl rfl)
theorem dX2_isAsked_110 : decode cX2_isAsked 110 = .ok (.iconst 0, 1) := dk_3 (dk_at dksX2_isAsked_4 17 rfl rfl)
theorem dX2_isAsked_111 : decode cX2_isAsked 111 = .ok (.ireturn, 1) := dk_172 (dk_at dksX2_isAsked_4 18 rfl rfl)
abbrev cX2_joined : ByteArray := prog_19_method_61_code
def yX2_joined : MethodName := ⟨RX2, "joined", "(IZZ)Z"⟩
def dkwX2_joined_1 : List UInt8 := [154, 0, 7, 28, 153, 0, 7, 4, 167, 0, 4, 3, 172]
abbrev dktX2_joined_1 : List UInt8 := dkwX2_joined_1 ++ []
def dkwX2_joined_0 : List UInt8 := [26, 16, 21, 160, 0, 19, 27, 153, 0, 11, 28, 153, 0, 7, 4, 167, 0, 20, 3, 167, 0, 16, 27]
abbrev dktX2_joined_0 : List UInt8 := dkwX2_joined_0 ++ dktX2_joined_1
theorem dksX2_joined_0 : cX2_joined.data.toList.drop 0 = dktX2_joined_0 := by decide +kernel
theorem dksX2_joined_1 : cX2_joined.data.toList.drop 23 = dktX2_joined_1 := dk_seg dksX2_joined_0 23 rfl rfl
theorem dX2_joined_0 : decode cX2_joined 0 = .ok (.iload_n 0, 1) := dk_26 (dk_at dksX2_joined_0 0 rfl rfl)
theorem dX2_joined_1 : decode cX2_joined 1 = .ok (.bipush 21, 2) := dk_16 21 (dk_at dksX2_joined_0 1 rfl rfl)
theorem dX2_joined_3 : decode cX2_joined 3 = .ok (.if_icmp .ne 19, 3) := dk_160 0 19 (dk_at dksX2_joined_0 3 rfl rfl)
theorem dX2_joined_6 : decode cX2_joined 6 = .ok (.iload_n 1, 1) := dk_27 (dk_at dksX2_joined_0 6 rfl rfl)
theorem dX2_joined_7 : decode cX2_joined 7 = .ok (.ifCond .eq 11, 3) := dk_153 0 11 (dk_at dksX2_joined_0 7 rfl rfl)
theorem dX2_joined_10 : decode cX2_joined 10 = .ok (.iload_n 2, 1) := dk_28 (dk_at dksX2_joined_0 10 rfl rfl)
theorem dX2_joined_11 : decode cX2_joined 11 = .ok (.ifCond .eq 7, 3) := dk_153 0 7 (dk_at dksX2_joined_0 11 rfl rfl)
theorem dX2_joined_14 : decode cX2_joined 14 = .ok (.iconst 1, 1) := dk_4 (dk_at dksX2_joined_0 14 rfl rfl)
theorem dX2_joined_15 : decode cX2_joined 15 = .ok (.goto 20, 3) := dk_167 0 20 (dk_at dksX2_joined_0 15 rfl rfl)
theorem dX2_joined_18 : decode cX2_joined 18 = .ok (.iconst 0, 1) := dk_3 (dk_at dksX2_joined_0 18 rfl rfl)
theorem dX2_joined_19 : decode cX2_joined 19 = .ok (.goto 16, 3) := dk_167 0 16 (dk_at dksX2_joined_0 19 rfl rfl)
theorem dX2_joined_22 : decode cX2_joined 22 = .ok (.iload_n 1, 1) := dk_27 (dk_at dksX2_joined_0 22 rfl rfl)
theorem dX2_joined_23 : decode cX2_joined 23 = .ok (.ifCond .ne 7, 3) := dk_154 0 7 (dk_at dksX2_joined_1 0 rfl rfl)
theorem dX2_joined_26 : decode cX2_joined 26 = .ok (.iload_n 2, 1) := dk_28 (dk_at dksX2_joined_1 3 rfl rfl)
theorem dX2_joined_27 : decode cX2_joined 27 = .ok (.ifCond .eq 7, 3) := dk_153 0 7 (dk_at dksX2_joined_1 4 rfl rfl)
theorem dX2_joined_30 : decode cX2_joined 30 = .ok (.iconst 1, 1) := dk_4 (dk_at dksX2_joined_1 7 rfl rfl)
theorem dX2_joined_31 : decode cX2_joined 31 = .ok (.goto 4, 3) := dk_167 0 4 (dk_at dksX2_joined_1 8 rfl rfl)
theorem dX2_joined_34 : decode cX2_joined 34 = .ok (.iconst 0, 1) := dk_3 (dk_at dksX2_joined_1 11 rfl rfl)
theorem dX2_joined_35 : decode cX2_joined 35 = .ok (.ireturn, 1) := dk_172 (dk_at dksX2_joined_1 12 rfl rfl)
abbrev cX2_cut : ByteArray := prog_19_method_4_code
def yX2_cut : MethodName := ⟨RX2, "cut", "(JII)I"⟩
def dkwX2_cut_1 : List UInt8 := [172]
abbrev dktX2_cut_1 : List UInt8 := dkwX2_cut_1 ++ []
def dkwX2_cut_0 : List UInt8 := [30, 28, 133, 148, 156, 0, 7, 28, 167, 0, 16, 30, 29, 133, 148, 158, 0, 7, 29, 167, 0, 5, 30, 136]
abbrev dktX2_cut_0 : List UInt8 := dkwX2_cut_0 ++ dktX2_cut_1
theorem dksX2_cut_0 : cX2_cut.data.toList.drop 0 = dktX2_cut_0 := by decide +kernel
theorem dksX2_cut_1 : cX2_cut.data.toList.drop 24 = dktX2_cut_1 := dk_seg dksX2_cut_0 24 rfl rfl
theorem dX2_cut_0 : decode cX2_cut 0 = .ok (.lload_n 0, 1) := dk_30 (dk_at dksX2_cut_0 0 rfl rfl)
theorem dX2_cut_1 : decode cX2_cut 1 = .ok (.iload_n 2, 1) := dk_28 (dk_at dksX2_cut_0 1 rfl rfl)
theorem dX2_cut_2 : decode cX2_cut 2 = .ok (.i2l, 1) := dk_133 (dk_at dksX2_cut_0 2 rfl rfl)
theorem dX2_cut_3 : decode cX2_cut 3 = .ok (.lcmp, 1) := dk_148 (dk_at dksX2_cut_0 3 rfl rfl)
theorem dX2_cut_4 : decode cX2_cut 4 = .ok (.ifCond .ge 7, 3) := dk_156 0 7 (dk_at dksX2_cut_0 4 rfl rfl)
theorem dX2_cut_7 : decode cX2_cut 7 = .ok (.iload_n 2, 1) := dk_28 (dk_at dksX2_cut_0 7 rfl rfl)
theorem dX2_cut_8 : decode cX2_cut 8 = .ok (.goto 16, 3) := dk_167 0 16 (dk_at dksX2_cut_0 8 rfl rfl)
theorem dX2_cut_11 : decode cX2_cut 11 = .ok (.lload_n 0, 1) := dk_30 (dk_at dksX2_cut_0 11 rfl rfl)
theorem dX2_cut_12 : decode cX2_cut 12 = .ok (.iload_n 3, 1) := dk_29 (dk_at dksX2_cut_0 12 rfl rfl)
theorem dX2_cut_13 : decode cX2_cut 13 = .ok (.i2l, 1) := dk_133 (dk_at dksX2_cut_0 13 rfl rfl)
theorem dX2_cut_14 : decode cX2_cut 14 = .ok (.lcmp, 1) := dk_148 (dk_at dksX2_cut_0 14 rfl rfl)
theorem dX2_cut_15 : decode cX2_cut 15 = .ok (.ifCond .le 7, 3) := dk_158 0 7 (dk_at dksX2_cut_0 15 rfl rfl)
theorem dX2_cut_18 : decode cX2_cut 18 = .ok (.iload_n 3, 1) := dk_29 (dk_at dksX2_cut_0 18 rfl rfl)
theorem dX2_cut_19 : decode cX2_cut 19 = .ok (.goto 5, 3) := dk_167 0 5 (dk_at dksX2_cut_0 19 rfl rfl)
theorem dX2_cut_22 : decode cX2_cut 22 = .ok (.lload_n 0, 1) := dk_30 (dk_at dksX2_cut_0 22 rfl rfl)
theorem dX2_cut_23 : decode cX2_cut 23 = .ok (.l2i, 1) := dk_136 (dk_at dksX2_cut_0 23 rfl rfl)
theorem dX2_cut_24 : decode cX2_cut 24 = .ok (.ireturn, 1) := dk_172 (dk_at dksX2_cut_1 0 rfl rfl)
abbrev cX2_marry : ByteArray := prog_19_method_77_code
def yX2_marry : MethodName := ⟨RX2, "marry", "(II)I"⟩
def dkwX2_marry_6 : List UInt8 := [21, 4, 172]
abbrev dktX2_marry_6 : List UInt8 := dkwX2_marry_6 ++ []
def dkwX2_marry_5 : List UInt8 := [42, 27, 5, 182, 0, 73, 96, 133, 3, 16, 99, 184, 1, 43, 182, 0, 84, 42, 27, 6, 4, 182, 0, 84]
abbrev dktX2_marry_5 : List UInt8 := dkwX2_marry_5 ++ dktX2_marry_6
def dkwX2_marry_4 : List UInt8 := [182, 0, 73, 96, 133, 3, 17, 39, 15, 184, 1, 43, 182, 0, 84, 42, 28, 5, 42, 28, 5, 182, 0, 73]
abbrev dktX2_marry_4 : List UInt8 := dkwX2_marry_4 ++ dktX2_marry_5
def dkwX2_marry_3 : List UInt8 := [182, 1, 79, 42, 28, 3, 21, 4, 182, 0, 84, 42, 28, 4, 42, 28, 4, 182, 0, 73, 42, 27, 4]
abbrev dktX2_marry_3 : List UInt8 := dkwX2_marry_3 ++ dktX2_marry_4
def dkwX2_marry_2 : List UInt8 := [182, 0, 73, 42, 28, 3, 182, 0, 73, 128, 54, 4, 21, 4, 184, 1, 49, 6, 164, 0, 5, 2, 172, 42]
abbrev dktX2_marry_2 : List UInt8 := dkwX2_marry_2 ++ dktX2_marry_3
def dkwX2_marry_1 : List UInt8 := [27, 3, 182, 0, 73, 42, 28, 3, 182, 0, 73, 126, 62, 29, 153, 0, 7, 29, 167, 0, 16, 42, 27, 3]
abbrev dktX2_marry_1 : List UInt8 := dkwX2_marry_1 ++ dktX2_marry_2
def dkwX2_marry_0 : List UInt8 := [42, 27, 182, 0, 77, 153, 0, 16, 42, 28, 182, 0, 77, 153, 0, 8, 27, 28, 160, 0, 5, 2, 172, 42]
abbrev dktX2_marry_0 : List UInt8 := dkwX2_marry_0 ++ dktX2_marry_1
theorem dksX2_marry_0 : cX2_marry.data.toList.drop 0 = dktX2_marry_0 := by decide +kernel
theorem dksX2_marry_1 : cX2_marry.data.toList.drop 24 = dktX2_marry_1 := dk_seg dksX2_marry_0 24 rfl rfl
theorem dksX2_marry_2 : cX2_marry.data.toList.drop 48 = dktX2_marry_2 := dk_seg dksX2_marry_1 24 rfl rfl
theorem dksX2_marry_3 : cX2_marry.data.toList.drop 72 = dktX2_marry_3 := dk_seg dksX2_marry_2 24 rfl rfl
theorem dksX2_marry_4 : cX2_marry.data.toList.drop 95 = dktX2_marry_4 := dk_seg dksX2_marry_3 23 rfl rfl
theorem dksX2_marry_5 : cX2_marry.data.toList.drop 119 = dktX2_marry_5 := dk_seg dksX2_marry_4 24 rfl rfl
theorem dksX2_marry_6 : cX2_marry.data.toList.drop 143 = dktX2_marry_6 := dk_seg dksX2_marry_5 24 rfl rfl
theorem dX2_marry_0 : decode cX2_marry 0 = .ok (.aload_n 0, 1) := dk_42 (dk_at dksX2_marry_0 0 rfl rfl)
theorem dX2_marry_1 : decode cX2_marry 1 = .ok (.iload_n 1, 1) := dk_27 (dk_at dksX2_marry_0 1 rfl rfl)
theorem dX2_marry_2 : decode cX2_marry 2 = .ok (.invokevirtual 77, 3) := dk_182 0 77 (dk_at dksX2_marry_0 2 rfl rfl)
theorem dX2_marry_5 : decode cX2_marry 5 = .ok (.ifCond .eq 16, 3) := dk_153 0 16 (dk_at dksX2_marry_0 5 rfl rfl)
theorem dX2_marry_8 : decode cX2_marry 8 = .ok (.aload_n 0, 1) := dk_42 (dk_at dksX2_marry_0 8 rfl rfl)
theorem dX2_marry_9 : decode cX2_marry 9 = .ok (.iload_n 2, 1) := dk_28 (dk_at dksX2_marry_0 9 rfl rfl)
theorem dX2_marry_10 : decode cX2_marry 10 = .ok (.invokevirtual 77, 3) := dk_182 0 77 (dk_at dksX2_marry_0 10 rfl rfl)
theorem dX2_marry_13 : decode cX2_marry 13 = .ok (.ifCond .eq 8, 3) := dk_153 0 8 (dk_at dksX2_marry_0 13 rfl rfl)
theorem dX2_marry_16 : decode cX2_marry 16 = .ok (.iload_n 1, 1) := dk_27 (dk_at dksX2_marry_0 16 rfl rfl)
theorem dX2_marry_17 : decode cX2_marry 17 = .ok (.iload_n 2, 1) := dk_28 (dk_at dksX2_marry_0 17 rfl rfl)
theorem dX2_marry_18 : decode cX2_marry 18 = .ok (.if_icmp .ne 5, 3) := dk_160 0 5 (dk_at dksX2_marry_0 18 rfl rfl)
theorem dX2_marry_21 : decode cX2_marry 21 = .ok (.iconst (-1), 1) := dk_2 (dk_at dksX2_marry_0 21 rfl rfl)
theorem dX2_marry_22 : decode cX2_marry 22 = .ok (.ireturn, 1) := dk_172 (dk_at dksX2_marry_0 22 rfl rfl)
theorem dX2_marry_23 : decode cX2_marry 23 = .ok (.aload_n 0, 1) := dk_42 (dk_at dksX2_marry_0 23 rfl rfl)
theorem dX2_marry_24 : decode cX2_marry 24 = .ok (.iload_n 1, 1) := dk_27 (dk_at dksX2_marry_1 0 rfl rfl)
theorem dX2_marry_25 : decode cX2_marry 25 = .ok (.iconst 0, 1) := dk_3 (dk_at dksX2_marry_1 1 rfl rfl)
theorem dX2_marry_26 : decode cX2_marry 26 = .ok (.invokevirtual 73, 3) := dk_182 0 73 (dk_at dksX2_marry_1 2 rfl rfl)
theorem dX2_marry_29 : decode cX2_marry 29 = .ok (.aload_n 0, 1) := dk_42 (dk_at dksX2_marry_1 5 rfl rfl)
theorem dX2_marry_30 : decode cX2_marry 30 = .ok (.iload_n 2, 1) := dk_28 (dk_at dksX2_marry_1 6 rfl rfl)
theorem dX2_marry_31 : decode cX2_marry 31 = .ok (.iconst 0, 1) := dk_3 (dk_at dksX2_marry_1 7 rfl rfl)
theorem dX2_marry_32 : decode cX2_marry 32 = .ok (.invokevirtual 73, 3) := dk_182 0 73 (dk_at dksX2_marry_1 8 rfl rfl)
theorem dX2_marry_35 : decode cX2_marry 35 = .ok (.iand, 1) := dk_126 (dk_at dksX2_marry_1 11 rfl rfl)
theorem dX2_marry_36 : decode cX2_marry 36 = .ok (.istore_n 3, 1) := dk_62 (dk_at dksX2_marry_1 12 rfl rfl)
theorem dX2_marry_37 : decode cX2_marry 37 = .ok (.iload_n 3, 1) := dk_29 (dk_at dksX2_marry_1 13 rfl rfl)
theorem dX2_marry_38 : decode cX2_marry 38 = .ok (.ifCond .eq 7, 3) := dk_153 0 7 (dk_at dksX2_marry_1 14 rfl rfl)
theorem dX2_marry_41 : decode cX2_marry 41 = .ok (.iload_n 3, 1) := dk_29 (dk_at dksX2_marry_1 17 rfl rfl)
theorem dX2_marry_42 : decode cX2_marry 42 = .ok (.goto 16, 3) := dk_167 0 16 (dk_at dksX2_marry_1 18 rfl rfl)
theorem dX2_marry_45 : decode cX2_marry 45 = .ok (.aload_n 0, 1) := dk_42 (dk_at dksX2_marry_1 21 rfl rfl)
theorem dX2_marry_46 : decode cX2_marry 46 = .ok (.iload_n 1, 1) := dk_27 (dk_at dksX2_marry_1 22 rfl rfl)
theorem dX2_marry_47 : decode cX2_marry 47 = .ok (.iconst 0, 1) := dk_3 (dk_at dksX2_marry_1 23 rfl rfl)
theorem dX2_marry_48 : decode cX2_marry 48 = .ok (.invokevirtual 73, 3) := dk_182 0 73 (dk_at dksX2_marry_2 0 rfl rfl)
theorem dX2_marry_51 : decode cX2_marry 51 = .ok (.aload_n 0, 1) := dk_42 (dk_at dksX2_marry_2 3 rfl rfl)
theorem dX2_marry_52 : decode cX2_marry 52 = .ok (.iload_n 2, 1) := dk_28 (dk_at dksX2_marry_2 4 rfl rfl)
theorem dX2_marry_53 : decode cX2_marry 53 = .ok (.iconst 0, 1) := dk_3 (dk_at dksX2_marry_2 5 rfl rfl)
theorem dX2_marry_54 : decode cX2_marry 54 = .ok (.invokevirtual 73, 3) := dk_182 0 73 (dk_at dksX2_marry_2 6 rfl rfl)
theorem dX2_marry_57 : decode cX2_marry 57 = .ok (.ior, 1) := dk_128 (dk_at dksX2_marry_2 9 rfl rfl)
theorem dX2_marry_58 : decode cX2_marry 58 = .ok (.istore 4, 2) := dk_54 4 (dk_at dksX2_marry_2 10 rfl rfl)
theorem dX2_marry_60 : decode cX2_marry 60 = .ok (.iload 4, 2) := dk_21 4 (dk_at dksX2_marry_2 12 rfl rfl)
theorem dX2_marry_62 : decode cX2_marry 62 = .ok (.invokestatic 305, 3) := dk_184 1 49 (dk_at dksX2_marry_2 14 rfl rfl)
theorem dX2_marry_65 : decode cX2_marry 65 = .ok (.iconst 3, 1) := dk_6 (dk_at dksX2_marry_2 17 rfl rfl)
theorem dX2_marry_66 : decode cX2_marry 66 = .ok (.if_icmp .le 5, 3) := dk_164 0 5 (dk_at dksX2_marry_2 18 rfl rfl)
theorem dX2_marry_69 : decode cX2_marry 69 = .ok (.iconst (-1), 1) := dk_2 (dk_at dksX2_marry_2 21 rfl rfl)
theorem dX2_marry_70 : decode cX2_marry 70 = .ok (.ireturn, 1) := dk_172 (dk_at dksX2_marry_2 22 rfl rfl)
theorem dX2_marry_71 : decode cX2_marry 71 = .ok (.aload_n 0, 1) := dk_42 (dk_at dksX2_marry_2 23 rfl rfl)
theorem dX2_marry_72 : decode cX2_marry 72 = .ok (.invokevirtual 335, 3) := dk_182 1 79 (dk_at dksX2_marry_3 0 rfl rfl)
theorem dX2_marry_75 : decode cX2_marry 75 = .ok (.aload_n 0, 1) := dk_42 (dk_at dksX2_marry_3 3 rfl rfl)
theorem dX2_marry_76 : decode cX2_marry 76 = .ok (.iload_n 2, 1) := dk_28 (dk_at dksX2_marry_3 4 rfl rfl)
theorem dX2_marry_77 : decode cX2_marry 77 = .ok (.iconst 0, 1) := dk_3 (dk_at dksX2_marry_3 5 rfl rfl)
theorem dX2_marry_78 : decode cX2_marry 78 = .ok (.iload 4, 2) := dk_21 4 (dk_at dksX2_marry_3 6 rfl rfl)
theorem dX2_marry_80 : decode cX2_marry 80 = .ok (.invokevirtual 84, 3) := dk_182 0 84 (dk_at dksX2_marry_3 8 rfl rfl)
theorem dX2_marry_83 : decode cX2_marry 83 = .ok (.aload_n 0, 1) := dk_42 (dk_at dksX2_marry_3 11 rfl rfl)
theorem dX2_marry_84 : decode cX2_marry 84 = .ok (.iload_n 2, 1) := dk_28 (dk_at dksX2_marry_3 12 rfl rfl)
theorem dX2_marry_85 : decode cX2_marry 85 = .ok (.iconst 1, 1) := dk_4 (dk_at dksX2_marry_3 13 rfl rfl)
theorem dX2_marry_86 : decode cX2_marry 86 = .ok (.aload_n 0, 1) := dk_42 (dk_at dksX2_marry_3 14 rfl rfl)
theorem dX2_marry_87 : decode cX2_marry 87 = .ok (.iload_n 2, 1) := dk_28 (dk_at dksX2_marry_3 15 rfl rfl)
theorem dX2_marry_88 : decode cX2_marry 88 = .ok (.iconst 1, 1) := dk_4 (dk_at dksX2_marry_3 16 rfl rfl)
theorem dX2_marry_89 : decode cX2_marry 89 = .ok (.invokevirtual 73, 3) := dk_182 0 73 (dk_at dksX2_marry_3 17 rfl rfl)
theorem dX2_marry_92 : decode cX2_marry 92 = .ok (.aload_n 0, 1) := dk_42 (dk_at dksX2_marry_3 20 rfl rfl)
theorem dX2_marry_93 : decode cX2_marry 93 = .ok (.iload_n 1, 1) := dk_27 (dk_at dksX2_marry_3 21 rfl rfl)
theorem dX2_marry_94 : decode cX2_marry 94 = .ok (.iconst 1, 1) := dk_4 (dk_at dksX2_marry_3 22 rfl rfl)
theorem dX2_marry_95 : decode cX2_marry 95 = .ok (.invokevirtual 73, 3) := dk_182 0 73 (dk_at dksX2_marry_4 0 rfl rfl)
theorem dX2_marry_98 : decode cX2_marry 98 = .ok (.iadd, 1) := dk_96 (dk_at dksX2_marry_4 3 rfl rfl)
theorem dX2_marry_99 : decode cX2_marry 99 = .ok (.i2l, 1) := dk_133 (dk_at dksX2_marry_4 4 rfl rfl)
theorem dX2_marry_100 : decode cX2_marry 100 = .ok (.iconst 0, 1) := dk_3 (dk_at dksX2_marry_4 5 rfl rfl)
theorem dX2_marry_101 : decode cX2_marry 101 = .ok (.sipush 9999, 3) := dk_17 39 15 (dk_at dksX2_marry_4 6 rfl rfl)
theorem dX2_marry_104 : decode cX2_marry 104 = .ok (.invokestatic 299, 3) := dk_184 1 43 (dk_at dksX2_marry_4 9 rfl rfl)
theorem dX2_marry_107 : decode cX2_marry 107 = .ok (.invokevirtual 84, 3) := dk_182 0 84 (dk_at dksX2_marry_4 12 rfl rfl)
theorem dX2_marry_110 : decode cX2_marry 110 = .ok (.aload_n 0, 1) := dk_42 (dk_at dksX2_marry_4 15 rfl rfl)
theorem dX2_marry_111 : decode cX2_marry 111 = .ok (.iload_n 2, 1) := dk_28 (dk_at dksX2_marry_4 16 rfl rfl)
theorem dX2_marry_112 : decode cX2_marry 112 = .ok (.iconst 2, 1) := dk_5 (dk_at dksX2_marry_4 17 rfl rfl)
theorem dX2_marry_113 : decode cX2_marry 113 = .ok (.aload_n 0, 1) := dk_42 (dk_at dksX2_marry_4 18 rfl rfl)
theorem dX2_marry_114 : decode cX2_marry 114 = .ok (.iload_n 2, 1) := dk_28 (dk_at dksX2_marry_4 19 rfl rfl)
theorem dX2_marry_115 : decode cX2_marry 115 = .ok (.iconst 2, 1) := dk_5 (dk_at dksX2_marry_4 20 rfl rfl)
theorem dX2_marry_116 : decode cX2_marry 116 = .ok (.invokevirtual 73, 3) := dk_182 0 73 (dk_at dksX2_marry_4 21 rfl rfl)
theorem dX2_marry_119 : decode cX2_marry 119 = .ok (.aload_n 0, 1) := dk_42 (dk_at dksX2_marry_5 0 rfl rfl)
theorem dX2_marry_120 : decode cX2_marry 120 = .ok (.iload_n 1, 1) := dk_27 (dk_at dksX2_marry_5 1 rfl rfl)
theorem dX2_marry_121 : decode cX2_marry 121 = .ok (.iconst 2, 1) := dk_5 (dk_at dksX2_marry_5 2 rfl rfl)
theorem dX2_marry_122 : decode cX2_marry 122 = .ok (.invokevirtual 73, 3) := dk_182 0 73 (dk_at dksX2_marry_5 3 rfl rfl)
theorem dX2_marry_125 : decode cX2_marry 125 = .ok (.iadd, 1) := dk_96 (dk_at dksX2_marry_5 6 rfl rfl)
theorem dX2_marry_126 : decode cX2_marry 126 = .ok (.i2l, 1) := dk_133 (dk_at dksX2_marry_5 7 rfl rfl)
theorem dX2_marry_127 : decode cX2_marry 127 = .ok (.iconst 0, 1) := dk_3 (dk_at dksX2_marry_5 8 rfl rfl)
theorem dX2_marry_128 : decode cX2_marry 128 = .ok (.bipush 99, 2) := dk_16 99 (dk_at dksX2_marry_5 9 rfl rfl)
theorem dX2_marry_130 : decode cX2_marry 130 = .ok (.invokestatic 299, 3) := dk_184 1 43 (dk_at dksX2_marry_5 11 rfl rfl)
theorem dX2_marry_133 : decode cX2_marry 133 = .ok (.invokevirtual 84, 3) := dk_182 0 84 (dk_at dksX2_marry_5 14 rfl rfl)
theorem dX2_marry_136 : decode cX2_marry 136 = .ok (.aload_n 0, 1) := dk_42 (dk_at dksX2_marry_5 17 rfl rfl)
theorem dX2_marry_137 : decode cX2_marry 137 = .ok (.iload_n 1, 1) := dk_27 (dk_at dksX2_marry_5 18 rfl rfl)
theorem dX2_marry_138 : decode cX2_marry 138 = .ok (.iconst 3, 1) := dk_6 (dk_at dksX2_marry_5 19 rfl rfl)
theorem dX2_marry_139 : decode cX2_marry 139 = .ok (.iconst 1, 1) := dk_4 (dk_at dksX2_marry_5 20 rfl rfl)
theorem dX2_marry_140 : decode cX2_marry 140 = .ok (.invokevirtual 84, 3) := dk_182 0 84 (dk_at dksX2_marry_5 21 rfl rfl)
theorem dX2_marry_143 : decode cX2_marry 143 = .ok (.iload 4, 2) := dk_21 4 (dk_at dksX2_marry_6 0 rfl rfl)
theorem dX2_marry_145 : decode cX2_marry 145 = .ok (.ireturn, 1) := dk_172 (dk_at dksX2_marry_6 2 rfl rfl)
abbrev cX2_hat : ByteArray := prog_19_method_81_code
def yX2_hat : MethodName := ⟨RX2, "hat", "(I)I"⟩
def dkwX2_hat_0 : List UInt8 := [42, 27, 182, 1, 94, 154, 0, 5, 2, 172, 42, 182, 1, 79, 42, 27, 182, 1, 97, 172]
abbrev dktX2_hat_0 : List UInt8 := dkwX2_hat_0 ++ []
theorem dksX2_hat_0 : cX2_hat.data.toList.drop 0 = dktX2_hat_0 := by decide +kernel
theorem dX2_hat_0 : decode cX2_hat 0 = .ok (.aload_n 0, 1) := dk_42 (dk_at dksX2_hat_0 0 rfl rfl)
theorem dX2_hat_1 : decode cX2_hat 1 = .ok (.iload_n 1, 1) := dk_27 (dk_at dksX2_hat_0 1 rfl rfl)
theorem dX2_hat_2 : decode cX2_hat 2 = .ok (.invokevirtual 350, 3) := dk_182 1 94 (dk_at dksX2_hat_0 2 rfl rfl)
theorem dX2_hat_5 : decode cX2_hat 5 = .ok (.ifCond .ne 5, 3) := dk_154 0 5 (dk_at dksX2_hat_0 5 rfl rfl)
theorem dX2_hat_8 : decode cX2_hat 8 = .ok (.iconst (-1), 1) := dk_2 (dk_at dksX2_hat_0 8 rfl rfl)
theorem dX2_hat_9 : decode cX2_hat 9 = .ok (.ireturn, 1) := dk_172 (dk_at dksX2_hat_0 9 rfl rfl)
theorem dX2_hat_10 : decode cX2_hat 10 = .ok (.aload_n 0, 1) := dk_42 (dk_at dksX2_hat_0 10 rfl rfl)
theorem dX2_hat_11 : decode cX2_hat 11 = .ok (.invokevirtual 335, 3) := dk_182 1 79 (dk_at dksX2_hat_0 11 rfl rfl)
theorem dX2_hat_14 : decode cX2_hat 14 = .ok (.aload_n 0, 1) := dk_42 (dk_at dksX2_hat_0 14 rfl rfl)
theorem dX2_hat_15 : decode cX2_hat 15 = .ok (.iload_n 1, 1) := dk_27 (dk_at dksX2_hat_0 15 rfl rfl)
theorem dX2_hat_16 : decode cX2_hat 16 = .ok (.invokevirtual 353, 3) := dk_182 1 97 (dk_at dksX2_hat_0 16 rfl rfl)
theorem dX2_hat_19 : decode cX2_hat 19 = .ok (.ireturn, 1) := dk_172 (dk_at dksX2_hat_0 19 rfl rfl)
abbrev cX2_canDraw : ByteArray := prog_19_method_78_code
def yX2_canDraw : MethodName := ⟨RX2, "canDraw", "(I)Z"⟩
def dkwX2_canDraw_1 : List UInt8 := [167, 0, 4, 3, 172]
abbrev dktX2_canDraw_1 : List UInt8 := dkwX2_canDraw_1 ++ []
def dkwX2_canDraw_0 : List UInt8 := [42, 27, 182, 0, 77, 153, 0, 20, 42, 27, 3, 182, 0, 73, 184, 1, 49, 6, 162, 0, 7, 4]
abbrev dktX2_canDraw_0 : List UInt8 := dkwX2_canDraw_0 ++ dktX2_canDraw_1
theorem dksX2_canDraw_0 : cX2_canDraw.data.toList.drop 0 = dktX2_canDraw_0 := by decide +kernel
theorem dksX2_canDraw_1 : cX2_canDraw.data.toList.drop 22 = dktX2_canDraw_1 := dk_seg dksX2_canDraw_0 22 rfl rfl
theorem dX2_canDraw_0 : decode cX2_canDraw 0 = .ok (.aload_n 0, 1) := dk_42 (dk_at dksX2_canDraw_0 0 rfl rfl)
theorem dX2_canDraw_1 : decode cX2_canDraw 1 = .ok (.iload_n 1, 1) := dk_27 (dk_at dksX2_canDraw_0 1 rfl rfl)
theorem dX2_canDraw_2 : decode cX2_canDraw 2 = .ok (.invokevirtual 77, 3) := dk_182 0 77 (dk_at dksX2_canDraw_0 2 rfl rfl)
theorem dX2_canDraw_5 : decode cX2_canDraw 5 = .ok (.ifCond .eq 20, 3) := dk_153 0 20 (dk_at dksX2_canDraw_0 5 rfl rfl)
theorem dX2_canDraw_8 : decode cX2_canDraw 8 = .ok (.aload_n 0, 1) := dk_42 (dk_at dksX2_canDraw_0 8 rfl rfl)
theorem dX2_canDraw_9 : decode cX2_canDraw 9 = .ok (.iload_n 1, 1) := dk_27 (dk_at dksX2_canDraw_0 9 rfl rfl)
theorem dX2_canDraw_10 : decode cX2_canDraw 10 = .ok (.iconst 0, 1) := dk_3 (dk_at dksX2_canDraw_0 10 rfl rfl)
theorem dX2_canDraw_11 : decode cX2_canDraw 11 = .ok (.invokevirtual 73, 3) := dk_182 0 73 (dk_at dksX2_canDraw_0 11 rfl rfl)
theorem dX2_canDraw_14 : decode cX2_canDraw 14 = .ok (.invokestatic 305, 3) := dk_184 1 49 (dk_at dksX2_canDraw_0 14 rfl rfl)
theorem dX2_canDraw_17 : decode cX2_canDraw 17 = .ok (.iconst 3, 1) := dk_6 (dk_at dksX2_canDraw_0 17 rfl rfl)
theorem dX2_canDraw_18 : decode cX2_canDraw 18 = .ok (.if_icmp .ge 7, 3) := dk_162 0 7 (dk_at dksX2_canDraw_0 18 rfl rfl)
theorem dX2_canDraw_21 : decode cX2_canDraw 21 = .ok (.iconst 1, 1) := dk_4 (dk_at dksX2_canDraw_0 21 rfl rfl)
theorem dX2_canDraw_22 : decode cX2_canDraw 22 = .ok (.goto 4, 3) := dk_167 0 4 (dk_at dksX2_canDraw_1 0 rfl rfl)
theorem dX2_canDraw_25 : decode cX2_canDraw 25 = .ok (.iconst 0, 1) := dk_3 (dk_at dksX2_canDraw_1 3 rfl rfl)
theorem dX2_canDraw_26 : decode cX2_canDraw 26 = .ok (.ireturn, 1) := dk_172 (dk_at dksX2_canDraw_1 4 rfl rfl)
abbrev cX2_hatNow : ByteArray := prog_19_method_80_code
def yX2_hatNow : MethodName := ⟨RX2, "hatNow", "(I)I"⟩
def dkwX2_hatNow_2 : List UInt8 := [4, 29, 120, 128, 182, 0, 84, 29, 172, 132, 2, 1, 167, 255, 198, 2, 172]
abbrev dktX2_hatNow_2 : List UInt8 := dkwX2_hatNow_2 ++ []
def dkwX2_hatNow_1 : List UInt8 := [27, 3, 182, 0, 73, 29, 184, 0, 80, 153, 0, 6, 167, 0, 21, 42, 27, 3, 42, 27, 3, 182, 0, 73]
abbrev dktX2_hatNow_1 : List UInt8 := dkwX2_hatNow_1 ++ dktX2_hatNow_2
def dkwX2_hatNow_0 : List UInt8 := [3, 61, 28, 16, 20, 162, 0, 58, 42, 180, 0, 7, 16, 9, 46, 16, 20, 112, 62, 42, 182, 1, 91, 42]
abbrev dktX2_hatNow_0 : List UInt8 := dkwX2_hatNow_0 ++ dktX2_hatNow_1
theorem dksX2_hatNow_0 : cX2_hatNow.data.toList.drop 0 = dktX2_hatNow_0 := by decide +kernel
theorem dksX2_hatNow_1 : cX2_hatNow.data.toList.drop 24 = dktX2_hatNow_1 := dk_seg dksX2_hatNow_0 24 rfl rfl
theorem dksX2_hatNow_2 : cX2_hatNow.data.toList.drop 48 = dktX2_hatNow_2 := dk_seg dksX2_hatNow_1 24 rfl rfl
theorem dX2_hatNow_0 : decode cX2_hatNow 0 = .ok (.iconst 0, 1) := dk_3 (dk_at dksX2_hatNow_0 0 rfl rfl)
theorem dX2_hatNow_1 : decode cX2_hatNow 1 = .ok (.istore_n 2, 1) := dk_61 (dk_at dksX2_hatNow_0 1 rfl rfl)
theorem dX2_hatNow_2 : decode cX2_hatNow 2 = .ok (.iload_n 2, 1) := dk_28 (dk_at dksX2_hatNow_0 2 rfl rfl)
theorem dX2_hatNow_3 : decode cX2_hatNow 3 = .ok (.bipush 20, 2) := dk_16 20 (dk_at dksX2_hatNow_0 3 rfl rfl)
theorem dX2_hatNow_5 : decode cX2_hatNow 5 = .ok (.if_icmp .ge 58, 3) := dk_162 0 58 (dk_at dksX2_hatNow_0 5 rfl rfl)
theorem dX2_hatNow_8 : decode cX2_hatNow 8 = .ok (.aload_n 0, 1) := dk_42 (dk_at dksX2_hatNow_0 8 rfl rfl)
theorem dX2_hatNow_9 : decode cX2_hatNow 9 = .ok (.getfield 7, 3) := dk_180 0 7 (dk_at dksX2_hatNow_0 9 rfl rfl)
theorem dX2_hatNow_12 : decode cX2_hatNow 12 = .ok (.bipush 9, 2) := dk_16 9 (dk_at dksX2_hatNow_0 12 rfl rfl)
theorem dX2_hatNow_14 : decode cX2_hatNow 14 = .ok (.iaload, 1) := dk_46 (dk_at dksX2_hatNow_0 14 rfl rfl)
theorem dX2_hatNow_15 : decode cX2_hatNow 15 = .ok (.bipush 20, 2) := dk_16 20 (dk_at dksX2_hatNow_0 15 rfl rfl)
theorem dX2_hatNow_17 : decode cX2_hatNow 17 = .ok (.irem, 1) := dk_112 (dk_at dksX2_hatNow_0 17 rfl rfl)
theorem dX2_hatNow_18 : decode cX2_hatNow 18 = .ok (.istore_n 3, 1) := dk_62 (dk_at dksX2_hatNow_0 18 rfl rfl)
theorem dX2_hatNow_19 : decode cX2_hatNow 19 = .ok (.aload_n 0, 1) := dk_42 (dk_at dksX2_hatNow_0 19 rfl rfl)
theorem dX2_hatNow_20 : decode cX2_hatNow 20 = .ok (.invokevirtual 347, 3) := dk_182 1 91 (dk_at dksX2_hatNow_0 20 rfl rfl)
theorem dX2_hatNow_23 : decode cX2_hatNow 23 = .ok (.aload_n 0, 1) := dk_42 (dk_at dksX2_hatNow_0 23 rfl rfl)
theorem dX2_hatNow_24 : decode cX2_hatNow 24 = .ok (.iload_n 1, 1) := dk_27 (dk_at dksX2_hatNow_1 0 rfl rfl)
theorem dX2_hatNow_25 : decode cX2_hatNow 25 = .ok (.iconst 0, 1) := dk_3 (dk_at dksX2_hatNow_1 1 rfl rfl)
theorem dX2_hatNow_26 : decode cX2_hatNow 26 = .ok (.invokevirtual 73, 3) := dk_182 0 73 (dk_at dksX2_hatNow_1 2 rfl rfl)
theorem dX2_hatNow_29 : decode cX2_hatNow 29 = .ok (.iload_n 3, 1) := dk_29 (dk_at dksX2_hatNow_1 5 rfl rfl)
theorem dX2_hatNow_30 : decode cX2_hatNow 30 = .ok (.invokestatic 80, 3) := dk_184 0 80 (dk_at dksX2_hatNow_1 6 rfl rfl)
theorem dX2_hatNow_33 : decode cX2_hatNow 33 = .ok (.ifCond .eq 6, 3) := dk_153 0 6 (dk_at dksX2_hatNow_1 9 rfl rfl)
theorem dX2_hatNow_36 : decode cX2_hatNow 36 = .ok (.goto 21, 3) := dk_167 0 21 (dk_at dksX2_hatNow_1 12 rfl rfl)
theorem dX2_hatNow_39 : decode cX2_hatNow 39 = .ok (.aload_n 0, 1) := dk_42 (dk_at dksX2_hatNow_1 15 rfl rfl)
theorem dX2_hatNow_40 : decode cX2_hatNow 40 = .ok (.iload_n 1, 1) := dk_27 (dk_at dksX2_hatNow_1 16 rfl rfl)
theorem dX2_hatNow_41 : decode cX2_hatNow 41 = .ok (.iconst 0, 1) := dk_3 (dk_at dksX2_hatNow_1 17 rfl rfl)
theorem dX2_hatNow_42 : decode cX2_hatNow 42 = .ok (.aload_n 0, 1) := dk_42 (dk_at dksX2_hatNow_1 18 rfl rfl)
theorem dX2_hatNow_43 : decode cX2_hatNow 43 = .ok (.iload_n 1, 1) := dk_27 (dk_at dksX2_hatNow_1 19 rfl rfl)
theorem dX2_hatNow_44 : decode cX2_hatNow 44 = .ok (.iconst 0, 1) := dk_3 (dk_at dksX2_hatNow_1 20 rfl rfl)
theorem dX2_hatNow_45 : decode cX2_hatNow 45 = .ok (.invokevirtual 73, 3) := dk_182 0 73 (dk_at dksX2_hatNow_1 21 rfl rfl)
theorem dX2_hatNow_48 : decode cX2_hatNow 48 = .ok (.iconst 1, 1) := dk_4 (dk_at dksX2_hatNow_2 0 rfl rfl)
theorem dX2_hatNow_49 : decode cX2_hatNow 49 = .ok (.iload_n 3, 1) := dk_29 (dk_at dksX2_hatNow_2 1 rfl rfl)
theorem dX2_hatNow_50 : decode cX2_hatNow 50 = .ok (.ishl, 1) := dk_120 (dk_at dksX2_hatNow_2 2 rfl rfl)
theorem dX2_hatNow_51 : decode cX2_hatNow 51 = .ok (.ior, 1) := dk_128 (dk_at dksX2_hatNow_2 3 rfl rfl)
theorem dX2_hatNow_52 : decode cX2_hatNow 52 = .ok (.invokevirtual 84, 3) := dk_182 0 84 (dk_at dksX2_hatNow_2 4 rfl rfl)
theorem dX2_hatNow_55 : decode cX2_hatNow 55 = .ok (.iload_n 3, 1) := dk_29 (dk_at dksX2_hatNow_2 7 rfl rfl)
theorem dX2_hatNow_56 : decode cX2_hatNow 56 = .ok (.ireturn, 1) := dk_172 (dk_at dksX2_hatNow_2 8 rfl rfl)
theorem dX2_hatNow_57 : decode cX2_hatNow 57 = .ok (.iinc 2 1, 3) := dk_132 2 1 (dk_at dksX2_hatNow_2 9 rfl rfl)
theorem dX2_hatNow_60 : decode cX2_hatNow 60 = .ok (.goto (-58), 3) := dk_167 255 198 (dk_at dksX2_hatNow_2 12 rfl rfl)
theorem dX2_hatNow_63 : decode cX2_hatNow 63 = .ok (.iconst (-1), 1) := dk_2 (dk_at dksX2_hatNow_2 15 rfl rfl)
theorem dX2_hatNow_64 : decode cX2_hatNow 64 = .ok (.ireturn, 1) := dk_172 (dk_at dksX2_hatNow_2 16 rfl rfl)
abbrev cX2_anew : ByteArray := prog_19_method_79_code
def yX2_anew : MethodName := ⟨RX2, "anew", "()V"⟩
def dkwX2_anew_1 : List UInt8 := [20, 1, 89, 113, 136, 79, 177]
abbrev dktX2_anew_1 : List UInt8 := dkwX2_anew_1 ++ []
def dkwX2_anew_0 : List UInt8 := [42, 180, 0, 7, 16, 9, 42, 180, 0, 7, 16, 9, 46, 133, 20, 1, 85, 105, 20, 1, 87, 97]
abbrev dktX2_anew_0 : List UInt8 := dkwX2_anew_0 ++ dktX2_anew_1
theorem dksX2_anew_0 : cX2_anew.data.toList.drop 0 = dktX2_anew_0 := by decide +kernel
theorem dksX2_anew_1 : cX2_anew.data.toList.drop 22 = dktX2_anew_1 := dk_seg dksX2_anew_0 22 rfl rfl
theorem dX2_anew_0 : decode cX2_anew 0 = .ok (.aload_n 0, 1) := dk_42 (dk_at dksX2_anew_0 0 rfl rfl)
theorem dX2_anew_1 : decode cX2_anew 1 = .ok (.getfield 7, 3) := dk_180 0 7 (dk_at dksX2_anew_0 1 rfl rfl)
theorem dX2_anew_4 : decode cX2_anew 4 = .ok (.bipush 9, 2) := dk_16 9 (dk_at dksX2_anew_0 4 rfl rfl)
theorem dX2_anew_6 : decode cX2_anew 6 = .ok (.aload_n 0, 1) := dk_42 (dk_at dksX2_anew_0 6 rfl rfl)
theorem dX2_anew_7 : decode cX2_anew 7 = .ok (.getfield 7, 3) := dk_180 0 7 (dk_at dksX2_anew_0 7 rfl rfl)
theorem dX2_anew_10 : decode cX2_anew 10 = .ok (.bipush 9, 2) := dk_16 9 (dk_at dksX2_anew_0 10 rfl rfl)
theorem dX2_anew_12 : decode cX2_anew 12 = .ok (.iaload, 1) := dk_46 (dk_at dksX2_anew_0 12 rfl rfl)
theorem dX2_anew_13 : decode cX2_anew 13 = .ok (.i2l, 1) := dk_133 (dk_at dksX2_anew_0 13 rfl rfl)
theorem dX2_anew_14 : decode cX2_anew 14 = .ok (.ldc2_w 341, 3) := dk_20 1 85 (dk_at dksX2_anew_0 14 rfl rfl)
theorem dX2_anew_17 : decode cX2_anew 17 = .ok (.lmul, 1) := dk_105 (dk_at dksX2_anew_0 17 rfl rfl)
theorem dX2_anew_18 : decode cX2_anew 18 = .ok (.ldc2_w 343, 3) := dk_20 1 87 (dk_at dksX2_anew_0 18 rfl rfl)
theorem dX2_anew_21 : decode cX2_anew 21 = .ok (.ladd, 1) := dk_97 (dk_at dksX2_anew_0 21 rfl rfl)
theorem dX2_anew_22 : decode cX2_anew 22 = .ok (.ldc2_w 345, 3) := dk_20 1 89 (dk_at dksX2_anew_1 0 rfl rfl)
theorem dX2_anew_25 : decode cX2_anew 25 = .ok (.lrem, 1) := dk_113 (dk_at dksX2_anew_1 3 rfl rfl)
theorem dX2_anew_26 : decode cX2_anew 26 = .ok (.l2i, 1) := dk_136 (dk_at dksX2_anew_1 4 rfl rfl)
theorem dX2_anew_27 : decode cX2_anew 27 = .ok (.iastore, 1) := dk_79 (dk_at dksX2_anew_1 5 rfl rfl)
theorem dX2_anew_28 : decode cX2_anew 28 = .ok (.return_, 1) := dk_177 (dk_at dksX2_anew_1 6 rfl rfl)
abbrev cX2_forget : ByteArray := prog_19_method_84_code
def yX2_forget : MethodName := ⟨RX2, "forget", "(II)Z"⟩
def dkwX2_forget_0 : List UInt8 := [42, 27, 28, 182, 1, 100, 154, 0, 5, 3, 172, 42, 182, 1, 79, 42, 27, 28, 182, 1, 103, 4, 172]
abbrev dktX2_forget_0 : List UInt8 := dkwX2_forget_0 ++ []
theorem dksX2_forget_0 : cX2_forget.data.toList.drop 0 = dktX2_forget_0 := by decide +kernel
theorem dX2_forget_0 : decode cX2_forget 0 = .ok (.aload_n 0, 1) := dk_42 (dk_at dksX2_forget_0 0 rfl rfl)
theorem dX2_forget_1 : decode cX2_forget 1 = .ok (.iload_n 1, 1) := dk_27 (dk_at dksX2_forget_0 1 rfl rfl)
theorem dX2_forget_2 : decode cX2_forget 2 = .ok (.iload_n 2, 1) := dk_28 (dk_at dksX2_forget_0 2 rfl rfl)
theorem dX2_forget_3 : decode cX2_forget 3 = .ok (.invokevirtual 356, 3) := dk_182 1 100 (dk_at dksX2_forget_0 3 rfl rfl)
theorem dX2_forget_6 : decode cX2_forget 6 = .ok (.ifCond .ne 5, 3) := dk_154 0 5 (dk_at dksX2_forget_0 6 rfl rfl)
theorem dX2_forget_9 : decode cX2_forget 9 = .ok (.iconst 0, 1) := dk_3 (dk_at dksX2_forget_0 9 rfl rfl)
theorem dX2_forget_10 : decode cX2_forget 10 = .ok (.ireturn, 1) := dk_172 (dk_at dksX2_forget_0 10 rfl rfl)
theorem dX2_forget_11 : decode cX2_forget 11 = .ok (.aload_n 0, 1) := dk_42 (dk_at dksX2_forget_0 11 rfl rfl)
theorem dX2_forget_12 : decode cX2_forget 12 = .ok (.invokevirtual 335, 3) := dk_182 1 79 (dk_at dksX2_forget_0 12 rfl rfl)
theorem dX2_forget_15 : decode cX2_forget 15 = .ok (.aload_n 0, 1) := dk_42 (dk_at dksX2_forget_0 15 rfl rfl)
theorem dX2_forget_16 : decode cX2_forget 16 = .ok (.iload_n 1, 1) := dk_27 (dk_at dksX2_forget_0 16 rfl rfl)
theorem dX2_forget_17 : decode cX2_forget 17 = .ok (.iload_n 2, 1) := dk_28 (dk_at dksX2_forget_0 17 rfl rfl)
theorem dX2_forget_18 : decode cX2_forget 18 = .ok (.invokevirtual 359, 3) := dk_182 1 103 (dk_at dksX2_forget_0 18 rfl rfl)
theorem dX2_forget_21 : decode cX2_forget 21 = .ok (.iconst 1, 1) := dk_4 (dk_at dksX2_forget_0 21 rfl rfl)
theorem dX2_forget_22 : decode cX2_forget 22 = .ok (.ireturn, 1) := dk_172 (dk_at dksX2_forget_0 22 rfl rfl)
abbrev cX2_canForget : ByteArray := prog_19_method_82_code
def yX2_canForget : MethodName := ⟨RX2, "canForget", "(II)Z"⟩
def dkwX2_canForget_1 : List UInt8 := [27, 184, 0, 80, 153, 0, 7, 4, 167, 0, 4, 3, 172]
abbrev dktX2_canForget_1 : List UInt8 := dkwX2_canForget_1 ++ []
def dkwX2_canForget_0 : List UInt8 := [42, 28, 182, 0, 77, 153, 0, 30, 27, 3, 16, 19, 184, 0, 65, 153, 0, 20, 42, 28, 3, 182, 0, 73]
abbrev dktX2_canForget_0 : List UInt8 := dkwX2_canForget_0 ++ dktX2_canForget_1
theorem dksX2_canForget_0 : cX2_canForget.data.toList.drop 0 = dktX2_canForget_0 := by decide +kernel
theorem dksX2_canForget_1 : cX2_canForget.data.toList.drop 24 = dktX2_canForget_1 := dk_seg dksX2_canForget_0 24 rfl rfl
theorem dX2_canForget_0 : decode cX2_canForget 0 = .ok (.aload_n 0, 1) := dk_42 (dk_at dksX2_canForget_0 0 rfl rfl)
theorem dX2_canForget_1 : decode cX2_canForget 1 = .ok (.iload_n 2, 1) := dk_28 (dk_at dksX2_canForget_0 1 rfl rfl)
theorem dX2_canForget_2 : decode cX2_canForget 2 = .ok (.invokevirtual 77, 3) := dk_182 0 77 (dk_at dksX2_canForget_0 2 rfl rfl)
theorem dX2_canForget_5 : decode cX2_canForget 5 = .ok (.ifCond .eq 30, 3) := dk_153 0 30 (dk_at dksX2_canForget_0 5 rfl rfl)
theorem dX2_canForget_8 : decode cX2_canForget 8 = .ok (.iload_n 1, 1) := dk_27 (dk_at dksX2_canForget_0 8 rfl rfl)
theorem dX2_canForget_9 : decode cX2_canForget 9 = .ok (.iconst 0, 1) := dk_3 (dk_at dksX2_canForget_0 9 rfl rfl)
theorem dX2_canForget_10 : decode cX2_canForget 10 = .ok (.bipush 19, 2) := dk_16 19 (dk_at dksX2_canForget_0 10 rfl rfl)
theorem dX2_canForget_12 : decode cX2_canForget 12 = .ok (.invokestatic 65, 3) := dk_184 0 65 (dk_at dksX2_canForget_0 12 rfl rfl)
theorem dX2_canForget_15 : decode cX2_canForget 15 = .ok (.ifCond .eq 20, 3) := dk_153 0 20 (dk_at dksX2_canForget_0 15 rfl rfl)
theorem dX2_canForget_18 : decode cX2_canForget 18 = .ok (.aload_n 0, 1) := dk_42 (dk_at dksX2_canForget_0 18 rfl rfl)
theorem dX2_canForget_19 : decode cX2_canForget 19 = .ok (.iload_n 2, 1) := dk_28 (dk_at dksX2_canForget_0 19 rfl rfl)
theorem dX2_canForget_20 : decode cX2_canForget 20 = .ok (.iconst 0, 1) := dk_3 (dk_at dksX2_canForget_0 20 rfl rfl)
theorem dX2_canForget_21 : decode cX2_canForget 21 = .ok (.invokevirtual 73, 3) := dk_182 0 73 (dk_at dksX2_canForget_0 21 rfl rfl)
theorem dX2_canForget_24 : decode cX2_canForget 24 = .ok (.iload_n 1, 1) := dk_27 (dk_at dksX2_canForget_1 0 rfl rfl)
theorem dX2_canForget_25 : decode cX2_canForget 25 = .ok (.invokestatic 80, 3) := dk_184 0 80 (dk_at dksX2_canForget_1 1 rfl rfl)
theorem dX2_canForget_28 : decode cX2_canForget 28 = .ok (.ifCond .eq 7, 3) := dk_153 0 7 (dk_at dksX2_canForget_1 4 rfl rfl)
theorem dX2_canForget_31 : decode cX2_canForget 31 = .ok (.iconst 1, 1) := dk_4 (dk_at dksX2_canForget_1 7 rfl rfl)
theorem dX2_canForget_32 : decode cX2_canForget 32 = .ok (.goto 4, 3) := dk_167 0 4 (dk_at dksX2_canForget_1 8 rfl rfl)
theorem dX2_canForget_35 : decode cX2_canForget 35 = .ok (.iconst 0, 1) := dk_3 (dk_at dksX2_canForget_1 11 rfl rfl)
theorem dX2_canForget_36 : decode cX2_canForget 36 = .ok (.ireturn, 1) := dk_172 (dk_at dksX2_canForget_1 12 rfl rfl)
abbrev cX2_forgetNow : ByteArray := prog_19_method_83_code
def yX2_forgetNow : MethodName := ⟨RX2, "forgetNow", "(II)V"⟩
def dkwX2_forgetNow_0 : List UInt8 := [42, 28, 3, 42, 28, 3, 182, 0, 73, 4, 27, 120, 2, 130, 126, 182, 0, 84, 177]
abbrev dktX2_forgetNow_0 : List UInt8 := dkwX2_forgetNow_0 ++ []
theorem dksX2_forgetNow_0 : cX2_forgetNow.data.toList.drop 0 = dktX2_forgetNow_0 := by decide +kernel
theorem dX2_forgetNow_0 : decode cX2_forgetNow 0 = .ok (.aload_n 0, 1) := dk_42 (dk_at dksX2_forgetNow_0 0 rfl rfl)
theorem dX2_forgetNow_1 : decode cX2_forgetNow 1 = .ok (.iload_n 2, 1) := dk_28 (dk_at dksX2_forgetNow_0 1 rfl rfl)
theorem dX2_forgetNow_2 : decode cX2_forgetNow 2 = .ok (.iconst 0, 1) := dk_3 (dk_at dksX2_forgetNow_0 2 rfl rfl)
theorem dX2_forgetNow_3 : decode cX2_forgetNow 3 = .ok (.aload_n 0, 1) := dk_42 (dk_at dksX2_forgetNow_0 3 rfl rfl)
theorem dX2_forgetNow_4 : decode cX2_forgetNow 4 = .ok (.iload_n 2, 1) := dk_28 (dk_at dksX2_forgetNow_0 4 rfl rfl)
theorem dX2_forgetNow_5 : decode cX2_forgetNow 5 = .ok (.iconst 0, 1) := dk_3 (dk_at dksX2_forgetNow_0 5 rfl rfl)
theorem dX2_forgetNow_6 : decode cX2_forgetNow 6 = .ok (.invokevirtual 73, 3) := dk_182 0 73 (dk_at dksX2_forgetNow_0 6 rfl rfl)
theorem dX2_forgetNow_9 : decode cX2_forgetNow 9 = .ok (.iconst 1, 1) := dk_4 (dk_at dksX2_forgetNow_0 9 rfl rfl)
theorem dX2_forgetNow_10 : decode cX2_forgetNow 10 = .ok (.iload_n 1, 1) := dk_27 (dk_at dksX2_forgetNow_0 10 rfl rfl)
theorem dX2_forgetNow_11 : decode cX2_forgetNow 11 = .ok (.ishl, 1) := dk_120 (dk_at dksX2_forgetNow_0 11 rfl rfl)
theorem dX2_forgetNow_12 : decode cX2_forgetNow 12 = .ok (.iconst (-1), 1) := dk_2 (dk_at dksX2_forgetNow_0 12 rfl rfl)
theorem dX2_forgetNow_13 : decode cX2_forgetNow 13 = .ok (.ixor, 1) := dk_130 (dk_at dksX2_forgetNow_0 13 rfl rfl)
theorem dX2_forgetNow_14 : decode cX2_forgetNow 14 = .ok (.iand, 1) := dk_126 (dk_at dksX2_forgetNow_0 14 rfl rfl)
theorem dX2_forgetNow_15 : decode cX2_forgetNow 15 = .ok (.invokevirtual 84, 3) := dk_182 0 84 (dk_at dksX2_forgetNow_0 15 rfl rfl)
theorem dX2_forgetNow_18 : decode cX2_forgetNow 18 = .ok (.return_, 1) := dk_177 (dk_at dksX2_forgetNow_0 18 rfl rfl)
abbrev cX2_day : ByteArray := prog_19_method_86_code
def yX2_day : MethodName := ⟨RX2, "day", "(I)I"⟩
def dkwX2_day_1 : List UInt8 := [163, 0, 18, 42, 27, 182, 1, 109, 153, 0, 10, 42, 182, 1, 64, 167, 0, 4, 2, 172]
abbrev dktX2_day_1 : List UInt8 := dkwX2_day_1 ++ []
def dkwX2_day_0 : List UInt8 := [27, 4, 16, 60, 184, 0, 65, 153, 0, 33, 42, 180, 0, 7, 16, 8, 46, 27, 96, 17, 39, 15]
abbrev dktX2_day_0 : List UInt8 := dkwX2_day_0 ++ dktX2_day_1
theorem dksX2_day_0 : cX2_day.data.toList.drop 0 = dktX2_day_0 := by decide +kernel
theorem dksX2_day_1 : cX2_day.data.toList.drop 22 = dktX2_day_1 := dk_seg dksX2_day_0 22 rfl rfl
theorem dX2_day_0 : decode cX2_day 0 = .ok (.iload_n 1, 1) := dk_27 (dk_at dksX2_day_0 0 rfl rfl)
theorem dX2_day_1 : decode cX2_day 1 = .ok (.iconst 1, 1) := dk_4 (dk_at dksX2_day_0 1 rfl rfl)
theorem dX2_day_2 : decode cX2_day 2 = .ok (.bipush 60, 2) := dk_16 60 (dk_at dksX2_day_0 2 rfl rfl)
theorem dX2_day_4 : decode cX2_day 4 = .ok (.invokestatic 65, 3) := dk_184 0 65 (dk_at dksX2_day_0 4 rfl rfl)
theorem dX2_day_7 : decode cX2_day 7 = .ok (.ifCond .eq 33, 3) := dk_153 0 33 (dk_at dksX2_day_0 7 rfl rfl)
theorem dX2_day_10 : decode cX2_day 10 = .ok (.aload_n 0, 1) := dk_42 (dk_at dksX2_day_0 10 rfl rfl)
theorem dX2_day_11 : decode cX2_day 11 = .ok (.getfield 7, 3) := dk_180 0 7 (dk_at dksX2_day_0 11 rfl rfl)
theorem dX2_day_14 : decode cX2_day 14 = .ok (.bipush 8, 2) := dk_16 8 (dk_at dksX2_day_0 14 rfl rfl)
theorem dX2_day_16 : decode cX2_day 16 = .ok (.iaload, 1) := dk_46 (dk_at dksX2_day_0 16 rfl rfl)
theorem dX2_day_17 : decode cX2_day 17 = .ok (.iload_n 1, 1) := dk_27 (dk_at dksX2_day_0 17 rfl rfl)
theorem dX2_day_18 : decode cX2_day 18 = .ok (.iadd, 1) := dk_96 (dk_at dksX2_day_0 18 rfl rfl)
theorem dX2_day_19 : decode cX2_day 19 = .ok (.sipush 9999, 3) := dk_17 39 15 (dk_at dksX2_day_0 19 rfl rfl)
theorem dX2_day_22 : decode cX2_day 22 = .ok (.if_icmp .gt 18, 3) := dk_163 0 18 (dk_at dksX2_day_1 0 rfl rfl)
theorem dX2_day_25 : decode cX2_day 25 = .ok (.aload_n 0, 1) := dk_42 (dk_at dksX2_day_1 3 rfl rfl)
theorem dX2_day_26 : decode cX2_day 26 = .ok (.iload_n 1, 1) := dk_27 (dk_at dksX2_day_1 4 rfl rfl)
theorem dX2_day_27 : decode cX2_day 27 = .ok (.invokevirtual 365, 3) := dk_182 1 109 (dk_at dksX2_day_1 5 rfl rfl)
theorem dX2_day_30 : decode cX2_day 30 = .ok (.ifCond .eq 10, 3) := dk_153 0 10 (dk_at dksX2_day_1 8 rfl rfl)
theorem dX2_day_33 : decode cX2_day 33 = .ok (.aload_n 0, 1) := dk_42 (dk_at dksX2_day_1 11 rfl rfl)
theorem dX2_day_34 : decode cX2_day 34 = .ok (.invokevirtual 320, 3) := dk_182 1 64 (dk_at dksX2_day_1 12 rfl rfl)
theorem dX2_day_37 : decode cX2_day 37 = .ok (.goto 4, 3) := dk_167 0 4 (dk_at dksX2_day_1 15 rfl rfl)
theorem dX2_day_40 : decode cX2_day 40 = .ok (.iconst (-1), 1) := dk_2 (dk_at dksX2_day_1 18 rfl rfl)
theorem dX2_day_41 : decode cX2_day 41 = .ok (.ireturn, 1) := dk_172 (dk_at dksX2_day_1 19 rfl rfl)
abbrev cX2_arePassed : ByteArray := prog_19_method_85_code
def yX2_arePassed : MethodName := ⟨RX2, "arePassed", "(I)Z"⟩
def dkwX2_arePassed_1 : List UInt8 := [182, 1, 79, 42, 182, 1, 106, 132, 2, 1, 167, 255, 225, 4, 172]
abbrev dktX2_arePassed_1 : List UInt8 := dkwX2_arePassed_1 ++ []
def dkwX2_arePassed_0 : List UInt8 := [3, 61, 28, 27, 162, 0, 32, 42, 180, 0, 7, 16, 8, 46, 17, 39, 15, 160, 0, 5, 3, 172, 42]
abbrev dktX2_arePassed_0 : List UInt8 := dkwX2_arePassed_0 ++ dktX2_arePassed_1
theorem dksX2_arePassed_0 : cX2_arePassed.data.toList.drop 0 = dktX2_arePassed_0 := by decide +kernel
theorem dksX2_arePassed_1 : cX2_arePassed.data.toList.drop 23 = dktX2_arePassed_1 := dk_seg dksX2_arePassed_0 23 rfl rfl
theorem dX2_arePassed_0 : decode cX2_arePassed 0 = .ok (.iconst 0, 1) := dk_3 (dk_at dksX2_arePassed_0 0 rfl rfl)
theorem dX2_arePassed_1 : decode cX2_arePassed 1 = .ok (.istore_n 2, 1) := dk_61 (dk_at dksX2_arePassed_0 1 rfl rfl)
theorem dX2_arePassed_2 : decode cX2_arePassed 2 = .ok (.iload_n 2, 1) := dk_28 (dk_at dksX2_arePassed_0 2 rfl rfl)
theorem dX2_arePassed_3 : decode cX2_arePassed 3 = .ok (.iload_n 1, 1) := dk_27 (dk_at dksX2_arePassed_0 3 rfl rfl)
theorem dX2_arePassed_4 : decode cX2_arePassed 4 = .ok (.if_icmp .ge 32, 3) := dk_162 0 32 (dk_at dksX2_arePassed_0 4 rfl rfl)
theorem dX2_arePassed_7 : decode cX2_arePassed 7 = .ok (.aload_n 0, 1) := dk_42 (dk_at dksX2_arePassed_0 7 rfl rfl)
theorem dX2_arePassed_8 : decode cX2_arePassed 8 = .ok (.getfield 7, 3) := dk_180 0 7 (dk_at dksX2_arePassed_0 8 rfl rfl)
theorem dX2_arePassed_11 : decode cX2_arePassed 11 = .ok (.bipush 8, 2) := dk_16 8 (dk_at dksX2_arePassed_0 11 rfl rfl)
theorem dX2_arePassed_13 : decode cX2_arePassed 13 = .ok (.iaload, 1) := dk_46 (dk_at dksX2_arePassed_0 13 rfl rfl)
theorem dX2_arePassed_14 : decode cX2_arePassed 14 = .ok (.sipush 9999, 3) := dk_17 39 15 (dk_at dksX2_arePassed_0 14 rfl rfl)
theorem dX2_arePassed_17 : decode cX2_arePassed 17 = .ok (.if_icmp .ne 5, 3) := dk_160 0 5 (dk_at dksX2_arePassed_0 17 rfl rfl)
theorem dX2_arePassed_20 : decode cX2_arePassed 20 = .ok (.iconst 0, 1) := dk_3 (dk_at dksX2_arePassed_0 20 rfl rfl)
theorem dX2_arePassed_21 : decode cX2_arePassed 21 = .ok (.ireturn, 1) := dk_172 (dk_at dksX2_arePassed_0 21 rfl rfl)
theorem dX2_arePassed_22 : decode cX2_arePassed 22 = .ok (.aload_n 0, 1) := dk_42 (dk_at dksX2_arePassed_0 22 rfl rfl)
theorem dX2_arePassed_23 : decode cX2_arePassed 23 = .ok (.invokevirtual 335, 3) := dk_182 1 79 (dk_at dksX2_arePassed_1 0 rfl rfl)
theorem dX2_arePassed_26 : decode cX2_arePassed 26 = .ok (.aload_n 0, 1) := dk_42 (dk_at dksX2_arePassed_1 3 rfl rfl)
theorem dX2_arePassed_27 : decode cX2_arePassed 27 = .ok (.invokevirtual 362, 3) := dk_182 1 106 (dk_at dksX2_arePassed_1 4 rfl rfl)
theorem dX2_arePassed_30 : decode cX2_arePassed 30 = .ok (.iinc 2 1, 3) := dk_132 2 1 (dk_at dksX2_arePassed_1 7 rfl rfl)
theorem dX2_arePassed_33 : decode cX2_arePassed 33 = .ok (.goto (-31), 3) := dk_167 255 225 (dk_at dksX2_arePassed_1 10 rfl rfl)
theorem dX2_arePassed_36 : decode cX2_arePassed 36 = .ok (.iconst 1, 1) := dk_4 (dk_at dksX2_arePassed_1 13 rfl rfl)
theorem dX2_arePassed_37 : decode cX2_arePassed 37 = .ok (.ireturn, 1) := dk_172 (dk_at dksX2_arePassed_1 14 rfl rfl)
abbrev cX2_pass : ByteArray := prog_19_method_71_code
def yX2_pass : MethodName := ⟨RX2, "pass", "()V"⟩
def dkwX2_pass_4 : List UInt8 := [180, 0, 7, 16, 8, 92, 46, 4, 96, 79, 177]
abbrev dktX2_pass_4 : List UInt8 := dkwX2_pass_4 ++ []
def dkwX2_pass_3 : List UInt8 := [182, 0, 73, 29, 96, 133, 3, 17, 39, 15, 184, 1, 43, 182, 0, 84, 132, 2, 1, 167, 255, 173, 42]
abbrev dktX2_pass_3 : List UInt8 := dkwX2_pass_3 ++ dktX2_pass_4
def dkwX2_pass_2 : List UInt8 := [116, 167, 0, 15, 42, 28, 42, 180, 0, 7, 16, 8, 46, 182, 1, 70, 62, 42, 28, 4, 42, 28, 4]
abbrev dktX2_pass_2 : List UInt8 := dkwX2_pass_2 ++ dktX2_pass_3
def dkwX2_pass_1 : List UInt8 := [160, 0, 6, 167, 0, 60, 42, 28, 3, 182, 0, 73, 27, 184, 0, 80, 153, 0, 12, 42, 28, 182, 1, 67]
abbrev dktX2_pass_1 : List UInt8 := dkwX2_pass_1 ++ dktX2_pass_2
def dkwX2_pass_0 : List UInt8 := [42, 182, 1, 64, 60, 3, 61, 28, 42, 180, 0, 7, 3, 46, 162, 0, 79, 42, 28, 6, 182, 0, 73, 4]
abbrev dktX2_pass_0 : List UInt8 := dkwX2_pass_0 ++ dktX2_pass_1
theorem dksX2_pass_0 : cX2_pass.data.toList.drop 0 = dktX2_pass_0 := by decide +kernel
theorem dksX2_pass_1 : cX2_pass.data.toList.drop 24 = dktX2_pass_1 := dk_seg dksX2_pass_0 24 rfl rfl
theorem dksX2_pass_2 : cX2_pass.data.toList.drop 48 = dktX2_pass_2 := dk_seg dksX2_pass_1 24 rfl rfl
theorem dksX2_pass_3 : cX2_pass.data.toList.drop 71 = dktX2_pass_3 := dk_seg dksX2_pass_2 23 rfl rfl
theorem dksX2_pass_4 : cX2_pass.data.toList.drop 94 = dktX2_pass_4 := dk_seg dksX2_pass_3 23 rfl rfl
theorem dX2_pass_0 : decode cX2_pass 0 = .ok (.aload_n 0, 1) := dk_42 (dk_at dksX2_pass_0 0 rfl rfl)
theorem dX2_pass_1 : decode cX2_pass 1 = .ok (.invokevirtual 320, 3) := dk_182 1 64 (dk_at dksX2_pass_0 1 rfl rfl)
theorem dX2_pass_4 : decode cX2_pass 4 = .ok (.istore_n 1, 1) := dk_60 (dk_at dksX2_pass_0 4 rfl rfl)
theorem dX2_pass_5 : decode cX2_pass 5 = .ok (.iconst 0, 1) := dk_3 (dk_at dksX2_pass_0 5 rfl rfl)
theorem dX2_pass_6 : decode cX2_pass 6 = .ok (.istore_n 2, 1) := dk_61 (dk_at dksX2_pass_0 6 rfl rfl)
theorem dX2_pass_7 : decode cX2_pass 7 = .ok (.iload_n 2, 1) := dk_28 (dk_at dksX2_pass_0 7 rfl rfl)
theorem dX2_pass_8 : decode cX2_pass 8 = .ok (.aload_n 0, 1) := dk_42 (dk_at dksX2_pass_0 8 rfl rfl)
theorem dX2_pass_9 : decode cX2_pass 9 = .ok (.getfield 7, 3) := dk_180 0 7 (dk_at dksX2_pass_0 9 rfl rfl)
theorem dX2_pass_12 : decode cX2_pass 12 = .ok (.iconst 0, 1) := dk_3 (dk_at dksX2_pass_0 12 rfl rfl)
theorem dX2_pass_13 : decode cX2_pass 13 = .ok (.iaload, 1) := dk_46 (dk_at dksX2_pass_0 13 rfl rfl)
theorem dX2_pass_14 : decode cX2_pass 14 = .ok (.if_icmp .ge 79, 3) := dk_162 0 79 (dk_at dksX2_pass_0 14 rfl rfl)
theorem dX2_pass_17 : decode cX2_pass 17 = .ok (.aload_n 0, 1) := dk_42 (dk_at dksX2_pass_0 17 rfl rfl)
theorem dX2_pass_18 : decode cX2_pass 18 = .ok (.iload_n 2, 1) := dk_28 (dk_at dksX2_pass_0 18 rfl rfl)
theorem dX2_pass_19 : decode cX2_pass 19 = .ok (.iconst 3, 1) := dk_6 (dk_at dksX2_pass_0 19 rfl rfl)
theorem dX2_pass_20 : decode cX2_pass 20 = .ok (.invokevirtual 73, 3) := dk_182 0 73 (dk_at dksX2_pass_0 20 rfl rfl)
theorem dX2_pass_23 : decode cX2_pass 23 = .ok (.iconst 1, 1) := dk_4 (dk_at dksX2_pass_0 23 rfl rfl)
theorem dX2_pass_24 : decode cX2_pass 24 = .ok (.if_icmp .ne 6, 3) := dk_160 0 6 (dk_at dksX2_pass_1 0 rfl rfl)
theorem dX2_pass_27 : decode cX2_pass 27 = .ok (.goto 60, 3) := dk_167 0 60 (dk_at dksX2_pass_1 3 rfl rfl)
theorem dX2_pass_30 : decode cX2_pass 30 = .ok (.aload_n 0, 1) := dk_42 (dk_at dksX2_pass_1 6 rfl rfl)
theorem dX2_pass_31 : decode cX2_pass 31 = .ok (.iload_n 2, 1) := dk_28 (dk_at dksX2_pass_1 7 rfl rfl)
theorem dX2_pass_32 : decode cX2_pass 32 = .ok (.iconst 0, 1) := dk_3 (dk_at dksX2_pass_1 8 rfl rfl)
theorem dX2_pass_33 : decode cX2_pass 33 = .ok (.invokevirtual 73, 3) := dk_182 0 73 (dk_at dksX2_pass_1 9 rfl rfl)
theorem dX2_pass_36 : decode cX2_pass 36 = .ok (.iload_n 1, 1) := dk_27 (dk_at dksX2_pass_1 12 rfl rfl)
theorem dX2_pass_37 : decode cX2_pass 37 = .ok (.invokestatic 80, 3) := dk_184 0 80 (dk_at dksX2_pass_1 13 rfl rfl)
theorem dX2_pass_40 : decode cX2_pass 40 = .ok (.ifCond .eq 12, 3) := dk_153 0 12 (dk_at dksX2_pass_1 16 rfl rfl)
theorem dX2_pass_43 : decode cX2_pass 43 = .ok (.aload_n 0, 1) := dk_42 (dk_at dksX2_pass_1 19 rfl rfl)
theorem dX2_pass_44 : decode cX2_pass 44 = .ok (.iload_n 2, 1) := dk_28 (dk_at dksX2_pass_1 20 rfl rfl)
theorem dX2_pass_45 : decode cX2_pass 45 = .ok (.invokevirtual 323, 3) := dk_182 1 67 (dk_at dksX2_pass_1 21 rfl rfl)
theorem dX2_pass_48 : decode cX2_pass 48 = .ok (.ineg, 1) := dk_116 (dk_at dksX2_pass_2 0 rfl rfl)
theorem dX2_pass_49 : decode cX2_pass 49 = .ok (.goto 15, 3) := dk_167 0 15 (dk_at dksX2_pass_2 1 rfl rfl)
theorem dX2_pass_52 : decode cX2_pass 52 = .ok (.aload_n 0, 1) := dk_42 (dk_at dksX2_pass_2 4 rfl rfl)
theorem dX2_pass_53 : decode cX2_pass 53 = .ok (.iload_n 2, 1) := dk_28 (dk_at dksX2_pass_2 5 rfl rfl)
theorem dX2_pass_54 : decode cX2_pass 54 = .ok (.aload_n 0, 1) := dk_42 (dk_at dksX2_pass_2 6 rfl rfl)
theorem dX2_pass_55 : decode cX2_pass 55 = .ok (.getfield 7, 3) := dk_180 0 7 (dk_at dksX2_pass_2 7 rfl rfl)
theorem dX2_pass_58 : decode cX2_pass 58 = .ok (.bipush 8, 2) := dk_16 8 (dk_at dksX2_pass_2 10 rfl rfl)
theorem dX2_pass_60 : decode cX2_pass 60 = .ok (.iaload, 1) := dk_46 (dk_at dksX2_pass_2 12 rfl rfl)
theorem dX2_pass_61 : decode cX2_pass 61 = .ok (.invokevirtual 326, 3) := dk_182 1 70 (dk_at dksX2_pass_2 13 rfl rfl)
theorem dX2_pass_64 : decode cX2_pass 64 = .ok (.istore_n 3, 1) := dk_62 (dk_at dksX2_pass_2 16 rfl rfl)
theorem dX2_pass_65 : decode cX2_pass 65 = .ok (.aload_n 0, 1) := dk_42 (dk_at dksX2_pass_2 17 rfl rfl)
theorem dX2_pass_66 : decode cX2_pass 66 = .ok (.iload_n 2, 1) := dk_28 (dk_at dksX2_pass_2 18 rfl rfl)
theorem dX2_pass_67 : decode cX2_pass 67 = .ok (.iconst 1, 1) := dk_4 (dk_at dksX2_pass_2 19 rfl rfl)
theorem dX2_pass_68 : decode cX2_pass 68 = .ok (.aload_n 0, 1) := dk_42 (dk_at dksX2_pass_2 20 rfl rfl)
theorem dX2_pass_69 : decode cX2_pass 69 = .ok (.iload_n 2, 1) := dk_28 (dk_at dksX2_pass_2 21 rfl rfl)
theorem dX2_pass_70 : decode cX2_pass 70 = .ok (.iconst 1, 1) := dk_4 (dk_at dksX2_pass_2 22 rfl rfl)
theorem dX2_pass_71 : decode cX2_pass 71 = .ok (.invokevirtual 73, 3) := dk_182 0 73 (dk_at dksX2_pass_3 0 rfl rfl)
theorem dX2_pass_74 : decode cX2_pass 74 = .ok (.iload_n 3, 1) := dk_29 (dk_at dksX2_pass_3 3 rfl rfl)
theorem dX2_pass_75 : decode cX2_pass 75 = .ok (.iadd, 1) := dk_96 (dk_at dksX2_pass_3 4 rfl rfl)
theorem dX2_pass_76 : decode cX2_pass 76 = .ok (.i2l, 1) := dk_133 (dk_at dksX2_pass_3 5 rfl rfl)
theorem dX2_pass_77 : decode cX2_pass 77 = .ok (.iconst 0, 1) := dk_3 (dk_at dksX2_pass_3 6 rfl rfl)
theorem dX2_pass_78 : decode cX2_pass 78 = .ok (.sipush 9999, 3) := dk_17 39 15 (dk_at dksX2_pass_3 7 rfl rfl)
theorem dX2_pass_81 : decode cX2_pass 81 = .ok (.invokestatic 299, 3) := dk_184 1 43 (dk_at dksX2_pass_3 10 rfl rfl)
theorem dX2_pass_84 : decode cX2_pass 84 = .ok (.invokevirtual 84, 3) := dk_182 0 84 (dk_at dksX2_pass_3 13 rfl rfl)
theorem dX2_pass_87 : decode cX2_pass 87 = .ok (.iinc 2 1, 3) := dk_132 2 1 (dk_at dksX2_pass_3 16 rfl rfl)
theorem dX2_pass_90 : decode cX2_pass 90 = .ok (.goto (-83), 3) := dk_167 255 173 (dk_at dksX2_pass_3 19 rfl rfl)
theorem dX2_pass_93 : decode cX2_pass 93 = .ok (.aload_n 0, 1) := dk_42 (dk_at dksX2_pass_3 22 rfl rfl)
theorem dX2_pass_94 : decode cX2_pass 94 = .ok (.getfield 7, 3) := dk_180 0 7 (dk_at dksX2_pass_4 0 rfl rfl)
theorem dX2_pass_97 : decode cX2_pass 97 = .ok (.bipush 8, 2) := dk_16 8 (dk_at dksX2_pass_4 3 rfl rfl)
theorem dX2_pass_99 : decode cX2_pass 99 = .ok (.dup2, 1) := dk_92 (dk_at dksX2_pass_4 5 rfl rfl)
theorem dX2_pass_100 : decode cX2_pass 100 = .ok (.iaload, 1) := dk_46 (dk_at dksX2_pass_4 6 rfl rfl)
theorem dX2_pass_101 : decode cX2_pass 101 = .ok (.iconst 1, 1) := dk_4 (dk_at dksX2_pass_4 7 rfl rfl)
theorem dX2_pass_102 : decode cX2_pass 102 = .ok (.iadd, 1) := dk_96 (dk_at dksX2_pass_4 8 rfl rfl)
theorem dX2_pass_103 : decode cX2_pass 103 = .ok (.iastore, 1) := dk_79 (dk_at dksX2_pass_4 9 rfl rfl)
theorem dX2_pass_104 : decode cX2_pass 104 = .ok (.return_, 1) := dk_177 (dk_at dksX2_pass_4 10 rfl rfl)
abbrev cX2_losesOf : ByteArray := prog_19_method_69_code
def yX2_losesOf : MethodName := ⟨RX2, "losesOf", "(I)I"⟩
def dkwX2_losesOf_0 : List UInt8 := [42, 27, 42, 180, 0, 7, 16, 8, 46, 182, 1, 58, 42, 4, 5, 182, 1, 61, 172]
abbrev dktX2_losesOf_0 : List UInt8 := dkwX2_losesOf_0 ++ []
theorem dksX2_losesOf_0 : cX2_losesOf.data.toList.drop 0 = dktX2_losesOf_0 := by decide +kernel
theorem dX2_losesOf_0 : decode cX2_losesOf 0 = .ok (.aload_n 0, 1) := dk_42 (dk_at dksX2_losesOf_0 0 rfl rfl)
theorem dX2_losesOf_1 : decode cX2_losesOf 1 = .ok (.iload_n 1, 1) := dk_27 (dk_at dksX2_losesOf_0 1 rfl rfl)
theorem dX2_losesOf_2 : decode cX2_losesOf 2 = .ok (.aload_n 0, 1) := dk_42 (dk_at dksX2_losesOf_0 2 rfl rfl)
theorem dX2_losesOf_3 : decode cX2_losesOf 3 = .ok (.getfield 7, 3) := dk_180 0 7 (dk_at dksX2_losesOf_0 3 rfl rfl)
theorem dX2_losesOf_6 : decode cX2_losesOf 6 = .ok (.bipush 8, 2) := dk_16 8 (dk_at dksX2_losesOf_0 6 rfl rfl)
theorem dX2_losesOf_8 : decode cX2_losesOf 8 = .ok (.iaload, 1) := dk_46 (dk_at dksX2_losesOf_0 8 rfl rfl)
theorem dX2_losesOf_9 : decode cX2_losesOf 9 = .ok (.invokevirtual 314, 3) := dk_182 1 58 (dk_at dksX2_losesOf_0 9 rfl rfl)
theorem dX2_losesOf_12 : decode cX2_losesOf 12 = .ok (.aload_n 0, 1) := dk_42 (dk_at dksX2_losesOf_0 12 rfl rfl)
theorem dX2_losesOf_13 : decode cX2_losesOf 13 = .ok (.iconst 1, 1) := dk_4 (dk_at dksX2_losesOf_0 13 rfl rfl)
theorem dX2_losesOf_14 : decode cX2_losesOf 14 = .ok (.iconst 2, 1) := dk_5 (dk_at dksX2_losesOf_0 14 rfl rfl)
theorem dX2_losesOf_15 : decode cX2_losesOf 15 = .ok (.invokevirtual 317, 3) := dk_182 1 61 (dk_at dksX2_losesOf_0 15 rfl rfl)
theorem dX2_losesOf_18 : decode cX2_losesOf 18 = .ok (.ireturn, 1) := dk_172 (dk_at dksX2_losesOf_0 18 rfl rfl)
abbrev cX2_says : ByteArray := prog_19_method_64_code
def yX2_says : MethodName := ⟨RX2, "says", "(II)I"⟩
def dkwX2_says_1 : List UInt8 := [16, 99, 184, 1, 43, 172]
abbrev dktX2_says_1 : List UInt8 := dkwX2_says_1 ++ []
def dkwX2_says_0 : List UInt8 := [42, 27, 182, 1, 37, 62, 29, 156, 0, 5, 28, 172, 42, 29, 182, 1, 40, 42, 180, 0, 35, 3, 47, 3]
abbrev dktX2_says_0 : List UInt8 := dkwX2_says_0 ++ dktX2_says_1
theorem dksX2_says_0 : cX2_says.data.toList.drop 0 = dktX2_says_0 := by decide +kernel
theorem dksX2_says_1 : cX2_says.data.toList.drop 24 = dktX2_says_1 := dk_seg dksX2_says_0 24 rfl rfl
theorem dX2_says_0 : decode cX2_says 0 = .ok (.aload_n 0, 1) := dk_42 (dk_at dksX2_says_0 0 rfl rfl)
theorem dX2_says_1 : decode cX2_says 1 = .ok (.iload_n 1, 1) := dk_27 (dk_at dksX2_says_0 1 rfl rfl)
theorem dX2_says_2 : decode cX2_says 2 = .ok (.invokevirtual 293, 3) := dk_182 1 37 (dk_at dksX2_says_0 2 rfl rfl)
theorem dX2_says_5 : decode cX2_says 5 = .ok (.istore_n 3, 1) := dk_62 (dk_at dksX2_says_0 5 rfl rfl)
theorem dX2_says_6 : decode cX2_says 6 = .ok (.iload_n 3, 1) := dk_29 (dk_at dksX2_says_0 6 rfl rfl)
theorem dX2_says_7 : decode cX2_says 7 = .ok (.ifCond .ge 5, 3) := dk_156 0 5 (dk_at dksX2_says_0 7 rfl rfl)
theorem dX2_says_10 : decode cX2_says 10 = .ok (.iload_n 2, 1) := dk_28 (dk_at dksX2_says_0 10 rfl rfl)
theorem dX2_says_11 : decode cX2_says 11 = .ok (.ireturn, 1) := dk_172 (dk_at dksX2_says_0 11 rfl rfl)
theorem dX2_says_12 : decode cX2_says 12 = .ok (.aload_n 0, 1) := dk_42 (dk_at dksX2_says_0 12 rfl rfl)
theorem dX2_says_13 : decode cX2_says 13 = .ok (.iload_n 3, 1) := dk_29 (dk_at dksX2_says_0 13 rfl rfl)
theorem dX2_says_14 : decode cX2_says 14 = .ok (.invokevirtual 296, 3) := dk_182 1 40 (dk_at dksX2_says_0 14 rfl rfl)
theorem dX2_says_17 : decode cX2_says 17 = .ok (.aload_n 0, 1) := dk_42 (dk_at dksX2_says_0 17 rfl rfl)
theorem dX2_says_18 : decode cX2_says 18 = .ok (.getfield 35, 3) := dk_180 0 35 (dk_at dksX2_says_0 18 rfl rfl)
theorem dX2_says_21 : decode cX2_says 21 = .ok (.iconst 0, 1) := dk_3 (dk_at dksX2_says_0 21 rfl rfl)
theorem dX2_says_22 : decode cX2_says 22 = .ok (.laload, 1) := dk_47 (dk_at dksX2_says_0 22 rfl rfl)
theorem dX2_says_23 : decode cX2_says 23 = .ok (.iconst 0, 1) := dk_3 (dk_at dksX2_says_0 23 rfl rfl)
theorem dX2_says_24 : decode cX2_says 24 = .ok (.bipush 99, 2) := dk_16 99 (dk_at dksX2_says_1 0 rfl rfl)
theorem dX2_says_26 : decode cX2_says 26 = .ok (.invokestatic 299, 3) := dk_184 1 43 (dk_at dksX2_says_1 2 rfl rfl)
theorem dX2_says_29 : decode cX2_says 29 = .ok (.ireturn, 1) := dk_172 (dk_at dksX2_says_1 5 rfl rfl)
abbrev cX2_earnsOn : ByteArray := prog_19_method_68_code
def yX2_earnsOn : MethodName := ⟨RX2, "earnsOn", "(II)I"⟩
def dkwX2_earnsOn_0 : List UInt8 := [42, 27, 28, 182, 1, 58, 42, 3, 4, 42, 180, 0, 32, 16, 7, 46, 96, 182, 1, 61, 172]
abbrev dktX2_earnsOn_0 : List UInt8 := dkwX2_earnsOn_0 ++ []
theorem dksX2_earnsOn_0 : cX2_earnsOn.data.toList.drop 0 = dktX2_earnsOn_0 := by decide +kernel
theorem dX2_earnsOn_0 : decode cX2_earnsOn 0 = .ok (.aload_n 0, 1) := dk_42 (dk_at dksX2_earnsOn_0 0 rfl rfl)
theorem dX2_earnsOn_1 : decode cX2_earnsOn 1 = .ok (.iload_n 1, 1) := dk_27 (dk_at dksX2_earnsOn_0 1 rfl rfl)
theorem dX2_earnsOn_2 : decode cX2_earnsOn 2 = .ok (.iload_n 2, 1) := dk_28 (dk_at dksX2_earnsOn_0 2 rfl rfl)
theorem dX2_earnsOn_3 : decode cX2_earnsOn 3 = .ok (.invokevirtual 314, 3) := dk_182 1 58 (dk_at dksX2_earnsOn_0 3 rfl rfl)
theorem dX2_earnsOn_6 : decode cX2_earnsOn 6 = .ok (.aload_n 0, 1) := dk_42 (dk_at dksX2_earnsOn_0 6 rfl rfl)
theorem dX2_earnsOn_7 : decode cX2_earnsOn 7 = .ok (.iconst 0, 1) := dk_3 (dk_at dksX2_earnsOn_0 7 rfl rfl)
theorem dX2_earnsOn_8 : decode cX2_earnsOn 8 = .ok (.iconst 1, 1) := dk_4 (dk_at dksX2_earnsOn_0 8 rfl rfl)
theorem dX2_earnsOn_9 : decode cX2_earnsOn 9 = .ok (.aload_n 0, 1) := dk_42 (dk_at dksX2_earnsOn_0 9 rfl rfl)
theorem dX2_earnsOn_10 : decode cX2_earnsOn 10 = .ok (.getfield 32, 3) := dk_180 0 32 (dk_at dksX2_earnsOn_0 10 rfl rfl)
theorem dX2_earnsOn_13 : decode cX2_earnsOn 13 = .ok (.bipush 7, 2) := dk_16 7 (dk_at dksX2_earnsOn_0 13 rfl rfl)
theorem dX2_earnsOn_15 : decode cX2_earnsOn 15 = .ok (.iaload, 1) := dk_46 (dk_at dksX2_earnsOn_0 15 rfl rfl)
theorem dX2_earnsOn_16 : decode cX2_earnsOn 16 = .ok (.iadd, 1) := dk_96 (dk_at dksX2_earnsOn_0 16 rfl rfl)
theorem dX2_earnsOn_17 : decode cX2_earnsOn 17 = .ok (.invokevirtual 317, 3) := dk_182 1 61 (dk_at dksX2_earnsOn_0 17 rfl rfl)
theorem dX2_earnsOn_20 : decode cX2_earnsOn 20 = .ok (.ireturn, 1) := dk_172 (dk_at dksX2_earnsOn_0 20 rfl rfl)
abbrev cX2_played : ByteArray := prog_19_method_88_code
def yX2_played : MethodName := ⟨RX2, "played", "(I)I"⟩
def dkwX2_played_2 : List UInt8 := [182, 1, 128, 154, 0, 5, 28, 172, 132, 2, 1, 167, 255, 219, 2, 172]
abbrev dktX2_played_2 : List UInt8 := dkwX2_played_2 ++ []
def dkwX2_played_1 : List UInt8 := [180, 0, 16, 17, 2, 193, 27, 104, 46, 162, 0, 29, 42, 17, 2, 193, 27, 104, 4, 96, 7, 28, 104, 96]
abbrev dktX2_played_1 : List UInt8 := dkwX2_played_1 ++ dktX2_played_2
def dkwX2_played_0 : List UInt8 := [27, 3, 42, 180, 0, 7, 4, 46, 4, 100, 184, 0, 65, 154, 0, 6, 16, 254, 172, 3, 61, 28, 42]
abbrev dktX2_played_0 : List UInt8 := dkwX2_played_0 ++ dktX2_played_1
theorem dksX2_played_0 : cX2_played.data.toList.drop 0 = dktX2_played_0 := by decide +kernel
theorem dksX2_played_1 : cX2_played.data.toList.drop 23 = dktX2_played_1 := dk_seg dksX2_played_0 23 rfl rfl
theorem dksX2_played_2 : cX2_played.data.toList.drop 47 = dktX2_played_2 := dk_seg dksX2_played_1 24 rfl rfl
theorem dX2_played_0 : decode cX2_played 0 = .ok (.iload_n 1, 1) := dk_27 (dk_at dksX2_played_0 0 rfl rfl)
theorem dX2_played_1 : decode cX2_played 1 = .ok (.iconst 0, 1) := dk_3 (dk_at dksX2_played_0 1 rfl rfl)
theorem dX2_played_2 : decode cX2_played 2 = .ok (.aload_n 0, 1) := dk_42 (dk_at dksX2_played_0 2 rfl rfl)
theorem dX2_played_3 : decode cX2_played 3 = .ok (.getfield 7, 3) := dk_180 0 7 (dk_at dksX2_played_0 3 rfl rfl)
theorem dX2_played_6 : decode cX2_played 6 = .ok (.iconst 1, 1) := dk_4 (dk_at dksX2_played_0 6 rfl rfl)
theorem dX2_played_7 : decode cX2_played 7 = .ok (.iaload, 1) := dk_46 (dk_at dksX2_played_0 7 rfl rfl)
theorem dX2_played_8 : decode cX2_played 8 = .ok (.iconst 1, 1) := dk_4 (dk_at dksX2_played_0 8 rfl rfl)
theorem dX2_played_9 : decode cX2_played 9 = .ok (.isub, 1) := dk_100 (dk_at dksX2_played_0 9 rfl rfl)
theorem dX2_played_10 : decode cX2_played 10 = .ok (.invokestatic 65, 3) := dk_184 0 65 (dk_at dksX2_played_0 10 rfl rfl)
theorem dX2_played_13 : decode cX2_played 13 = .ok (.ifCond .ne 6, 3) := dk_154 0 6 (dk_at dksX2_played_0 13 rfl rfl)
theorem dX2_played_16 : decode cX2_played 16 = .ok (.bipush (-2), 2) := dk_16 254 (dk_at dksX2_played_0 16 rfl rfl)
theorem dX2_played_18 : decode cX2_played 18 = .ok (.ireturn, 1) := dk_172 (dk_at dksX2_played_0 18 rfl rfl)
theorem dX2_played_19 : decode cX2_played 19 = .ok (.iconst 0, 1) := dk_3 (dk_at dksX2_played_0 19 rfl rfl)
theorem dX2_played_20 : decode cX2_played 20 = .ok (.istore_n 2, 1) := dk_61 (dk_at dksX2_played_0 20 rfl rfl)
theorem dX2_played_21 : decode cX2_played 21 = .ok (.iload_n 2, 1) := dk_28 (dk_at dksX2_played_0 21 rfl rfl)
theorem dX2_played_22 : decode cX2_played 22 = .ok (.aload_n 0, 1) := dk_42 (dk_at dksX2_played_0 22 rfl rfl)
theorem dX2_played_23 : decode cX2_played 23 = .ok (.getfield 16, 3) := dk_180 0 16 (dk_at dksX2_played_1 0 rfl rfl)
theorem dX2_played_26 : decode cX2_played 26 = .ok (.sipush 705, 3) := dk_17 2 193 (dk_at dksX2_played_1 3 rfl rfl)
theorem dX2_played_29 : decode cX2_played 29 = .ok (.iload_n 1, 1) := dk_27 (dk_at dksX2_played_1 6 rfl rfl)
theorem dX2_played_30 : decode cX2_played 30 = .ok (.imul, 1) := dk_104 (dk_at dksX2_played_1 7 rfl rfl)
theorem dX2_played_31 : decode cX2_played 31 = .ok (.iaload, 1) := dk_46 (dk_at dksX2_played_1 8 rfl rfl)
theorem dX2_played_32 : decode cX2_played 32 = .ok (.if_icmp .ge 29, 3) := dk_162 0 29 (dk_at dksX2_played_1 9 rfl rfl)
theorem dX2_played_35 : decode cX2_played 35 = .ok (.aload_n 0, 1) := dk_42 (dk_at dksX2_played_1 12 rfl rfl)
theorem dX2_played_36 : decode cX2_played 36 = .ok (.sipush 705, 3) := dk_17 2 193 (dk_at dksX2_played_1 13 rfl rfl)
theorem dX2_played_39 : decode cX2_played 39 = .ok (.iload_n 1, 1) := dk_27 (dk_at dksX2_played_1 16 rfl rfl)
theorem dX2_played_40 : decode cX2_played 40 = .ok (.imul, 1) := dk_104 (dk_at dksX2_played_1 17 rfl rfl)
theorem dX2_played_41 : decode cX2_played 41 = .ok (.iconst 1, 1) := dk_4 (dk_at dksX2_played_1 18 rfl rfl)
theorem dX2_played_42 : decode cX2_played 42 = .ok (.iadd, 1) := dk_96 (dk_at dksX2_played_1 19 rfl rfl)
theorem dX2_played_43 : decode cX2_played 43 = .ok (.iconst 4, 1) := dk_7 (dk_at dksX2_played_1 20 rfl rfl)
theorem dX2_played_44 : decode cX2_played 44 = .ok (.iload_n 2, 1) := dk_28 (dk_at dksX2_played_1 21 rfl rfl)
theorem dX2_played_45 : decode cX2_played 45 = .ok (.imul, 1) := dk_104 (dk_at dksX2_played_1 22 rfl rfl)
theorem dX2_played_46 : decode cX2_played 46 = .ok (.iadd, 1) := dk_96 (dk_at dksX2_played_1 23 rfl rfl)
theorem dX2_played_47 : decode cX2_played 47 = .ok (.invokevirtual 384, 3) := dk_182 1 128 (dk_at dksX2_played_2 0 rfl rfl)
theorem dX2_played_50 : decode cX2_played 50 = .ok (.ifCond .ne 5, 3) := dk_154 0 5 (dk_at dksX2_played_2 3 rfl rfl)
theorem dX2_played_53 : decode cX2_played 53 = .ok (.iload_n 2, 1) := dk_28 (dk_at dksX2_played_2 6 rfl rfl)
theorem dX2_played_54 : decode cX2_played 54 = .ok (.ireturn, 1) := dk_172 (dk_at dksX2_played_2 7 rfl rfl)
theorem dX2_played_55 : decode cX2_played 55 = .ok (.iinc 2 1, 3) := dk_132 2 1 (dk_at dksX2_played_2 8 rfl rfl)
theorem dX2_played_58 : decode cX2_played 58 = .ok (.goto (-37), 3) := dk_167 255 219 (dk_at dksX2_played_2 11 rfl rfl)
theorem dX2_played_61 : decode cX2_played 61 = .ok (.iconst (-1), 1) := dk_2 (dk_at dksX2_played_2 14 rfl rfl)
theorem dX2_played_62 : decode cX2_played 62 = .ok (.ireturn, 1) := dk_172 (dk_at dksX2_played_2 15 rfl rfl)
abbrev cX2_isPlayed : ByteArray := prog_19_method_87_code
def yX2_isPlayed : MethodName := ⟨RX2, "isPlayed", "(I)Z"⟩
def dkwX2_isPlayed_5 : List UInt8 := [29, 182, 1, 125, 172, 42, 28, 182, 1, 109, 172, 4, 172]
abbrev dktX2_isPlayed_5 : List UInt8 := dkwX2_isPlayed_5 ++ []
def dkwX2_isPlayed_4 : List UInt8 := [4, 167, 0, 4, 3, 172, 42, 28, 182, 1, 94, 54, 4, 42, 28, 182, 1, 122, 87, 21, 4, 172, 42, 28]
abbrev dktX2_isPlayed_4 : List UInt8 := dkwX2_isPlayed_4 ++ dktX2_isPlayed_5
def dkwX2_isPlayed_3 : List UInt8 := [172, 42, 28, 182, 1, 116, 155, 0, 7, 4, 167, 0, 4, 3, 172, 42, 28, 29, 182, 1, 119, 155, 0, 7]
abbrev dktX2_isPlayed_3 : List UInt8 := dkwX2_isPlayed_3 ++ dktX2_isPlayed_4
def dkwX2_isPlayed_2 : List UInt8 := [42, 28, 2, 2, 29, 42, 180, 0, 16, 27, 6, 96, 46, 182, 1, 112, 155, 0, 7, 4, 167, 0, 4, 3]
abbrev dktX2_isPlayed_2 : List UInt8 := dkwX2_isPlayed_2 ++ dktX2_isPlayed_3
def dkwX2_isPlayed_1 : List UInt8 := [170, 0, 0, 0, 0, 0, 0, 123, 0, 0, 0, 3, 0, 0, 0, 8, 0, 0, 0, 40, 0, 0, 0, 65, 0, 0, 0, 79, 0, 0, 0, 94, 0, 0, 0, 110, 0, 0, 0, 117]
abbrev dktX2_isPlayed_1 : List UInt8 := dkwX2_isPlayed_1 ++ dktX2_isPlayed_2
def dkwX2_isPlayed_0 : List UInt8 := [42, 180, 0, 16, 27, 4, 96, 46, 61, 42, 180, 0, 16, 27, 5, 96, 46, 62, 42, 180, 0, 16, 27, 46]
abbrev dktX2_isPlayed_0 : List UInt8 := dkwX2_isPlayed_0 ++ dktX2_isPlayed_1
theorem dksX2_isPlayed_0 : cX2_isPlayed.data.toList.drop 0 = dktX2_isPlayed_0 := by decide +kernel
theorem dksX2_isPlayed_1 : cX2_isPlayed.data.toList.drop 24 = dktX2_isPlayed_1 := dk_seg dksX2_isPlayed_0 24 rfl rfl
theorem dksX2_isPlayed_2 : cX2_isPlayed.data.toList.drop 64 = dktX2_isPlayed_2 := dk_seg dksX2_isPlayed_1 40 rfl rfl
theorem dksX2_isPlayed_3 : cX2_isPlayed.data.toList.drop 88 = dktX2_isPlayed_3 := dk_seg dksX2_isPlayed_2 24 rfl rfl
theorem dksX2_isPlayed_4 : cX2_isPlayed.data.toList.drop 112 = dktX2_isPlayed_4 := dk_seg dksX2_isPlayed_3 24 rfl rfl
theorem dksX2_isPlayed_5 : cX2_isPlayed.data.toList.drop 136 = dktX2_isPlayed_5 := dk_seg dksX2_isPlayed_4 24 rfl rfl
theorem dX2_isPlayed_0 : decode cX2_isPlayed 0 = .ok (.aload_n 0, 1) := dk_42 (dk_at dksX2_isPlayed_0 0 rfl rfl)
theorem dX2_isPlayed_1 : decode cX2_isPlayed 1 = .ok (.getfield 16, 3) := dk_180 0 16 (dk_at dksX2_isPlayed_0 1 rfl rfl)
theorem dX2_isPlayed_4 : decode cX2_isPlayed 4 = .ok (.iload_n 1, 1) := dk_27 (dk_at dksX2_isPlayed_0 4 rfl rfl)
theorem dX2_isPlayed_5 : decode cX2_isPlayed 5 = .ok (.iconst 1, 1) := dk_4 (dk_at dksX2_isPlayed_0 5 rfl rfl)
theorem dX2_isPlayed_6 : decode cX2_isPlayed 6 = .ok (.iadd, 1) := dk_96 (dk_at dksX2_isPlayed_0 6 rfl rfl)
theorem dX2_isPlayed_7 : decode cX2_isPlayed 7 = .ok (.iaload, 1) := dk_46 (dk_at dksX2_isPlayed_0 7 rfl rfl)
theorem dX2_isPlayed_8 : decode cX2_isPlayed 8 = .ok (.istore_n 2, 1) := dk_61 (dk_at dksX2_isPlayed_0 8 rfl rfl)
theorem dX2_isPlayed_9 : decode cX2_isPlayed 9 = .ok (.aload_n 0, 1) := dk_42 (dk_at dksX2_isPlayed_0 9 rfl rfl)
theorem dX2_isPlayed_10 : decode cX2_isPlayed 10 = .ok (.getfield 16, 3) := dk_180 0 16 (dk_at dksX2_isPlayed_0 10 rfl rfl)
theorem dX2_isPlayed_13 : decode cX2_isPlayed 13 = .ok (.iload_n 1, 1) := dk_27 (dk_at dksX2_isPlayed_0 13 rfl rfl)
theorem dX2_isPlayed_14 : decode cX2_isPlayed 14 = .ok (.iconst 2, 1) := dk_5 (dk_at dksX2_isPlayed_0 14 rfl rfl)
theorem dX2_isPlayed_15 : decode cX2_isPlayed 15 = .ok (.iadd, 1) := dk_96 (dk_at dksX2_isPlayed_0 15 rfl rfl)
theorem dX2_isPlayed_16 : decode cX2_isPlayed 16 = .ok (.iaload, 1) := dk_46 (dk_at dksX2_isPlayed_0 16 rfl rfl)
theorem dX2_isPlayed_17 : decode cX2_isPlayed 17 = .ok (.istore_n 3, 1) := dk_62 (dk_at dksX2_isPlayed_0 17 rfl rfl)
theorem dX2_isPlayed_18 : decode cX2_isPlayed 18 = .ok (.aload_n 0, 1) := dk_42 (dk_at dksX2_isPlayed_0 18 rfl rfl)
theorem dX2_isPlayed_19 : decode cX2_isPlayed 19 = .ok (.getfield 16, 3) := dk_180 0 16 (dk_at dksX2_isPlayed_0 19 rfl rfl)
theorem dX2_isPlayed_22 : decode cX2_isPlayed 22 = .ok (.iload_n 1, 1) := dk_27 (dk_at dksX2_isPlayed_0 22 rfl rfl)
theorem dX2_isPlayed_23 : decode cX2_isPlayed 23 = .ok (.iaload, 1) := dk_46 (dk_at dksX2_isPlayed_0 23 rfl rfl)
theorem dX2_isPlayed_24 : decode cX2_isPlayed 24 = .ok (.tableswitch 123 3 8 #[40, 65, 79, 94, 110, 117], 40) := by decide +kernel
theorem dX2_isPlayed_64 : decode cX2_isPlayed 64 = .ok (.aload_n 0, 1) := dk_42 (dk_at dksX2_isPlayed_2 0 rfl rfl)
theorem dX2_isPlayed_65 : decode cX2_isPlayed 65 = .ok (.iload_n 2, 1) := dk_28 (dk_at dksX2_isPlayed_2 1 rfl rfl)
theorem dX2_isPlayed_66 : decode cX2_isPlayed 66 = .ok (.iconst (-1), 1) := dk_2 (dk_at dksX2_isPlayed_2 2 rfl rfl)
theorem dX2_isPlayed_67 : decode cX2_isPlayed 67 = .ok (.iconst (-1), 1) := dk_2 (dk_at dksX2_isPlayed_2 3 rfl rfl)
theorem dX2_isPlayed_68 : decode cX2_isPlayed 68 = .ok (.iload_n 3, 1) := dk_29 (dk_at dksX2_isPlayed_2 4 rfl rfl)
theorem dX2_isPlayed_69 : decode cX2_isPlayed 69 = .ok (.aload_n 0, 1) := dk_42 (dk_at dksX2_isPlayed_2 5 rfl rfl)
theorem dX2_isPlayed_70 : decode cX2_isPlayed 70 = .ok (.getfield 16, 3) := dk_180 0 16 (dk_at dksX2_isPlayed_2 6 rfl rfl)
theorem dX2_isPlayed_73 : decode cX2_isPlayed 73 = .ok (.iload_n 1, 1) := dk_27 (dk_at dksX2_isPlayed_2 9 rfl rfl)
theorem dX2_isPlayed_74 : decode cX2_isPlayed 74 = .ok (.iconst 3, 1) := dk_6 (dk_at dksX2_isPlayed_2 10 rfl rfl)
theorem dX2_isPlayed_75 : decode cX2_isPlayed 75 = .ok (.iadd, 1) := dk_96 (dk_at dksX2_isPlayed_2 11 rfl rfl)
theorem dX2_isPlayed_76 : decode cX2_isPlayed 76 = .ok (.iaload, 1) := dk_46 (dk_at dksX2_isPlayed_2 12 rfl rfl)
theorem dX2_isPlayed_77 : decode cX2_isPlayed 77 = .ok (.invokevirtual 368, 3) := dk_182 1 112 (dk_at dksX2_isPlayed_2 13 rfl rfl)
theorem dX2_isPlayed_80 : decode cX2_isPlayed 80 = .ok (.ifCond .lt 7, 3) := dk_155 0 7 (dk_at dksX2_isPlayed_2 16 rfl rfl)
theorem dX2_isPlayed_83 : decode cX2_isPlayed 83 = .ok (.iconst 1, 1) := dk_4 (dk_at dksX2_isPlayed_2 19 rfl rfl)
theorem dX2_isPlayed_84 : decode cX2_isPlayed 84 = .ok (.goto 4, 3) := dk_167 0 4 (dk_at dksX2_isPlayed_2 20 rfl rfl)
theorem dX2_isPlayed_87 : decode cX2_isPlayed 87 = .ok (.iconst 0, 1) := dk_3 (dk_at dksX2_isPlayed_2 23 rfl rfl)
theorem dX2_isPlayed_88 : decode cX2_isPlayed 88 = .ok (.ireturn, 1) := dk_172 (dk_at dksX2_isPlayed_3 0 rfl rfl)
theorem dX2_isPlayed_89 : decode cX2_isPlayed 89 = .ok (.aload_n 0, 1) := dk_42 (dk_at dksX2_isPlayed_3 1 rfl rfl)
theorem dX2_isPlayed_90 : decode cX2_isPlayed 90 = .ok (.iload_n 2, 1) := dk_28 (dk_at dksX2_isPlayed_3 2 rfl rfl)
theorem dX2_isPlayed_91 : decode cX2_isPlayed 91 = .ok (.invokevirtual 372, 3) := dk_182 1 116 (dk_at dksX2_isPlayed_3 3 rfl rfl)
theorem dX2_isPlayed_94 : decode cX2_isPlayed 94 = .ok (.ifCond .lt 7, 3) := dk_155 0 7 (dk_at dksX2_isPlayed_3 6 rfl rfl)
theorem dX2_isPlayed_97 : decode cX2_isPlayed 97 = .ok (.iconst 1, 1) := dk_4 (dk_at dksX2_isPlayed_3 9 rfl rfl)
theorem dX2_isPlayed_98 : decode cX2_isPlayed 98 = .ok (.goto 4, 3) := dk_167 0 4 (dk_at dksX2_isPlayed_3 10 rfl rfl)
theorem dX2_isPlayed_101 : decode cX2_isPlayed 101 = .ok (.iconst 0, 1) := dk_3 (dk_at dksX2_isPlayed_3 13 rfl rfl)
theorem dX2_isPlayed_102 : decode cX2_isPlayed 102 = .ok (.ireturn, 1) := dk_172 (dk_at dksX2_isPlayed_3 14 rfl rfl)
theorem dX2_isPlayed_103 : decode cX2_isPlayed 103 = .ok (.aload_n 0, 1) := dk_42 (dk_at dksX2_isPlayed_3 15 rfl rfl)
theorem dX2_isPlayed_104 : decode cX2_isPlayed 104 = .ok (.iload_n 2, 1) := dk_28 (dk_at dksX2_isPlayed_3 16 rfl rfl)
theorem dX2_isPlayed_105 : decode cX2_isPlayed 105 = .ok (.iload_n 3, 1) := dk_29 (dk_at dksX2_isPlayed_3 17 rfl rfl)
theorem dX2_isPlayed_106 : decode cX2_isPlayed 106 = .ok (.invokevirtual 375, 3) := dk_182 1 119 (dk_at dksX2_isPlayed_3 18 rfl rfl)
theorem dX2_isPlayed_109 : decode cX2_isPlayed 109 = .ok (.ifCond .lt 7, 3) := dk_155 0 7 (dk_at dksX2_isPlayed_3 21 rfl rfl)
theorem dX2_isPlayed_112 : decode cX2_isPlayed 112 = .ok (.iconst 1, 1) := dk_4 (dk_at dksX2_isPlayed_4 0 rfl rfl)
theorem dX2_isPlayed_113 : decode cX2_isPlayed 113 = .ok (.goto 4, 3) := dk_167 0 4 (dk_at dksX2_isPlayed_4 1 rfl rfl)
theorem dX2_isPlayed_116 : decode cX2_isPlayed 116 = .ok (.iconst 0, 1) := dk_3 (dk_at dksX2_isPlayed_4 4 rfl rfl)
theorem dX2_isPlayed_117 : decode cX2_isPlayed 117 = .ok (.ireturn, 1) := dk_172 (dk_at dksX2_isPlayed_4 5 rfl rfl)
theorem dX2_isPlayed_118 : decode cX2_isPlayed 118 = .ok (.aload_n 0, 1) := dk_42 (dk_at dksX2_isPlayed_4 6 rfl rfl)
theorem dX2_isPlayed_119 : decode cX2_isPlayed 119 = .ok (.iload_n 2, 1) := dk_28 (dk_at dksX2_isPlayed_4 7 rfl rfl)
theorem dX2_isPlayed_120 : decode cX2_isPlayed 120 = .ok (.invokevirtual 350, 3) := dk_182 1 94 (dk_at dksX2_isPlayed_4 8 rfl rfl)
theorem dX2_isPlayed_123 : decode cX2_isPlayed 123 = .ok (.istore 4, 2) := dk_54 4 (dk_at dksX2_isPlayed_4 11 rfl rfl)
theorem dX2_isPlayed_125 : decode cX2_isPlayed 125 = .ok (.aload_n 0, 1) := dk_42 (dk_at dksX2_isPlayed_4 13 rfl rfl)
theorem dX2_isPlayed_126 : decode cX2_isPlayed 126 = .ok (.iload_n 2, 1) := dk_28 (dk_at dksX2_isPlayed_4 14 rfl rfl)
theorem dX2_isPlayed_127 : decode cX2_isPlayed 127 = .ok (.invokevirtual 378, 3) := dk_182 1 122 (dk_at dksX2_isPlayed_4 15 rfl rfl)
theorem dX2_isPlayed_130 : decode cX2_isPlayed 130 = .ok (.pop, 1) := dk_87 (dk_at dksX2_isPlayed_4 18 rfl rfl)
theorem dX2_isPlayed_131 : decode cX2_isPlayed 131 = .ok (.iload 4, 2) := dk_21 4 (dk_at dksX2_isPlayed_4 19 rfl rfl)
theorem dX2_isPlayed_133 : decode cX2_isPlayed 133 = .ok (.ireturn, 1) := dk_172 (dk_at dksX2_isPlayed_4 21 rfl rfl)
theorem dX2_isPlayed_134 : decode cX2_isPlayed 134 = .ok (.aload_n 0, 1) := dk_42 (dk_at dksX2_isPlayed_4 22 rfl rfl)
theorem dX2_isPlayed_135 : decode cX2_isPlayed 135 = .ok (.iload_n 2, 1) := dk_28 (dk_at dksX2_isPlayed_4 23 rfl rfl)
theorem dX2_isPlayed_136 : decode cX2_isPlayed 136 = .ok (.iload_n 3, 1) := dk_29 (dk_at dksX2_isPlayed_5 0 rfl rfl)
theorem dX2_isPlayed_137 : decode cX2_isPlayed 137 = .ok (.invokevirtual 381, 3) := dk_182 1 125 (dk_at dksX2_isPlayed_5 1 rfl rfl)
theorem dX2_isPlayed_140 : decode cX2_isPlayed 140 = .ok (.ireturn, 1) := dk_172 (dk_at dksX2_isPlayed_5 4 rfl rfl)
theorem dX2_isPlayed_141 : decode cX2_isPlayed 141 = .ok (.aload_n 0, 1) := dk_42 (dk_at dksX2_isPlayed_5 5 rfl rfl)
theorem dX2_isPlayed_142 : decode cX2_isPlayed 142 = .ok (.iload_n 2, 1) := dk_28 (dk_at dksX2_isPlayed_5 6 rfl rfl)
theorem dX2_isPlayed_143 : decode cX2_isPlayed 143 = .ok (.invokevirtual 365, 3) := dk_182 1 109 (dk_at dksX2_isPlayed_5 7 rfl rfl)
theorem dX2_isPlayed_146 : decode cX2_isPlayed 146 = .ok (.ireturn, 1) := dk_172 (dk_at dksX2_isPlayed_5 10 rfl rfl)
theorem dX2_isPlayed_147 : decode cX2_isPlayed 147 = .ok (.iconst 1, 1) := dk_4 (dk_at dksX2_isPlayed_5 11 rfl rfl)
theorem dX2_isPlayed_148 : decode cX2_isPlayed 148 = .ok (.ireturn, 1) := dk_172 (dk_at dksX2_isPlayed_5 12 rfl rfl)
abbrev cX2_years : ByteArray := prog_19_method_90_code
def yX2_years : MethodName := ⟨RX2, "years", "(II)I"⟩
def dkwX2_years_3 : List UInt8 := [182, 1, 91, 42, 21, 4, 182, 1, 131, 132, 3, 1, 167, 255, 229, 42, 180, 0, 7, 16, 8, 46, 172]
abbrev dktX2_years_3 : List UInt8 := dkwX2_years_3 ++ []
def dkwX2_years_2 : List UInt8 := [17, 0, 131, 96, 79, 3, 62, 29, 28, 162, 0, 28, 42, 180, 0, 7, 16, 9, 46, 54, 4, 42]
abbrev dktX2_years_2 : List UInt8 := dkwX2_years_2 ++ dktX2_years_3
def dkwX2_years_1 : List UInt8 := [180, 0, 7, 3, 46, 154, 0, 5, 2, 172, 42, 182, 1, 79, 42, 180, 0, 7, 16, 9, 27, 5, 104]
abbrev dktX2_years_1 : List UInt8 := dkwX2_years_1 ++ dktX2_years_2
def dkwX2_years_0 : List UInt8 := [27, 3, 17, 39, 15, 184, 0, 65, 153, 0, 22, 28, 4, 16, 40, 184, 0, 65, 153, 0, 12, 42]
abbrev dktX2_years_0 : List UInt8 := dkwX2_years_0 ++ dktX2_years_1
theorem dksX2_years_0 : cX2_years.data.toList.drop 0 = dktX2_years_0 := by decide +kernel
theorem dksX2_years_1 : cX2_years.data.toList.drop 22 = dktX2_years_1 := dk_seg dksX2_years_0 22 rfl rfl
theorem dksX2_years_2 : cX2_years.data.toList.drop 45 = dktX2_years_2 := dk_seg dksX2_years_1 23 rfl rfl
theorem dksX2_years_3 : cX2_years.data.toList.drop 67 = dktX2_years_3 := dk_seg dksX2_years_2 22 rfl rfl
theorem dX2_years_0 : decode cX2_years 0 = .ok (.iload_n 1, 1) := dk_27 (dk_at dksX2_years_0 0 rfl rfl)
theorem dX2_years_1 : decode cX2_years 1 = .ok (.iconst 0, 1) := dk_3 (dk_at dksX2_years_0 1 rfl rfl)
theorem dX2_years_2 : decode cX2_years 2 = .ok (.sipush 9999, 3) := dk_17 39 15 (dk_at dksX2_years_0 2 rfl rfl)
theorem dX2_years_5 : decode cX2_years 5 = .ok (.invokestatic 65, 3) := dk_184 0 65 (dk_at dksX2_years_0 5 rfl rfl)
theorem dX2_years_8 : decode cX2_years 8 = .ok (.ifCond .eq 22, 3) := dk_153 0 22 (dk_at dksX2_years_0 8 rfl rfl)
theorem dX2_years_11 : decode cX2_years 11 = .ok (.iload_n 2, 1) := dk_28 (dk_at dksX2_years_0 11 rfl rfl)
theorem dX2_years_12 : decode cX2_years 12 = .ok (.iconst 1, 1) := dk_4 (dk_at dksX2_years_0 12 rfl rfl)
theorem dX2_years_13 : decode cX2_years 13 = .ok (.bipush 40, 2) := dk_16 40 (dk_at dksX2_years_0 13 rfl rfl)
theorem dX2_years_15 : decode cX2_years 15 = .ok (.invokestatic 65, 3) := dk_184 0 65 (dk_at dksX2_years_0 15 rfl rfl)
theorem dX2_years_18 : decode cX2_years 18 = .ok (.ifCond .eq 12, 3) := dk_153 0 12 (dk_at dksX2_years_0 18 rfl rfl)
theorem dX2_years_21 : decode cX2_years 21 = .ok (.aload_n 0, 1) := dk_42 (dk_at dksX2_years_0 21 rfl rfl)
theorem dX2_years_22 : decode cX2_years 22 = .ok (.getfield 7, 3) := dk_180 0 7 (dk_at dksX2_years_1 0 rfl rfl)
theorem dX2_years_25 : decode cX2_years 25 = .ok (.iconst 0, 1) := dk_3 (dk_at dksX2_years_1 3 rfl rfl)
theorem dX2_years_26 : decode cX2_years 26 = .ok (.iaload, 1) := dk_46 (dk_at dksX2_years_1 4 rfl rfl)
theorem dX2_years_27 : decode cX2_years 27 = .ok (.ifCond .ne 5, 3) := dk_154 0 5 (dk_at dksX2_years_1 5 rfl rfl)
theorem dX2_years_30 : decode cX2_years 30 = .ok (.iconst (-1), 1) := dk_2 (dk_at dksX2_years_1 8 rfl rfl)
theorem dX2_years_31 : decode cX2_years 31 = .ok (.ireturn, 1) := dk_172 (dk_at dksX2_years_1 9 rfl rfl)
theorem dX2_years_32 : decode cX2_years 32 = .ok (.aload_n 0, 1) := dk_42 (dk_at dksX2_years_1 10 rfl rfl)
theorem dX2_years_33 : decode cX2_years 33 = .ok (.invokevirtual 335, 3) := dk_182 1 79 (dk_at dksX2_years_1 11 rfl rfl)
theorem dX2_years_36 : decode cX2_years 36 = .ok (.aload_n 0, 1) := dk_42 (dk_at dksX2_years_1 14 rfl rfl)
theorem dX2_years_37 : decode cX2_years 37 = .ok (.getfield 7, 3) := dk_180 0 7 (dk_at dksX2_years_1 15 rfl rfl)
theorem dX2_years_40 : decode cX2_years 40 = .ok (.bipush 9, 2) := dk_16 9 (dk_at dksX2_years_1 18 rfl rfl)
theorem dX2_years_42 : decode cX2_years 42 = .ok (.iload_n 1, 1) := dk_27 (dk_at dksX2_years_1 20 rfl rfl)
theorem dX2_years_43 : decode cX2_years 43 = .ok (.iconst 2, 1) := dk_5 (dk_at dksX2_years_1 21 rfl rfl)
theorem dX2_years_44 : decode cX2_years 44 = .ok (.imul, 1) := dk_104 (dk_at dksX2_years_1 22 rfl rfl)
theorem dX2_years_45 : decode cX2_years 45 = .ok (.sipush 131, 3) := dk_17 0 131 (dk_at dksX2_years_2 0 rfl rfl)
theorem dX2_years_48 : decode cX2_years 48 = .ok (.iadd, 1) := dk_96 (dk_at dksX2_years_2 3 rfl rfl)
theorem dX2_years_49 : decode cX2_years 49 = .ok (.iastore, 1) := dk_79 (dk_at dksX2_years_2 4 rfl rfl)
theorem dX2_years_50 : decode cX2_years 50 = .ok (.iconst 0, 1) := dk_3 (dk_at dksX2_years_2 5 rfl rfl)
theorem dX2_years_51 : decode cX2_years 51 = .ok (.istore_n 3, 1) := dk_62 (dk_at dksX2_years_2 6 rfl rfl)
theorem dX2_years_52 : decode cX2_years 52 = .ok (.iload_n 3, 1) := dk_29 (dk_at dksX2_years_2 7 rfl rfl)
theorem dX2_years_53 : decode cX2_years 53 = .ok (.iload_n 2, 1) := dk_28 (dk_at dksX2_years_2 8 rfl rfl)
theorem dX2_years_54 : decode cX2_years 54 = .ok (.if_icmp .ge 28, 3) := dk_162 0 28 (dk_at dksX2_years_2 9 rfl rfl)
theorem dX2_years_57 : decode cX2_years 57 = .ok (.aload_n 0, 1) := dk_42 (dk_at dksX2_years_2 12 rfl rfl)
theorem dX2_years_58 : decode cX2_years 58 = .ok (.getfield 7, 3) := dk_180 0 7 (dk_at dksX2_years_2 13 rfl rfl)
theorem dX2_years_61 : decode cX2_years 61 = .ok (.bipush 9, 2) := dk_16 9 (dk_at dksX2_years_2 16 rfl rfl)
theorem dX2_years_63 : decode cX2_years 63 = .ok (.iaload, 1) := dk_46 (dk_at dksX2_years_2 18 rfl rfl)
theorem dX2_years_64 : decode cX2_years 64 = .ok (.istore 4, 2) := dk_54 4 (dk_at dksX2_years_2 19 rfl rfl)
theorem dX2_years_66 : decode cX2_years 66 = .ok (.aload_n 0, 1) := dk_42 (dk_at dksX2_years_2 21 rfl rfl)
theorem dX2_years_67 : decode cX2_years 67 = .ok (.invokevirtual 347, 3) := dk_182 1 91 (dk_at dksX2_years_3 0 rfl rfl)
theorem dX2_years_70 : decode cX2_years 70 = .ok (.aload_n 0, 1) := dk_42 (dk_at dksX2_years_3 3 rfl rfl)
theorem dX2_years_71 : decode cX2_years 71 = .ok (.iload 4, 2) := dk_21 4 (dk_at dksX2_years_3 4 rfl rfl)
theorem dX2_years_73 : decode cX2_years 73 = .ok (.invokevirtual 387, 3) := dk_182 1 131 (dk_at dksX2_years_3 6 rfl rfl)
theorem dX2_years_76 : decode cX2_years 76 = .ok (.iinc 3 1, 3) := dk_132 3 1 (dk_at dksX2_years_3 9 rfl rfl)
theorem dX2_years_79 : decode cX2_years 79 = .ok (.goto (-27), 3) := dk_167 255 229 (dk_at dksX2_years_3 12 rfl rfl)
theorem dX2_years_82 : decode cX2_years 82 = .ok (.aload_n 0, 1) := dk_42 (dk_at dksX2_years_3 15 rfl rfl)
theorem dX2_years_83 : decode cX2_years 83 = .ok (.getfield 7, 3) := dk_180 0 7 (dk_at dksX2_years_3 16 rfl rfl)
theorem dX2_years_86 : decode cX2_years 86 = .ok (.bipush 8, 2) := dk_16 8 (dk_at dksX2_years_3 19 rfl rfl)
theorem dX2_years_88 : decode cX2_years 88 = .ok (.iaload, 1) := dk_46 (dk_at dksX2_years_3 21 rfl rfl)
theorem dX2_years_89 : decode cX2_years 89 = .ok (.ireturn, 1) := dk_172 (dk_at dksX2_years_3 22 rfl rfl)
abbrev cX2_happens : ByteArray := prog_19_method_89_code
def yX2_happens : MethodName := ⟨RX2, "happens", "(I)V"⟩
def dkwX2_happens_5 : List UInt8 := [167, 0, 17, 42, 28, 182, 0, 77, 153, 0, 9, 42, 28, 182, 1, 82, 87, 177]
abbrev dktX2_happens_5 : List UInt8 := dkwX2_happens_5 ++ []
def dkwX2_happens_4 : List UInt8 := [182, 1, 103, 167, 0, 37, 42, 180, 0, 7, 16, 8, 46, 17, 39, 15, 162, 0, 24, 42, 182, 1, 106]
abbrev dktX2_happens_4 : List UInt8 := dkwX2_happens_4 ++ dktX2_happens_5
def dkwX2_happens_3 : List UInt8 := [6, 112, 154, 0, 61, 42, 27, 16, 20, 112, 28, 182, 1, 100, 153, 0, 49, 42, 27, 16, 20, 112, 28]
abbrev dktX2_happens_3 : List UInt8 := dkwX2_happens_3 ++ dktX2_happens_4
def dkwX2_happens_2 : List UInt8 := [27, 7, 112, 154, 0, 84, 42, 28, 182, 1, 94, 153, 0, 76, 42, 28, 182, 1, 97, 87, 167, 0, 67, 27]
abbrev dktX2_happens_2 : List UInt8 := dkwX2_happens_2 ++ dktX2_happens_3
def dkwX2_happens_1 : List UInt8 := [170, 0, 0, 0, 0, 0, 104, 0, 0, 0, 2, 0, 0, 0, 5, 0, 0, 0, 31, 0, 0, 0, 54, 0, 0, 0, 84, 0, 0, 0, 84]
abbrev dktX2_happens_1 : List UInt8 := dkwX2_happens_1 ++ dktX2_happens_2
def dkwX2_happens_0 : List UInt8 := [27, 42, 180, 0, 7, 3, 46, 112, 61, 27, 16, 6, 112]
abbrev dktX2_happens_0 : List UInt8 := dkwX2_happens_0 ++ dktX2_happens_1
theorem dksX2_happens_0 : cX2_happens.data.toList.drop 0 = dktX2_happens_0 := by decide +kernel
theorem dksX2_happens_1 : cX2_happens.data.toList.drop 13 = dktX2_happens_1 := dk_seg dksX2_happens_0 13 rfl rfl
theorem dksX2_happens_2 : cX2_happens.data.toList.drop 44 = dktX2_happens_2 := dk_seg dksX2_happens_1 31 rfl rfl
theorem dksX2_happens_3 : cX2_happens.data.toList.drop 68 = dktX2_happens_3 := dk_seg dksX2_happens_2 24 rfl rfl
theorem dksX2_happens_4 : cX2_happens.data.toList.drop 91 = dktX2_happens_4 := dk_seg dksX2_happens_3 23 rfl rfl
theorem dksX2_happens_5 : cX2_happens.data.toList.drop 114 = dktX2_happens_5 := dk_seg dksX2_happens_4 23 rfl rfl
theorem dX2_happens_0 : decode cX2_happens 0 = .ok (.iload_n 1, 1) := dk_27 (dk_at dksX2_happens_0 0 rfl rfl)
theorem dX2_happens_1 : decode cX2_happens 1 = .ok (.aload_n 0, 1) := dk_42 (dk_at dksX2_happens_0 1 rfl rfl)
theorem dX2_happens_2 : decode cX2_happens 2 = .ok (.getfield 7, 3) := dk_180 0 7 (dk_at dksX2_happens_0 2 rfl rfl)
theorem dX2_happens_5 : decode cX2_happens 5 = .ok (.iconst 0, 1) := dk_3 (dk_at dksX2_happens_0 5 rfl rfl)
theorem dX2_happens_6 : decode cX2_happens 6 = .ok (.iaload, 1) := dk_46 (dk_at dksX2_happens_0 6 rfl rfl)
theorem dX2_happens_7 : decode cX2_happens 7 = .ok (.irem, 1) := dk_112 (dk_at dksX2_happens_0 7 rfl rfl)
theorem dX2_happens_8 : decode cX2_happens 8 = .ok (.istore_n 2, 1) := dk_61 (dk_at dksX2_happens_0 8 rfl rfl)
theorem dX2_happens_9 : decode cX2_happens 9 = .ok (.iload_n 1, 1) := dk_27 (dk_at dksX2_happens_0 9 rfl rfl)
theorem dX2_happens_10 : decode cX2_happens 10 = .ok (.bipush 6, 2) := dk_16 6 (dk_at dksX2_happens_0 10 rfl rfl)
theorem dX2_happens_12 : decode cX2_happens 12 = .ok (.irem, 1) := dk_112 (dk_at dksX2_happens_0 12 rfl rfl)
theorem dX2_happens_13 : decode cX2_happens 13 = .ok (.tableswitch 104 2 5 #[31, 54, 84, 84], 31) := by decide +kernel
theorem dX2_happens_44 : decode cX2_happens 44 = .ok (.iload_n 1, 1) := dk_27 (dk_at dksX2_happens_2 0 rfl rfl)
theorem dX2_happens_45 : decode cX2_happens 45 = .ok (.iconst 4, 1) := dk_7 (dk_at dksX2_happens_2 1 rfl rfl)
theorem dX2_happens_46 : decode cX2_happens 46 = .ok (.irem, 1) := dk_112 (dk_at dksX2_happens_2 2 rfl rfl)
theorem dX2_happens_47 : decode cX2_happens 47 = .ok (.ifCond .ne 84, 3) := dk_154 0 84 (dk_at dksX2_happens_2 3 rfl rfl)
theorem dX2_happens_50 : decode cX2_happens 50 = .ok (.aload_n 0, 1) := dk_42 (dk_at dksX2_happens_2 6 rfl rfl)
theorem dX2_happens_51 : decode cX2_happens 51 = .ok (.iload_n 2, 1) := dk_28 (dk_at dksX2_happens_2 7 rfl rfl)
theorem dX2_happens_52 : decode cX2_happens 52 = .ok (.invokevirtual 350, 3) := dk_182 1 94 (dk_at dksX2_happens_2 8 rfl rfl)
theorem dX2_happens_55 : decode cX2_happens 55 = .ok (.ifCond .eq 76, 3) := dk_153 0 76 (dk_at dksX2_happens_2 11 rfl rfl)
theorem dX2_happens_58 : decode cX2_happens 58 = .ok (.aload_n 0, 1) := dk_42 (dk_at dksX2_happens_2 14 rfl rfl)
theorem dX2_happens_59 : decode cX2_happens 59 = .ok (.iload_n 2, 1) := dk_28 (dk_at dksX2_happens_2 15 rfl rfl)
theorem dX2_happens_60 : decode cX2_happens 60 = .ok (.invokevirtual 353, 3) := dk_182 1 97 (dk_at dksX2_happens_2 16 rfl rfl)
theorem dX2_happens_63 : decode cX2_happens 63 = .ok (.pop, 1) := dk_87 (dk_at dksX2_happens_2 19 rfl rfl)
theorem dX2_happens_64 : decode cX2_happens 64 = .ok (.goto 67, 3) := dk_167 0 67 (dk_at dksX2_happens_2 20 rfl rfl)
theorem dX2_happens_67 : decode cX2_happens 67 = .ok (.iload_n 1, 1) := dk_27 (dk_at dksX2_happens_2 23 rfl rfl)
theorem dX2_happens_68 : decode cX2_happens 68 = .ok (.iconst 3, 1) := dk_6 (dk_at dksX2_happens_3 0 rfl rfl)
theorem dX2_happens_69 : decode cX2_happens 69 = .ok (.irem, 1) := dk_112 (dk_at dksX2_happens_3 1 rfl rfl)
theorem dX2_happens_70 : decode cX2_happens 70 = .ok (.ifCond .ne 61, 3) := dk_154 0 61 (dk_at dksX2_happens_3 2 rfl rfl)
theorem dX2_happens_73 : decode cX2_happens 73 = .ok (.aload_n 0, 1) := dk_42 (dk_at dksX2_happens_3 5 rfl rfl)
theorem dX2_happens_74 : decode cX2_happens 74 = .ok (.iload_n 1, 1) := dk_27 (dk_at dksX2_happens_3 6 rfl rfl)
theorem dX2_happens_75 : decode cX2_happens 75 = .ok (.bipush 20, 2) := dk_16 20 (dk_at dksX2_happens_3 7 rfl rfl)
theorem dX2_happens_77 : decode cX2_happens 77 = .ok (.irem, 1) := dk_112 (dk_at dksX2_happens_3 9 rfl rfl)
theorem dX2_happens_78 : decode cX2_happens 78 = .ok (.iload_n 2, 1) := dk_28 (dk_at dksX2_happens_3 10 rfl rfl)
theorem dX2_happens_79 : decode cX2_happens 79 = .ok (.invokevirtual 356, 3) := dk_182 1 100 (dk_at dksX2_happens_3 11 rfl rfl)
theorem dX2_happens_82 : decode cX2_happens 82 = .ok (.ifCond .eq 49, 3) := dk_153 0 49 (dk_at dksX2_happens_3 14 rfl rfl)
theorem dX2_happens_85 : decode cX2_happens 85 = .ok (.aload_n 0, 1) := dk_42 (dk_at dksX2_happens_3 17 rfl rfl)
theorem dX2_happens_86 : decode cX2_happens 86 = .ok (.iload_n 1, 1) := dk_27 (dk_at dksX2_happens_3 18 rfl rfl)
theorem dX2_happens_87 : decode cX2_happens 87 = .ok (.bipush 20, 2) := dk_16 20 (dk_at dksX2_happens_3 19 rfl rfl)
theorem dX2_happens_89 : decode cX2_happens 89 = .ok (.irem, 1) := dk_112 (dk_at dksX2_happens_3 21 rfl rfl)
theorem dX2_happens_90 : decode cX2_happens 90 = .ok (.iload_n 2, 1) := dk_28 (dk_at dksX2_happens_3 22 rfl rfl)
theorem dX2_happens_91 : decode cX2_happens 91 = .ok (.invokevirtual 359, 3) := dk_182 1 103 (dk_at dksX2_happens_4 0 rfl rfl)
theorem dX2_happens_94 : decode cX2_happens 94 = .ok (.goto 37, 3) := dk_167 0 37 (dk_at dksX2_happens_4 3 rfl rfl)
theorem dX2_happens_97 : decode cX2_happens 97 = .ok (.aload_n 0, 1) := dk_42 (dk_at dksX2_happens_4 6 rfl rfl)
theorem dX2_happens_98 : decode cX2_happens 98 = .ok (.getfield 7, 3) := dk_180 0 7 (dk_at dksX2_happens_4 7 rfl rfl)
theorem dX2_happens_101 : decode cX2_happens 101 = .ok (.bipush 8, 2) := dk_16 8 (dk_at dksX2_happens_4 10 rfl rfl)
theorem dX2_happens_103 : decode cX2_happens 103 = .ok (.iaload, 1) := dk_46 (dk_at dksX2_happens_4 12 rfl rfl)
theorem dX2_happens_104 : decode cX2_happens 104 = .ok (.sipush 9999, 3) := dk_17 39 15 (dk_at dksX2_happens_4 13 rfl rfl)
theorem dX2_happens_107 : decode cX2_happens 107 = .ok (.if_icmp .ge 24, 3) := dk_162 0 24 (dk_at dksX2_happens_4 16 rfl rfl)
theorem dX2_happens_110 : decode cX2_happens 110 = .ok (.aload_n 0, 1) := dk_42 (dk_at dksX2_happens_4 19 rfl rfl)
theorem dX2_happens_111 : decode cX2_happens 111 = .ok (.invokevirtual 362, 3) := dk_182 1 106 (dk_at dksX2_happens_4 20 rfl rfl)
theorem dX2_happens_114 : decode cX2_happens 114 = .ok (.goto 17, 3) := dk_167 0 17 (dk_at dksX2_happens_5 0 rfl rfl)
theorem dX2_happens_117 : decode cX2_happens 117 = .ok (.aload_n 0, 1) := dk_42 (dk_at dksX2_happens_5 3 rfl rfl)
theorem dX2_happens_118 : decode cX2_happens 118 = .ok (.iload_n 2, 1) := dk_28 (dk_at dksX2_happens_5 4 rfl rfl)
theorem dX2_happens_119 : decode cX2_happens 119 = .ok (.invokevirtual 77, 3) := dk_182 0 77 (dk_at dksX2_happens_5 5 rfl rfl)
theorem dX2_happens_122 : decode cX2_happens 122 = .ok (.ifCond .eq 9, 3) := dk_153 0 9 (dk_at dksX2_happens_5 8 rfl rfl)
theorem dX2_happens_125 : decode cX2_happens 125 = .ok (.aload_n 0, 1) := dk_42 (dk_at dksX2_happens_5 11 rfl rfl)
theorem dX2_happens_126 : decode cX2_happens 126 = .ok (.iload_n 2, 1) := dk_28 (dk_at dksX2_happens_5 12 rfl rfl)
theorem dX2_happens_127 : decode cX2_happens 127 = .ok (.invokevirtual 338, 3) := dk_182 1 82 (dk_at dksX2_happens_5 13 rfl rfl)
theorem dX2_happens_130 : decode cX2_happens 130 = .ok (.pop, 1) := dk_87 (dk_at dksX2_happens_5 16 rfl rfl)
theorem dX2_happens_131 : decode cX2_happens 131 = .ok (.return_, 1) := dk_177 (dk_at dksX2_happens_5 17 rfl rfl)
abbrev cX2_of : ByteArray := prog_19_method_91_code
def yX2_of : MethodName := ⟨RX2, "of", "(II)I"⟩
def dkwX2_of_5 : List UInt8 := [184, 0, 65, 153, 0, 12, 42, 27, 28, 182, 0, 73, 167, 0, 4, 2, 172]
abbrev dktX2_of_5 : List UInt8 := dkwX2_of_5 ++ []
def dkwX2_of_4 : List UInt8 := [153, 0, 7, 4, 167, 0, 4, 3, 172, 42, 27, 42, 182, 1, 64, 182, 1, 55, 172, 28, 3, 6]
abbrev dktX2_of_4 : List UInt8 := dkwX2_of_4 ++ dktX2_of_5
def dkwX2_of_3 : List UInt8 := [42, 180, 0, 7, 16, 8, 46, 182, 1, 70, 172, 42, 27, 182, 1, 67, 172, 42, 27, 182, 1, 76]
abbrev dktX2_of_3 : List UInt8 := dkwX2_of_3 ++ dktX2_of_4
def dkwX2_of_2 : List UInt8 := [42, 27, 3, 182, 0, 73, 42, 182, 1, 64, 184, 0, 80, 153, 0, 7, 4, 167, 0, 4, 3, 172, 42, 27]
abbrev dktX2_of_2 : List UInt8 := dkwX2_of_2 ++ dktX2_of_3
def dkwX2_of_1 : List UInt8 := [170, 0, 0, 0, 98, 0, 0, 0, 4, 0, 0, 0, 8, 0, 0, 0, 33, 0, 0, 0, 55, 0, 0, 0, 68, 0, 0, 0, 74, 0, 0, 0, 88]
abbrev dktX2_of_1 : List UInt8 := dkwX2_of_1 ++ dktX2_of_2
def dkwX2_of_0 : List UInt8 := [42, 27, 182, 0, 69, 154, 0, 5, 2, 172, 28]
abbrev dktX2_of_0 : List UInt8 := dkwX2_of_0 ++ dktX2_of_1
theorem dksX2_of_0 : cX2_of.data.toList.drop 0 = dktX2_of_0 := by decide +kernel
theorem dksX2_of_1 : cX2_of.data.toList.drop 11 = dktX2_of_1 := dk_seg dksX2_of_0 11 rfl rfl
theorem dksX2_of_2 : cX2_of.data.toList.drop 44 = dktX2_of_2 := dk_seg dksX2_of_1 33 rfl rfl
theorem dksX2_of_3 : cX2_of.data.toList.drop 68 = dktX2_of_3 := dk_seg dksX2_of_2 24 rfl rfl
theorem dksX2_of_4 : cX2_of.data.toList.drop 90 = dktX2_of_4 := dk_seg dksX2_of_3 22 rfl rfl
theorem dksX2_of_5 : cX2_of.data.toList.drop 112 = dktX2_of_5 := dk_seg dksX2_of_4 22 rfl rfl
theorem dX2_of_0 : decode cX2_of 0 = .ok (.aload_n 0, 1) := dk_42 (dk_at dksX2_of_0 0 rfl rfl)
theorem dX2_of_1 : decode cX2_of 1 = .ok (.iload_n 1, 1) := dk_27 (dk_at dksX2_of_0 1 rfl rfl)
theorem dX2_of_2 : decode cX2_of 2 = .ok (.invokevirtual 69, 3) := dk_182 0 69 (dk_at dksX2_of_0 2 rfl rfl)
theorem dX2_of_5 : decode cX2_of 5 = .ok (.ifCond .ne 5, 3) := dk_154 0 5 (dk_at dksX2_of_0 5 rfl rfl)
theorem dX2_of_8 : decode cX2_of 8 = .ok (.iconst (-1), 1) := dk_2 (dk_at dksX2_of_0 8 rfl rfl)
theorem dX2_of_9 : decode cX2_of 9 = .ok (.ireturn, 1) := dk_172 (dk_at dksX2_of_0 9 rfl rfl)
theorem dX2_of_10 : decode cX2_of 10 = .ok (.iload_n 2, 1) := dk_28 (dk_at dksX2_of_0 10 rfl rfl)
theorem dX2_of_11 : decode cX2_of 11 = .ok (.tableswitch 98 4 8 #[33, 55, 68, 74, 88], 33) := by decide +kernel
theorem dX2_of_44 : decode cX2_of 44 = .ok (.aload_n 0, 1) := dk_42 (dk_at dksX2_of_2 0 rfl rfl)
theorem dX2_of_45 : decode cX2_of 45 = .ok (.iload_n 1, 1) := dk_27 (dk_at dksX2_of_2 1 rfl rfl)
theorem dX2_of_46 : decode cX2_of 46 = .ok (.iconst 0, 1) := dk_3 (dk_at dksX2_of_2 2 rfl rfl)
theorem dX2_of_47 : decode cX2_of 47 = .ok (.invokevirtual 73, 3) := dk_182 0 73 (dk_at dksX2_of_2 3 rfl rfl)
theorem dX2_of_50 : decode cX2_of 50 = .ok (.aload_n 0, 1) := dk_42 (dk_at dksX2_of_2 6 rfl rfl)
theorem dX2_of_51 : decode cX2_of 51 = .ok (.invokevirtual 320, 3) := dk_182 1 64 (dk_at dksX2_of_2 7 rfl rfl)
theorem dX2_of_54 : decode cX2_of 54 = .ok (.invokestatic 80, 3) := dk_184 0 80 (dk_at dksX2_of_2 10 rfl rfl)
theorem dX2_of_57 : decode cX2_of 57 = .ok (.ifCond .eq 7, 3) := dk_153 0 7 (dk_at dksX2_of_2 13 rfl rfl)
theorem dX2_of_60 : decode cX2_of 60 = .ok (.iconst 1, 1) := dk_4 (dk_at dksX2_of_2 16 rfl rfl)
theorem dX2_of_61 : decode cX2_of 61 = .ok (.goto 4, 3) := dk_167 0 4 (dk_at dksX2_of_2 17 rfl rfl)
theorem dX2_of_64 : decode cX2_of 64 = .ok (.iconst 0, 1) := dk_3 (dk_at dksX2_of_2 20 rfl rfl)
theorem dX2_of_65 : decode cX2_of 65 = .ok (.ireturn, 1) := dk_172 (dk_at dksX2_of_2 21 rfl rfl)
theorem dX2_of_66 : decode cX2_of 66 = .ok (.aload_n 0, 1) := dk_42 (dk_at dksX2_of_2 22 rfl rfl)
theorem dX2_of_67 : decode cX2_of 67 = .ok (.iload_n 1, 1) := dk_27 (dk_at dksX2_of_2 23 rfl rfl)
theorem dX2_of_68 : decode cX2_of 68 = .ok (.aload_n 0, 1) := dk_42 (dk_at dksX2_of_3 0 rfl rfl)
theorem dX2_of_69 : decode cX2_of 69 = .ok (.getfield 7, 3) := dk_180 0 7 (dk_at dksX2_of_3 1 rfl rfl)
theorem dX2_of_72 : decode cX2_of 72 = .ok (.bipush 8, 2) := dk_16 8 (dk_at dksX2_of_3 4 rfl rfl)
theorem dX2_of_74 : decode cX2_of 74 = .ok (.iaload, 1) := dk_46 (dk_at dksX2_of_3 6 rfl rfl)
theorem dX2_of_75 : decode cX2_of 75 = .ok (.invokevirtual 326, 3) := dk_182 1 70 (dk_at dksX2_of_3 7 rfl rfl)
theorem dX2_of_78 : decode cX2_of 78 = .ok (.ireturn, 1) := dk_172 (dk_at dksX2_of_3 10 rfl rfl)
theorem dX2_of_79 : decode cX2_of 79 = .ok (.aload_n 0, 1) := dk_42 (dk_at dksX2_of_3 11 rfl rfl)
theorem dX2_of_80 : decode cX2_of 80 = .ok (.iload_n 1, 1) := dk_27 (dk_at dksX2_of_3 12 rfl rfl)
theorem dX2_of_81 : decode cX2_of 81 = .ok (.invokevirtual 323, 3) := dk_182 1 67 (dk_at dksX2_of_3 13 rfl rfl)
theorem dX2_of_84 : decode cX2_of 84 = .ok (.ireturn, 1) := dk_172 (dk_at dksX2_of_3 16 rfl rfl)
theorem dX2_of_85 : decode cX2_of 85 = .ok (.aload_n 0, 1) := dk_42 (dk_at dksX2_of_3 17 rfl rfl)
theorem dX2_of_86 : decode cX2_of 86 = .ok (.iload_n 1, 1) := dk_27 (dk_at dksX2_of_3 18 rfl rfl)
theorem dX2_of_87 : decode cX2_of 87 = .ok (.invokevirtual 332, 3) := dk_182 1 76 (dk_at dksX2_of_3 19 rfl rfl)
theorem dX2_of_90 : decode cX2_of 90 = .ok (.ifCond .eq 7, 3) := dk_153 0 7 (dk_at dksX2_of_4 0 rfl rfl)
theorem dX2_of_93 : decode cX2_of 93 = .ok (.iconst 1, 1) := dk_4 (dk_at dksX2_of_4 3 rfl rfl)
theorem dX2_of_94 : decode cX2_of 94 = .ok (.goto 4, 3) := dk_167 0 4 (dk_at dksX2_of_4 4 rfl rfl)
theorem dX2_of_97 : decode cX2_of 97 = .ok (.iconst 0, 1) := dk_3 (dk_at dksX2_of_4 7 rfl rfl)
theorem dX2_of_98 : decode cX2_of 98 = .ok (.ireturn, 1) := dk_172 (dk_at dksX2_of_4 8 rfl rfl)
theorem dX2_of_99 : decode cX2_of 99 = .ok (.aload_n 0, 1) := dk_42 (dk_at dksX2_of_4 9 rfl rfl)
theorem dX2_of_100 : decode cX2_of 100 = .ok (.iload_n 1, 1) := dk_27 (dk_at dksX2_of_4 10 rfl rfl)
theorem dX2_of_101 : decode cX2_of 101 = .ok (.aload_n 0, 1) := dk_42 (dk_at dksX2_of_4 11 rfl rfl)
theorem dX2_of_102 : decode cX2_of 102 = .ok (.invokevirtual 320, 3) := dk_182 1 64 (dk_at dksX2_of_4 12 rfl rfl)
theorem dX2_of_105 : decode cX2_of 105 = .ok (.invokevirtual 311, 3) := dk_182 1 55 (dk_at dksX2_of_4 15 rfl rfl)
theorem dX2_of_108 : decode cX2_of 108 = .ok (.ireturn, 1) := dk_172 (dk_at dksX2_of_4 18 rfl rfl)
theorem dX2_of_109 : decode cX2_of 109 = .ok (.iload_n 2, 1) := dk_28 (dk_at dksX2_of_4 19 rfl rfl)
theorem dX2_of_110 : decode cX2_of 110 = .ok (.iconst 0, 1) := dk_3 (dk_at dksX2_of_4 20 rfl rfl)
theorem dX2_of_111 : decode cX2_of 111 = .ok (.iconst 3, 1) := dk_6 (dk_at dksX2_of_4 21 rfl rfl)
theorem dX2_of_112 : decode cX2_of 112 = .ok (.invokestatic 65, 3) := dk_184 0 65 (dk_at dksX2_of_5 0 rfl rfl)
theorem dX2_of_115 : decode cX2_of 115 = .ok (.ifCond .eq 12, 3) := dk_153 0 12 (dk_at dksX2_of_5 3 rfl rfl)
theorem dX2_of_118 : decode cX2_of 118 = .ok (.aload_n 0, 1) := dk_42 (dk_at dksX2_of_5 6 rfl rfl)
theorem dX2_of_119 : decode cX2_of 119 = .ok (.iload_n 1, 1) := dk_27 (dk_at dksX2_of_5 7 rfl rfl)
theorem dX2_of_120 : decode cX2_of 120 = .ok (.iload_n 2, 1) := dk_28 (dk_at dksX2_of_5 8 rfl rfl)
theorem dX2_of_121 : decode cX2_of 121 = .ok (.invokevirtual 73, 3) := dk_182 0 73 (dk_at dksX2_of_5 9 rfl rfl)
theorem dX2_of_124 : decode cX2_of 124 = .ok (.goto 4, 3) := dk_167 0 4 (dk_at dksX2_of_5 12 rfl rfl)
theorem dX2_of_127 : decode cX2_of 127 = .ok (.iconst (-1), 1) := dk_2 (dk_at dksX2_of_5 15 rfl rfl)
theorem dX2_of_128 : decode cX2_of 128 = .ok (.ireturn, 1) := dk_172 (dk_at dksX2_of_5 16 rfl rfl)
abbrev cX2_is : ByteArray := prog_19_method_92_code
def yX2_is : MethodName := ⟨RX2, "is", "(I)I"⟩
def dkwX2_is_3 : List UInt8 := [182, 1, 64, 182, 1, 52, 172, 16, 254, 172]
abbrev dktX2_is_3 : List UInt8 := dkwX2_is_3 ++ []
def dkwX2_is_2 : List UInt8 := [42, 180, 0, 7, 16, 8, 46, 172, 42, 182, 1, 64, 172, 42, 180, 0, 7, 16, 9, 46, 172, 42, 42]
abbrev dktX2_is_2 : List UInt8 := dkwX2_is_2 ++ dktX2_is_3
def dkwX2_is_1 : List UInt8 := [170, 0, 0, 0, 0, 0, 61, 0, 0, 0, 0, 0, 0, 0, 3, 0, 0, 0, 31, 0, 0, 0, 39, 0, 0, 0, 44, 0, 0, 0, 52]
abbrev dktX2_is_1 : List UInt8 := dkwX2_is_1 ++ dktX2_is_2
def dkwX2_is_0 : List UInt8 := [27]
abbrev dktX2_is_0 : List UInt8 := dkwX2_is_0 ++ dktX2_is_1
theorem dksX2_is_0 : cX2_is.data.toList.drop 0 = dktX2_is_0 := by decide +kernel
theorem dksX2_is_1 : cX2_is.data.toList.drop 1 = dktX2_is_1 := dk_seg dksX2_is_0 1 rfl rfl
theorem dksX2_is_2 : cX2_is.data.toList.drop 32 = dktX2_is_2 := dk_seg dksX2_is_1 31 rfl rfl
theorem dksX2_is_3 : cX2_is.data.toList.drop 55 = dktX2_is_3 := dk_seg dksX2_is_2 23 rfl rfl
theorem dX2_is_0 : decode cX2_is 0 = .ok (.iload_n 1, 1) := dk_27 (dk_at dksX2_is_0 0 rfl rfl)
theorem dX2_is_1 : decode cX2_is 1 = .ok (.tableswitch 61 0 3 #[31, 39, 44, 52], 31) := by decide +kernel
theorem dX2_is_32 : decode cX2_is 32 = .ok (.aload_n 0, 1) := dk_42 (dk_at dksX2_is_2 0 rfl rfl)
theorem dX2_is_33 : decode cX2_is 33 = .ok (.getfield 7, 3) := dk_180 0 7 (dk_at dksX2_is_2 1 rfl rfl)
theorem dX2_is_36 : decode cX2_is 36 = .ok (.bipush 8, 2) := dk_16 8 (dk_at dksX2_is_2 4 rfl rfl)
theorem dX2_is_38 : decode cX2_is 38 = .ok (.iaload, 1) := dk_46 (dk_at dksX2_is_2 6 rfl rfl)
theorem dX2_is_39 : decode cX2_is 39 = .ok (.ireturn, 1) := dk_172 (dk_at dksX2_is_2 7 rfl rfl)
theorem dX2_is_40 : decode cX2_is 40 = .ok (.aload_n 0, 1) := dk_42 (dk_at dksX2_is_2 8 rfl rfl)
theorem dX2_is_41 : decode cX2_is 41 = .ok (.invokevirtual 320, 3) := dk_182 1 64 (dk_at dksX2_is_2 9 rfl rfl)
theorem dX2_is_44 : decode cX2_is 44 = .ok (.ireturn, 1) := dk_172 (dk_at dksX2_is_2 12 rfl rfl)
theorem dX2_is_45 : decode cX2_is 45 = .ok (.aload_n 0, 1) := dk_42 (dk_at dksX2_is_2 13 rfl rfl)
theorem dX2_is_46 : decode cX2_is 46 = .ok (.getfield 7, 3) := dk_180 0 7 (dk_at dksX2_is_2 14 rfl rfl)
theorem dX2_is_49 : decode cX2_is 49 = .ok (.bipush 9, 2) := dk_16 9 (dk_at dksX2_is_2 17 rfl rfl)
theorem dX2_is_51 : decode cX2_is 51 = .ok (.iaload, 1) := dk_46 (dk_at dksX2_is_2 19 rfl rfl)
theorem dX2_is_52 : decode cX2_is 52 = .ok (.ireturn, 1) := dk_172 (dk_at dksX2_is_2 20 rfl rfl)
theorem dX2_is_53 : decode cX2_is 53 = .ok (.aload_n 0, 1) := dk_42 (dk_at dksX2_is_2 21 rfl rfl)
theorem dX2_is_54 : decode cX2_is 54 = .ok (.aload_n 0, 1) := dk_42 (dk_at dksX2_is_2 22 rfl rfl)
theorem dX2_is_55 : decode cX2_is 55 = .ok (.invokevirtual 320, 3) := dk_182 1 64 (dk_at dksX2_is_3 0 rfl rfl)
theorem dX2_is_58 : decode cX2_is 58 = .ok (.invokevirtual 308, 3) := dk_182 1 52 (dk_at dksX2_is_3 3 rfl rfl)
theorem dX2_is_61 : decode cX2_is 61 = .ok (.ireturn, 1) := dk_172 (dk_at dksX2_is_3 6 rfl rfl)
theorem dX2_is_62 : decode cX2_is 62 = .ok (.bipush (-2), 2) := dk_16 254 (dk_at dksX2_is_3 7 rfl rfl)
theorem dX2_is_64 : decode cX2_is 64 = .ok (.ireturn, 1) := dk_172 (dk_at dksX2_is_3 9 rfl rfl)
abbrev cX2_book : ByteArray := prog_19_method_94_code
def yX2_book : MethodName := ⟨RX2, "book", "(II)I"⟩
def dkwX2_book_2 : List UInt8 := [16, 254, 172]
abbrev dktX2_book_2 : List UInt8 := dkwX2_book_2 ++ []
def dkwX2_book_1 : List UInt8 := [184, 0, 65, 153, 0, 21, 28, 3, 5, 184, 0, 65, 153, 0, 12, 42, 27, 28, 182, 1, 134, 167, 0, 5]
abbrev dktX2_book_1 : List UInt8 := dkwX2_book_1 ++ dktX2_book_2
def dkwX2_book_0 : List UInt8 := [27, 2, 160, 0, 11, 42, 180, 0, 7, 16, 10, 46, 172, 27, 3, 42, 180, 0, 7, 16, 10, 46, 4, 100]
abbrev dktX2_book_0 : List UInt8 := dkwX2_book_0 ++ dktX2_book_1
theorem dksX2_book_0 : cX2_book.data.toList.drop 0 = dktX2_book_0 := by decide +kernel
theorem dksX2_book_1 : cX2_book.data.toList.drop 24 = dktX2_book_1 := dk_seg dksX2_book_0 24 rfl rfl
theorem dksX2_book_2 : cX2_book.data.toList.drop 48 = dktX2_book_2 := dk_seg dksX2_book_1 24 rfl rfl
theorem dX2_book_0 : decode cX2_book 0 = .ok (.iload_n 1, 1) := dk_27 (dk_at dksX2_book_0 0 rfl rfl)
theorem dX2_book_1 : decode cX2_book 1 = .ok (.iconst (-1), 1) := dk_2 (dk_at dksX2_book_0 1 rfl rfl)
theorem dX2_book_2 : decode cX2_book 2 = .ok (.if_icmp .ne 11, 3) := dk_160 0 11 (dk_at dksX2_book_0 2 rfl rfl)
theorem dX2_book_5 : decode cX2_book 5 = .ok (.aload_n 0, 1) := dk_42 (dk_at dksX2_book_0 5 rfl rfl)
theorem dX2_book_6 : decode cX2_book 6 = .ok (.getfield 7, 3) := dk_180 0 7 (dk_at dksX2_book_0 6 rfl rfl)
theorem dX2_book_9 : decode cX2_book 9 = .ok (.bipush 10, 2) := dk_16 10 (dk_at dksX2_book_0 9 rfl rfl)
theorem dX2_book_11 : decode cX2_book 11 = .ok (.iaload, 1) := dk_46 (dk_at dksX2_book_0 11 rfl rfl)
theorem dX2_book_12 : decode cX2_book 12 = .ok (.ireturn, 1) := dk_172 (dk_at dksX2_book_0 12 rfl rfl)
theorem dX2_book_13 : decode cX2_book 13 = .ok (.iload_n 1, 1) := dk_27 (dk_at dksX2_book_0 13 rfl rfl)
theorem dX2_book_14 : decode cX2_book 14 = .ok (.iconst 0, 1) := dk_3 (dk_at dksX2_book_0 14 rfl rfl)
theorem dX2_book_15 : decode cX2_book 15 = .ok (.aload_n 0, 1) := dk_42 (dk_at dksX2_book_0 15 rfl rfl)
theorem dX2_book_16 : decode cX2_book 16 = .ok (.getfield 7, 3) := dk_180 0 7 (dk_at dksX2_book_0 16 rfl rfl)
theorem dX2_book_19 : decode cX2_book 19 = .ok (.bipush 10, 2) := dk_16 10 (dk_at dksX2_book_0 19 rfl rfl)
theorem dX2_book_21 : decode cX2_book 21 = .ok (.iaload, 1) := dk_46 (dk_at dksX2_book_0 21 rfl rfl)
theorem dX2_book_22 : decode cX2_book 22 = .ok (.iconst 1, 1) := dk_4 (dk_at dksX2_book_0 22 rfl rfl)
theorem dX2_book_23 : decode cX2_book 23 = .ok (.isub, 1) := dk_100 (dk_at dksX2_book_0 23 rfl rfl)
theorem dX2_book_24 : decode cX2_book 24 = .ok (.invokestatic 65, 3) := dk_184 0 65 (dk_at dksX2_book_1 0 rfl rfl)
theorem dX2_book_27 : decode cX2_book 27 = .ok (.ifCond .eq 21, 3) := dk_153 0 21 (dk_at dksX2_book_1 3 rfl rfl)
theorem dX2_book_30 : decode cX2_book 30 = .ok (.iload_n 2, 1) := dk_28 (dk_at dksX2_book_1 6 rfl rfl)
theorem dX2_book_31 : decode cX2_book 31 = .ok (.iconst 0, 1) := dk_3 (dk_at dksX2_book_1 7 rfl rfl)
theorem dX2_book_32 : decode cX2_book 32 = .ok (.iconst 2, 1) := dk_5 (dk_at dksX2_book_1 8 rfl rfl)
theorem dX2_book_33 : decode cX2_book 33 = .ok (.invokestatic 65, 3) := dk_184 0 65 (dk_at dksX2_book_1 9 rfl rfl)
theorem dX2_book_36 : decode cX2_book 36 = .ok (.ifCond .eq 12, 3) := dk_153 0 12 (dk_at dksX2_book_1 12 rfl rfl)
theorem dX2_book_39 : decode cX2_book 39 = .ok (.aload_n 0, 1) := dk_42 (dk_at dksX2_book_1 15 rfl rfl)
theorem dX2_book_40 : decode cX2_book 40 = .ok (.iload_n 1, 1) := dk_27 (dk_at dksX2_book_1 16 rfl rfl)
theorem dX2_book_41 : decode cX2_book 41 = .ok (.iload_n 2, 1) := dk_28 (dk_at dksX2_book_1 17 rfl rfl)
theorem dX2_book_42 : decode cX2_book 42 = .ok (.invokevirtual 390, 3) := dk_182 1 134 (dk_at dksX2_book_1 18 rfl rfl)
theorem dX2_book_45 : decode cX2_book 45 = .ok (.goto 5, 3) := dk_167 0 5 (dk_at dksX2_book_1 21 rfl rfl)
theorem dX2_book_48 : decode cX2_book 48 = .ok (.bipush (-2), 2) := dk_16 254 (dk_at dksX2_book_2 0 rfl rfl)
theorem dX2_book_50 : decode cX2_book 50 = .ok (.ireturn, 1) := dk_172 (dk_at dksX2_book_2 2 rfl rfl)
abbrev cX2_entry : ByteArray := prog_19_method_93_code
def yX2_entry : MethodName := ⟨RX2, "entry", "(II)I"⟩
def dkwX2_entry_2 : List UInt8 := [180, 0, 7, 17, 8, 220, 27, 96, 46, 5, 112, 172]
abbrev dktX2_entry_2 : List UInt8 := dkwX2_entry_2 ++ []
def dkwX2_entry_1 : List UInt8 := [160, 0, 21, 42, 180, 0, 7, 17, 8, 220, 27, 96, 46, 5, 108, 16, 8, 112, 167, 0, 15, 42]
abbrev dktX2_entry_1 : List UInt8 := dkwX2_entry_1 ++ dktX2_entry_2
def dkwX2_entry_0 : List UInt8 := [28, 154, 0, 19, 42, 180, 0, 7, 17, 8, 220, 27, 96, 46, 16, 16, 108, 167, 0, 38, 28, 4]
abbrev dktX2_entry_0 : List UInt8 := dkwX2_entry_0 ++ dktX2_entry_1
theorem dksX2_entry_0 : cX2_entry.data.toList.drop 0 = dktX2_entry_0 := by decide +kernel
theorem dksX2_entry_1 : cX2_entry.data.toList.drop 22 = dktX2_entry_1 := dk_seg dksX2_entry_0 22 rfl rfl
theorem dksX2_entry_2 : cX2_entry.data.toList.drop 44 = dktX2_entry_2 := dk_seg dksX2_entry_1 22 rfl rfl
theorem dX2_entry_0 : decode cX2_entry 0 = .ok (.iload_n 2, 1) := dk_28 (dk_at dksX2_entry_0 0 rfl rfl)
theorem dX2_entry_1 : decode cX2_entry 1 = .ok (.ifCond .ne 19, 3) := dk_154 0 19 (dk_at dksX2_entry_0 1 rfl rfl)
theorem dX2_entry_4 : decode cX2_entry 4 = .ok (.aload_n 0, 1) := dk_42 (dk_at dksX2_entry_0 4 rfl rfl)
theorem dX2_entry_5 : decode cX2_entry 5 = .ok (.getfield 7, 3) := dk_180 0 7 (dk_at dksX2_entry_0 5 rfl rfl)
theorem dX2_entry_8 : decode cX2_entry 8 = .ok (.sipush 2268, 3) := dk_17 8 220 (dk_at dksX2_entry_0 8 rfl rfl)
theorem dX2_entry_11 : decode cX2_entry 11 = .ok (.iload_n 1, 1) := dk_27 (dk_at dksX2_entry_0 11 rfl rfl)
theorem dX2_entry_12 : decode cX2_entry 12 = .ok (.iadd, 1) := dk_96 (dk_at dksX2_entry_0 12 rfl rfl)
theorem dX2_entry_13 : decode cX2_entry 13 = .ok (.iaload, 1) := dk_46 (dk_at dksX2_entry_0 13 rfl rfl)
theorem dX2_entry_14 : decode cX2_entry 14 = .ok (.bipush 16, 2) := dk_16 16 (dk_at dksX2_entry_0 14 rfl rfl)
theorem dX2_entry_16 : decode cX2_entry 16 = .ok (.idiv, 1) := dk_108 (dk_at dksX2_entry_0 16 rfl rfl)
theorem dX2_entry_17 : decode cX2_entry 17 = .ok (.goto 38, 3) := dk_167 0 38 (dk_at dksX2_entry_0 17 rfl rfl)
theorem dX2_entry_20 : decode cX2_entry 20 = .ok (.iload_n 2, 1) := dk_28 (dk_at dksX2_entry_0 20 rfl rfl)
theorem dX2_entry_21 : decode cX2_entry 21 = .ok (.iconst 1, 1) := dk_4 (dk_at dksX2_entry_0 21 rfl rfl)
theorem dX2_entry_22 : decode cX2_entry 22 = .ok (.if_icmp .ne 21, 3) := dk_160 0 21 (dk_at dksX2_entry_1 0 rfl rfl)
theorem dX2_entry_25 : decode cX2_entry 25 = .ok (.aload_n 0, 1) := dk_42 (dk_at dksX2_entry_1 3 rfl rfl)
theorem dX2_entry_26 : decode cX2_entry 26 = .ok (.getfield 7, 3) := dk_180 0 7 (dk_at dksX2_entry_1 4 rfl rfl)
theorem dX2_entry_29 : decode cX2_entry 29 = .ok (.sipush 2268, 3) := dk_17 8 220 (dk_at dksX2_entry_1 7 rfl rfl)
theorem dX2_entry_32 : decode cX2_entry 32 = .ok (.iload_n 1, 1) := dk_27 (dk_at dksX2_entry_1 10 rfl rfl)
theorem dX2_entry_33 : decode cX2_entry 33 = .ok (.iadd, 1) := dk_96 (dk_at dksX2_entry_1 11 rfl rfl)
theorem dX2_entry_34 : decode cX2_entry 34 = .ok (.iaload, 1) := dk_46 (dk_at dksX2_entry_1 12 rfl rfl)
theorem dX2_entry_35 : decode cX2_entry 35 = .ok (.iconst 2, 1) := dk_5 (dk_at dksX2_entry_1 13 rfl rfl)
theorem dX2_entry_36 : decode cX2_entry 36 = .ok (.idiv, 1) := dk_108 (dk_at dksX2_entry_1 14 rfl rfl)
theorem dX2_entry_37 : decode cX2_entry 37 = .ok (.bipush 8, 2) := dk_16 8 (dk_at dksX2_entry_1 15 rfl rfl)
theorem dX2_entry_39 : decode cX2_entry 39 = .ok (.irem, 1) := dk_112 (dk_at dksX2_entry_1 17 rfl rfl)
theorem dX2_entry_40 : decode cX2_entry 40 = .ok (.goto 15, 3) := dk_167 0 15 (dk_at dksX2_entry_1 18 rfl rfl)
theorem dX2_entry_43 : decode cX2_entry 43 = .ok (.aload_n 0, 1) := dk_42 (dk_at dksX2_entry_1 21 rfl rfl)
theorem dX2_entry_44 : decode cX2_entry 44 = .ok (.getfield 7, 3) := dk_180 0 7 (dk_at dksX2_entry_2 0 rfl rfl)
theorem dX2_entry_47 : decode cX2_entry 47 = .ok (.sipush 2268, 3) := dk_17 8 220 (dk_at dksX2_entry_2 3 rfl rfl)
theorem dX2_entry_50 : decode cX2_entry 50 = .ok (.iload_n 1, 1) := dk_27 (dk_at dksX2_entry_2 6 rfl rfl)
theorem dX2_entry_51 : decode cX2_entry 51 = .ok (.iadd, 1) := dk_96 (dk_at dksX2_entry_2 7 rfl rfl)
theorem dX2_entry_52 : decode cX2_entry 52 = .ok (.iaload, 1) := dk_46 (dk_at dksX2_entry_2 8 rfl rfl)
theorem dX2_entry_53 : decode cX2_entry 53 = .ok (.iconst 2, 1) := dk_5 (dk_at dksX2_entry_2 9 rfl rfl)
theorem dX2_entry_54 : decode cX2_entry 54 = .ok (.irem, 1) := dk_112 (dk_at dksX2_entry_2 10 rfl rfl)
theorem dX2_entry_55 : decode cX2_entry 55 = .ok (.ireturn, 1) := dk_172 (dk_at dksX2_entry_2 11 rfl rfl)
abbrev cX2_knocks : ByteArray := prog_19_method_96_code
def yX2_knocks : MethodName := ⟨RX2, "knocks", "(IZ)I"⟩
def dkwX2_knocks_1 : List UInt8 := [182, 1, 137, 167, 0, 5, 16, 254, 172]
abbrev dktX2_knocks_1 : List UInt8 := dkwX2_knocks_1 ++ []
def dkwX2_knocks_0 : List UInt8 := [27, 2, 159, 0, 11, 42, 27, 182, 0, 69, 153, 0, 20, 42, 27, 28, 153, 0, 7, 4, 167, 0, 4, 3]
abbrev dktX2_knocks_0 : List UInt8 := dkwX2_knocks_0 ++ dktX2_knocks_1
theorem dksX2_knocks_0 : cX2_knocks.data.toList.drop 0 = dktX2_knocks_0 := by decide +kernel
theorem dksX2_knocks_1 : cX2_knocks.data.toList.drop 24 = dktX2_knocks_1 := dk_seg dksX2_knocks_0 24 rfl rfl
theorem dX2_knocks_0 : decode cX2_knocks 0 = .ok (.iload_n 1, 1) := dk_27 (dk_at dksX2_knocks_0 0 rfl rfl)
theorem dX2_knocks_1 : decode cX2_knocks 1 = .ok (.iconst (-1), 1) := dk_2 (dk_at dksX2_knocks_0 1 rfl rfl)
theorem dX2_knocks_2 : decode cX2_knocks 2 = .ok (.if_icmp .eq 11, 3) := dk_159 0 11 (dk_at dksX2_knocks_0 2 rfl rfl)
theorem dX2_knocks_5 : decode cX2_knocks 5 = .ok (.aload_n 0, 1) := dk_42 (dk_at dksX2_knocks_0 5 rfl rfl)
theorem dX2_knocks_6 : decode cX2_knocks 6 = .ok (.iload_n 1, 1) := dk_27 (dk_at dksX2_knocks_0 6 rfl rfl)
theorem dX2_knocks_7 : decode cX2_knocks 7 = .ok (.invokevirtual 69, 3) := dk_182 0 69 (dk_at dksX2_knocks_0 7 rfl rfl)
theorem dX2_knocks_10 : decode cX2_knocks 10 = .ok (.ifCond .eq 20, 3) := dk_153 0 20 (dk_at dksX2_knocks_0 10 rfl rfl)
theorem dX2_knocks_13 : decode cX2_knocks 13 = .ok (.aload_n 0, 1) := dk_42 (dk_at dksX2_knocks_0 13 rfl rfl)
theorem dX2_knocks_14 : decode cX2_knocks 14 = .ok (.iload_n 1, 1) := dk_27 (dk_at dksX2_knocks_0 14 rfl rfl)
theorem dX2_knocks_15 : decode cX2_knocks 15 = .ok (.iload_n 2, 1) := dk_28 (dk_at dksX2_knocks_0 15 rfl rfl)
theorem dX2_knocks_16 : decode cX2_knocks 16 = .ok (.ifCond .eq 7, 3) := dk_153 0 7 (dk_at dksX2_knocks_0 16 rfl rfl)
theorem dX2_knocks_19 : decode cX2_knocks 19 = .ok (.iconst 1, 1) := dk_4 (dk_at dksX2_knocks_0 19 rfl rfl)
theorem dX2_knocks_20 : decode cX2_knocks 20 = .ok (.goto 4, 3) := dk_167 0 4 (dk_at dksX2_knocks_0 20 rfl rfl)
theorem dX2_knocks_23 : decode cX2_knocks 23 = .ok (.iconst 0, 1) := dk_3 (dk_at dksX2_knocks_0 23 rfl rfl)
theorem dX2_knocks_24 : decode cX2_knocks 24 = .ok (.invokevirtual 393, 3) := dk_182 1 137 (dk_at dksX2_knocks_1 0 rfl rfl)
theorem dX2_knocks_27 : decode cX2_knocks 27 = .ok (.goto 5, 3) := dk_167 0 5 (dk_at dksX2_knocks_1 3 rfl rfl)
theorem dX2_knocks_30 : decode cX2_knocks 30 = .ok (.bipush (-2), 2) := dk_16 254 (dk_at dksX2_knocks_1 6 rfl rfl)
theorem dX2_knocks_32 : decode cX2_knocks 32 = .ok (.ireturn, 1) := dk_172 (dk_at dksX2_knocks_1 8 rfl rfl)
abbrev cX2_knocksAt : ByteArray := prog_19_method_95_code
def yX2_knocksAt : MethodName := ⟨RX2, "knocksAt", "(II)I"⟩
def dkwX2_knocksAt_2 : List UInt8 := [167, 0, 4, 3, 96, 62, 132, 4, 1, 167, 255, 206, 29, 172]
abbrev dktX2_knocksAt_2 : List UInt8 := dkwX2_knocksAt_2 ++ []
def dkwX2_knocksAt_1 : List UInt8 := [182, 1, 134, 28, 160, 0, 23, 27, 2, 159, 0, 14, 42, 21, 4, 4, 182, 1, 134, 27, 160, 0, 7, 4]
abbrev dktX2_knocksAt_1 : List UInt8 := dkwX2_knocksAt_1 ++ dktX2_knocksAt_2
def dkwX2_knocksAt_0 : List UInt8 := [3, 62, 3, 54, 4, 21, 4, 42, 180, 0, 7, 16, 10, 46, 162, 0, 44, 29, 42, 21, 4, 5]
abbrev dktX2_knocksAt_0 : List UInt8 := dkwX2_knocksAt_0 ++ dktX2_knocksAt_1
theorem dksX2_knocksAt_0 : cX2_knocksAt.data.toList.drop 0 = dktX2_knocksAt_0 := by decide +kernel
theorem dksX2_knocksAt_1 : cX2_knocksAt.data.toList.drop 22 = dktX2_knocksAt_1 := dk_seg dksX2_knocksAt_0 22 rfl rfl
theorem dksX2_knocksAt_2 : cX2_knocksAt.data.toList.drop 46 = dktX2_knocksAt_2 := dk_seg dksX2_knocksAt_1 24 rfl rfl
theorem dX2_knocksAt_0 : decode cX2_knocksAt 0 = .ok (.iconst 0, 1) := dk_3 (dk_at dksX2_knocksAt_0 0 rfl rfl)
theorem dX2_knocksAt_1 : decode cX2_knocksAt 1 = .ok (.istore_n 3, 1) := dk_62 (dk_at dksX2_knocksAt_0 1 rfl rfl)
theorem dX2_knocksAt_2 : decode cX2_knocksAt 2 = .ok (.iconst 0, 1) := dk_3 (dk_at dksX2_knocksAt_0 2 rfl rfl)
theorem dX2_knocksAt_3 : decode cX2_knocksAt 3 = .ok (.istore 4, 2) := dk_54 4 (dk_at dksX2_knocksAt_0 3 rfl rfl)
theorem dX2_knocksAt_5 : decode cX2_knocksAt 5 = .ok (.iload 4, 2) := dk_21 4 (dk_at dksX2_knocksAt_0 5 rfl rfl)
theorem dX2_knocksAt_7 : decode cX2_knocksAt 7 = .ok (.aload_n 0, 1) := dk_42 (dk_at dksX2_knocksAt_0 7 rfl rfl)
theorem dX2_knocksAt_8 : decode cX2_knocksAt 8 = .ok (.getfield 7, 3) := dk_180 0 7 (dk_at dksX2_knocksAt_0 8 rfl rfl)
theorem dX2_knocksAt_11 : decode cX2_knocksAt 11 = .ok (.bipush 10, 2) := dk_16 10 (dk_at dksX2_knocksAt_0 11 rfl rfl)
theorem dX2_knocksAt_13 : decode cX2_knocksAt 13 = .ok (.iaload, 1) := dk_46 (dk_at dksX2_knocksAt_0 13 rfl rfl)
theorem dX2_knocksAt_14 : decode cX2_knocksAt 14 = .ok (.if_icmp .ge 44, 3) := dk_162 0 44 (dk_at dksX2_knocksAt_0 14 rfl rfl)
theorem dX2_knocksAt_17 : decode cX2_knocksAt 17 = .ok (.iload_n 3, 1) := dk_29 (dk_at dksX2_knocksAt_0 17 rfl rfl)
theorem dX2_knocksAt_18 : decode cX2_knocksAt 18 = .ok (.aload_n 0, 1) := dk_42 (dk_at dksX2_knocksAt_0 18 rfl rfl)
theorem dX2_knocksAt_19 : decode cX2_knocksAt 19 = .ok (.iload 4, 2) := dk_21 4 (dk_at dksX2_knocksAt_0 19 rfl rfl)
theorem dX2_knocksAt_21 : decode cX2_knocksAt 21 = .ok (.iconst 2, 1) := dk_5 (dk_at dksX2_knocksAt_0 21 rfl rfl)
theorem dX2_knocksAt_22 : decode cX2_knocksAt 22 = .ok (.invokevirtual 390, 3) := dk_182 1 134 (dk_at dksX2_knocksAt_1 0 rfl rfl)
theorem dX2_knocksAt_25 : decode cX2_knocksAt 25 = .ok (.iload_n 2, 1) := dk_28 (dk_at dksX2_knocksAt_1 3 rfl rfl)
theorem dX2_knocksAt_26 : decode cX2_knocksAt 26 = .ok (.if_icmp .ne 23, 3) := dk_160 0 23 (dk_at dksX2_knocksAt_1 4 rfl rfl)
theorem dX2_knocksAt_29 : decode cX2_knocksAt 29 = .ok (.iload_n 1, 1) := dk_27 (dk_at dksX2_knocksAt_1 7 rfl rfl)
theorem dX2_knocksAt_30 : decode cX2_knocksAt 30 = .ok (.iconst (-1), 1) := dk_2 (dk_at dksX2_knocksAt_1 8 rfl rfl)
theorem dX2_knocksAt_31 : decode cX2_knocksAt 31 = .ok (.if_icmp .eq 14, 3) := dk_159 0 14 (dk_at dksX2_knocksAt_1 9 rfl rfl)
theorem dX2_knocksAt_34 : decode cX2_knocksAt 34 = .ok (.aload_n 0, 1) := dk_42 (dk_at dksX2_knocksAt_1 12 rfl rfl)
theorem dX2_knocksAt_35 : decode cX2_knocksAt 35 = .ok (.iload 4, 2) := dk_21 4 (dk_at dksX2_knocksAt_1 13 rfl rfl)
theorem dX2_knocksAt_37 : decode cX2_knocksAt 37 = .ok (.iconst 1, 1) := dk_4 (dk_at dksX2_knocksAt_1 15 rfl rfl)
theorem dX2_knocksAt_38 : decode cX2_knocksAt 38 = .ok (.invokevirtual 390, 3) := dk_182 1 134 (dk_at dksX2_knocksAt_1 16 rfl rfl)
theorem dX2_knocksAt_41 : decode cX2_knocksAt 41 = .ok (.iload_n 1, 1) := dk_27 (dk_at dksX2_knocksAt_1 19 rfl rfl)
theorem dX2_knocksAt_42 : decode cX2_knocksAt 42 = .ok (.if_icmp .ne 7, 3) := dk_160 0 7 (dk_at dksX2_knocksAt_1 20 rfl rfl)
theorem dX2_knocksAt_45 : decode cX2_knocksAt 45 = .ok (.iconst 1, 1) := dk_4 (dk_at dksX2_knocksAt_1 23 rfl rfl)
theorem dX2_knocksAt_46 : decode cX2_knocksAt 46 = .ok (.goto 4, 3) := dk_167 0 4 (dk_at dksX2_knocksAt_2 0 rfl rfl)
theorem dX2_knocksAt_49 : decode cX2_knocksAt 49 = .ok (.iconst 0, 1) := dk_3 (dk_at dksX2_knocksAt_2 3 rfl rfl)
theorem dX2_knocksAt_50 : decode cX2_knocksAt 50 = .ok (.iadd, 1) := dk_96 (dk_at dksX2_knocksAt_2 4 rfl rfl)
theorem dX2_knocksAt_51 : decode cX2_knocksAt 51 = .ok (.istore_n 3, 1) := dk_62 (dk_at dksX2_knocksAt_2 5 rfl rfl)
theorem dX2_knocksAt_52 : decode cX2_knocksAt 52 = .ok (.iinc 4 1, 3) := dk_132 4 1 (dk_at dksX2_knocksAt_2 6 rfl rfl)
theorem dX2_knocksAt_55 : decode cX2_knocksAt 55 = .ok (.goto (-50), 3) := dk_167 255 206 (dk_at dksX2_knocksAt_2 9 rfl rfl)
theorem dX2_knocksAt_58 : decode cX2_knocksAt 58 = .ok (.iload_n 3, 1) := dk_29 (dk_at dksX2_knocksAt_2 12 rfl rfl)
theorem dX2_knocksAt_59 : decode cX2_knocksAt 59 = .ok (.ireturn, 1) := dk_172 (dk_at dksX2_knocksAt_2 13 rfl rfl)
abbrev cX2_offended : ByteArray := prog_19_method_97_code
def yX2_offended : MethodName := ⟨RX2, "offended", "()I"⟩
def dkwX2_offended_1 : List UInt8 := [163, 0, 6, 167, 0, 12, 42, 29, 4, 182, 1, 137, 61, 29, 60, 132, 3, 1, 167, 255, 221, 27, 172]
abbrev dktX2_offended_1 : List UInt8 := dkwX2_offended_1 ++ []
def dkwX2_offended_0 : List UInt8 := [2, 60, 3, 61, 3, 62, 29, 42, 180, 0, 7, 3, 46, 162, 0, 31, 42, 29, 4, 182, 1, 137, 28]
abbrev dktX2_offended_0 : List UInt8 := dkwX2_offended_0 ++ dktX2_offended_1
theorem dksX2_offended_0 : cX2_offended.data.toList.drop 0 = dktX2_offended_0 := by decide +kernel
theorem dksX2_offended_1 : cX2_offended.data.toList.drop 23 = dktX2_offended_1 := dk_seg dksX2_offended_0 23 rfl rfl
theorem dX2_offended_0 : decode cX2_offended 0 = .ok (.iconst (-1), 1) := dk_2 (dk_at dksX2_offended_0 0 rfl rfl)
theorem dX2_offended_1 : decode cX2_offended 1 = .ok (.istore_n 1, 1) := dk_60 (dk_at dksX2_offended_0 1 rfl rfl)
theorem dX2_offended_2 : decode cX2_offended 2 = .ok (.iconst 0, 1) := dk_3 (dk_at dksX2_offended_0 2 rfl rfl)
theorem dX2_offended_3 : decode cX2_offended 3 = .ok (.istore_n 2, 1) := dk_61 (dk_at dksX2_offended_0 3 rfl rfl)
theorem dX2_offended_4 : decode cX2_offended 4 = .ok (.iconst 0, 1) := dk_3 (dk_at dksX2_offended_0 4 rfl rfl)
theorem dX2_offended_5 : decode cX2_offended 5 = .ok (.istore_n 3, 1) := dk_62 (dk_at dksX2_offended_0 5 rfl rfl)
theorem dX2_offended_6 : decode cX2_offended 6 = .ok (.iload_n 3, 1) := dk_29 (dk_at dksX2_offended_0 6 rfl rfl)
theorem dX2_offended_7 : decode cX2_offended 7 = .ok (.aload_n 0, 1) := dk_42 (dk_at dksX2_offended_0 7 rfl rfl)
theorem dX2_offended_8 : decode cX2_offended 8 = .ok (.getfield 7, 3) := dk_180 0 7 (dk_at dksX2_offended_0 8 rfl rfl)
theorem dX2_offended_11 : decode cX2_offended 11 = .ok (.iconst 0, 1) := dk_3 (dk_at dksX2_offended_0 11 rfl rfl)
theorem dX2_offended_12 : decode cX2_offended 12 = .ok (.iaload, 1) := dk_46 (dk_at dksX2_offended_0 12 rfl rfl)
theorem dX2_offended_13 : decode cX2_offended 13 = .ok (.if_icmp .ge 31, 3) := dk_162 0 31 (dk_at dksX2_offended_0 13 rfl rfl)
theorem dX2_offended_16 : decode cX2_offended 16 = .ok (.aload_n 0, 1) := dk_42 (dk_at dksX2_offended_0 16 rfl rfl)
theorem dX2_offended_17 : decode cX2_offended 17 = .ok (.iload_n 3, 1) := dk_29 (dk_at dksX2_offended_0 17 rfl rfl)
theorem dX2_offended_18 : decode cX2_offended 18 = .ok (.iconst 1, 1) := dk_4 (dk_at dksX2_offended_0 18 rfl rfl)
theorem dX2_offended_19 : decode cX2_offended 19 = .ok (.invokevirtual 393, 3) := dk_182 1 137 (dk_at dksX2_offended_0 19 rfl rfl)
theorem dX2_offended_22 : decode cX2_offended 22 = .ok (.iload_n 2, 1) := dk_28 (dk_at dksX2_offended_0 22 rfl rfl)
theorem dX2_offended_23 : decode cX2_offended 23 = .ok (.if_icmp .gt 6, 3) := dk_163 0 6 (dk_at dksX2_offended_1 0 rfl rfl)
theorem dX2_offended_26 : decode cX2_offended 26 = .ok (.goto 12, 3) := dk_167 0 12 (dk_at dksX2_offended_1 3 rfl rfl)
theorem dX2_offended_29 : decode cX2_offended 29 = .ok (.aload_n 0, 1) := dk_42 (dk_at dksX2_offended_1 6 rfl rfl)
theorem dX2_offended_30 : decode cX2_offended 30 = .ok (.iload_n 3, 1) := dk_29 (dk_at dksX2_offended_1 7 rfl rfl)
theorem dX2_offended_31 : decode cX2_offended 31 = .ok (.iconst 1, 1) := dk_4 (dk_at dksX2_offended_1 8 rfl rfl)
theorem dX2_offended_32 : decode cX2_offended 32 = .ok (.invokevirtual 393, 3) := dk_182 1 137 (dk_at dksX2_offended_1 9 rfl rfl)
theorem dX2_offended_35 : decode cX2_offended 35 = .ok (.istore_n 2, 1) := dk_61 (dk_at dksX2_offended_1 12 rfl rfl)
theorem dX2_offended_36 : decode cX2_offended 36 = .ok (.iload_n 3, 1) := dk_29 (dk_at dksX2_offended_1 13 rfl rfl)
theorem dX2_offended_37 : decode cX2_offended 37 = .ok (.istore_n 1, 1) := dk_60 (dk_at dksX2_offended_1 14 rfl rfl)
theorem dX2_offended_38 : decode cX2_offended 38 = .ok (.iinc 3 1, 3) := dk_132 3 1 (dk_at dksX2_offended_1 15 rfl rfl)
theorem dX2_offended_41 : decode cX2_offended 41 = .ok (.goto (-35), 3) := dk_167 255 221 (dk_at dksX2_offended_1 18 rfl rfl)
theorem dX2_offended_44 : decode cX2_offended 44 = .ok (.iload_n 1, 1) := dk_27 (dk_at dksX2_offended_1 21 rfl rfl)
theorem dX2_offended_45 : decode cX2_offended 45 = .ok (.ireturn, 1) := dk_172 (dk_at dksX2_offended_1 22 rfl rfl)
abbrev cX2_foretold : ByteArray := prog_19_method_101_code
def yX2_foretold : MethodName := ⟨RX2, "foretold", "(II)I"⟩
def dkwX2_foretold_1 : List UInt8 := [42, 27, 182, 1, 143, 42, 28, 4, 182, 0, 73, 62, 42, 182, 1, 146, 29, 172]
abbrev dktX2_foretold_1 : List UInt8 := dkwX2_foretold_1 ++ []
def dkwX2_foretold_0 : List UInt8 := [27, 4, 16, 60, 184, 0, 65, 153, 0, 11, 42, 28, 182, 0, 69, 154, 0, 5, 2, 172, 42, 182, 1, 140]
abbrev dktX2_foretold_0 : List UInt8 := dkwX2_foretold_0 ++ dktX2_foretold_1
theorem dksX2_foretold_0 : cX2_foretold.data.toList.drop 0 = dktX2_foretold_0 := by decide +kernel
theorem dksX2_foretold_1 : cX2_foretold.data.toList.drop 24 = dktX2_foretold_1 := dk_seg dksX2_foretold_0 24 rfl rfl
theorem dX2_foretold_0 : decode cX2_foretold 0 = .ok (.iload_n 1, 1) := dk_27 (dk_at dksX2_foretold_0 0 rfl rfl)
theorem dX2_foretold_1 : decode cX2_foretold 1 = .ok (.iconst 1, 1) := dk_4 (dk_at dksX2_foretold_0 1 rfl rfl)
theorem dX2_foretold_2 : decode cX2_foretold 2 = .ok (.bipush 60, 2) := dk_16 60 (dk_at dksX2_foretold_0 2 rfl rfl)
theorem dX2_foretold_4 : decode cX2_foretold 4 = .ok (.invokestatic 65, 3) := dk_184 0 65 (dk_at dksX2_foretold_0 4 rfl rfl)
theorem dX2_foretold_7 : decode cX2_foretold 7 = .ok (.ifCond .eq 11, 3) := dk_153 0 11 (dk_at dksX2_foretold_0 7 rfl rfl)
theorem dX2_foretold_10 : decode cX2_foretold 10 = .ok (.aload_n 0, 1) := dk_42 (dk_at dksX2_foretold_0 10 rfl rfl)
theorem dX2_foretold_11 : decode cX2_foretold 11 = .ok (.iload_n 2, 1) := dk_28 (dk_at dksX2_foretold_0 11 rfl rfl)
theorem dX2_foretold_12 : decode cX2_foretold 12 = .ok (.invokevirtual 69, 3) := dk_182 0 69 (dk_at dksX2_foretold_0 12 rfl rfl)
theorem dX2_foretold_15 : decode cX2_foretold 15 = .ok (.ifCond .ne 5, 3) := dk_154 0 5 (dk_at dksX2_foretold_0 15 rfl rfl)
theorem dX2_foretold_18 : decode cX2_foretold 18 = .ok (.iconst (-1), 1) := dk_2 (dk_at dksX2_foretold_0 18 rfl rfl)
theorem dX2_foretold_19 : decode cX2_foretold 19 = .ok (.ireturn, 1) := dk_172 (dk_at dksX2_foretold_0 19 rfl rfl)
theorem dX2_foretold_20 : decode cX2_foretold 20 = .ok (.aload_n 0, 1) := dk_42 (dk_at dksX2_foretold_0 20 rfl rfl)
theorem dX2_foretold_21 : decode cX2_foretold 21 = .ok (.invokevirtual 396, 3) := dk_182 1 140 (dk_at dksX2_foretold_0 21 rfl rfl)
theorem dX2_foretold_24 : decode cX2_foretold 24 = .ok (.aload_n 0, 1) := dk_42 (dk_at dksX2_foretold_1 0 rfl rfl)
theorem dX2_foretold_25 : decode cX2_foretold 25 = .ok (.iload_n 1, 1) := dk_27 (dk_at dksX2_foretold_1 1 rfl rfl)
theorem dX2_foretold_26 : decode cX2_foretold 26 = .ok (.invokevirtual 399, 3) := dk_182 1 143 (dk_at dksX2_foretold_1 2 rfl rfl)
theorem dX2_foretold_29 : decode cX2_foretold 29 = .ok (.aload_n 0, 1) := dk_42 (dk_at dksX2_foretold_1 5 rfl rfl)
theorem dX2_foretold_30 : decode cX2_foretold 30 = .ok (.iload_n 2, 1) := dk_28 (dk_at dksX2_foretold_1 6 rfl rfl)
theorem dX2_foretold_31 : decode cX2_foretold 31 = .ok (.iconst 1, 1) := dk_4 (dk_at dksX2_foretold_1 7 rfl rfl)
theorem dX2_foretold_32 : decode cX2_foretold 32 = .ok (.invokevirtual 73, 3) := dk_182 0 73 (dk_at dksX2_foretold_1 8 rfl rfl)
theorem dX2_foretold_35 : decode cX2_foretold 35 = .ok (.istore_n 3, 1) := dk_62 (dk_at dksX2_foretold_1 11 rfl rfl)
theorem dX2_foretold_36 : decode cX2_foretold 36 = .ok (.aload_n 0, 1) := dk_42 (dk_at dksX2_foretold_1 12 rfl rfl)
theorem dX2_foretold_37 : decode cX2_foretold 37 = .ok (.invokevirtual 402, 3) := dk_182 1 146 (dk_at dksX2_foretold_1 13 rfl rfl)
theorem dX2_foretold_40 : decode cX2_foretold 40 = .ok (.iload_n 3, 1) := dk_29 (dk_at dksX2_foretold_1 16 rfl rfl)
theorem dX2_foretold_41 : decode cX2_foretold 41 = .ok (.ireturn, 1) := dk_172 (dk_at dksX2_foretold_1 17 rfl rfl)
abbrev cX2_setAside : ByteArray := prog_19_method_98_code
def yX2_setAside : MethodName := ⟨RX2, "setAside", "()V"⟩
def dkwX2_setAside_1 : List UInt8 := [167, 255, 235, 177]
abbrev dktX2_setAside_1 : List UInt8 := dkwX2_setAside_1 ++ []
def dkwX2_setAside_0 : List UInt8 := [16, 8, 60, 27, 16, 68, 162, 0, 21, 42, 180, 0, 43, 27, 42, 180, 0, 7, 27, 46, 79, 132, 1, 1]
abbrev dktX2_setAside_0 : List UInt8 := dkwX2_setAside_0 ++ dktX2_setAside_1
theorem dksX2_setAside_0 : cX2_setAside.data.toList.drop 0 = dktX2_setAside_0 := by decide +kernel
theorem dksX2_setAside_1 : cX2_setAside.data.toList.drop 24 = dktX2_setAside_1 := dk_seg dksX2_setAside_0 24 rfl rfl
theorem dX2_setAside_0 : decode cX2_setAside 0 = .ok (.bipush 8, 2) := dk_16 8 (dk_at dksX2_setAside_0 0 rfl rfl)
theorem dX2_setAside_2 : decode cX2_setAside 2 = .ok (.istore_n 1, 1) := dk_60 (dk_at dksX2_setAside_0 2 rfl rfl)
theorem dX2_setAside_3 : decode cX2_setAside 3 = .ok (.iload_n 1, 1) := dk_27 (dk_at dksX2_setAside_0 3 rfl rfl)
theorem dX2_setAside_4 : decode cX2_setAside 4 = .ok (.bipush 68, 2) := dk_16 68 (dk_at dksX2_setAside_0 4 rfl rfl)
theorem dX2_setAside_6 : decode cX2_setAside 6 = .ok (.if_icmp .ge 21, 3) := dk_162 0 21 (dk_at dksX2_setAside_0 6 rfl rfl)
theorem dX2_setAside_9 : decode cX2_setAside 9 = .ok (.aload_n 0, 1) := dk_42 (dk_at dksX2_setAside_0 9 rfl rfl)
theorem dX2_setAside_10 : decode cX2_setAside 10 = .ok (.getfield 43, 3) := dk_180 0 43 (dk_at dksX2_setAside_0 10 rfl rfl)
theorem dX2_setAside_13 : decode cX2_setAside 13 = .ok (.iload_n 1, 1) := dk_27 (dk_at dksX2_setAside_0 13 rfl rfl)
theorem dX2_setAside_14 : decode cX2_setAside 14 = .ok (.aload_n 0, 1) := dk_42 (dk_at dksX2_setAside_0 14 rfl rfl)
theorem dX2_setAside_15 : decode cX2_setAside 15 = .ok (.getfield 7, 3) := dk_180 0 7 (dk_at dksX2_setAside_0 15 rfl rfl)
theorem dX2_setAside_18 : decode cX2_setAside 18 = .ok (.iload_n 1, 1) := dk_27 (dk_at dksX2_setAside_0 18 rfl rfl)
theorem dX2_setAside_19 : decode cX2_setAside 19 = .ok (.iaload, 1) := dk_46 (dk_at dksX2_setAside_0 19 rfl rfl)
theorem dX2_setAside_20 : decode cX2_setAside 20 = .ok (.iastore, 1) := dk_79 (dk_at dksX2_setAside_0 20 rfl rfl)
theorem dX2_setAside_21 : decode cX2_setAside 21 = .ok (.iinc 1 1, 3) := dk_132 1 1 (dk_at dksX2_setAside_0 21 rfl rfl)
theorem dX2_setAside_24 : decode cX2_setAside 24 = .ok (.goto (-21), 3) := dk_167 255 235 (dk_at dksX2_setAside_1 0 rfl rfl)
theorem dX2_setAside_27 : decode cX2_setAside 27 = .ok (.return_, 1) := dk_177 (dk_at dksX2_setAside_1 3 rfl rfl)
abbrev cX2_goOn : ByteArray := prog_19_method_100_code
def yX2_goOn : MethodName := ⟨RX2, "goOn", "(I)V"⟩
def dkwX2_goOn_1 : List UInt8 := [132, 2, 1, 167, 255, 231, 177]
abbrev dktX2_goOn_1 : List UInt8 := dkwX2_goOn_1 ++ []
def dkwX2_goOn_0 : List UInt8 := [3, 61, 28, 27, 162, 0, 26, 42, 180, 0, 7, 16, 8, 46, 17, 39, 15, 162, 0, 7, 42, 182, 1, 106]
abbrev dktX2_goOn_0 : List UInt8 := dkwX2_goOn_0 ++ dktX2_goOn_1
theorem dksX2_goOn_0 : cX2_goOn.data.toList.drop 0 = dktX2_goOn_0 := by decide +kernel
theorem dksX2_goOn_1 : cX2_goOn.data.toList.drop 24 = dktX2_goOn_1 := dk_seg dksX2_goOn_0 24 rfl rfl
theorem dX2_goOn_0 : decode cX2_goOn 0 = .ok (.iconst 0, 1) := dk_3 (dk_at dksX2_goOn_0 0 rfl rfl)
theorem dX2_goOn_1 : decode cX2_goOn 1 = .ok (.istore_n 2, 1) := dk_61 (dk_at dksX2_goOn_0 1 rfl rfl)
theorem dX2_goOn_2 : decode cX2_goOn 2 = .ok (.iload_n 2, 1) := dk_28 (dk_at dksX2_goOn_0 2 rfl rfl)
theorem dX2_goOn_3 : decode cX2_goOn 3 = .ok (.iload_n 1, 1) := dk_27 (dk_at dksX2_goOn_0 3 rfl rfl)
theorem dX2_goOn_4 : decode cX2_goOn 4 = .ok (.if_icmp .ge 26, 3) := dk_162 0 26 (dk_at dksX2_goOn_0 4 rfl rfl)
theorem dX2_goOn_7 : decode cX2_goOn 7 = .ok (.aload_n 0, 1) := dk_42 (dk_at dksX2_goOn_0 7 rfl rfl)
theorem dX2_goOn_8 : decode cX2_goOn 8 = .ok (.getfield 7, 3) := dk_180 0 7 (dk_at dksX2_goOn_0 8 rfl rfl)
theorem dX2_goOn_11 : decode cX2_goOn 11 = .ok (.bipush 8, 2) := dk_16 8 (dk_at dksX2_goOn_0 11 rfl rfl)
theorem dX2_goOn_13 : decode cX2_goOn 13 = .ok (.iaload, 1) := dk_46 (dk_at dksX2_goOn_0 13 rfl rfl)
theorem dX2_goOn_14 : decode cX2_goOn 14 = .ok (.sipush 9999, 3) := dk_17 39 15 (dk_at dksX2_goOn_0 14 rfl rfl)
theorem dX2_goOn_17 : decode cX2_goOn 17 = .ok (.if_icmp .ge 7, 3) := dk_162 0 7 (dk_at dksX2_goOn_0 17 rfl rfl)
theorem dX2_goOn_20 : decode cX2_goOn 20 = .ok (.aload_n 0, 1) := dk_42 (dk_at dksX2_goOn_0 20 rfl rfl)
theorem dX2_goOn_21 : decode cX2_goOn 21 = .ok (.invokevirtual 362, 3) := dk_182 1 106 (dk_at dksX2_goOn_0 21 rfl rfl)
theorem dX2_goOn_24 : decode cX2_goOn 24 = .ok (.iinc 2 1, 3) := dk_132 2 1 (dk_at dksX2_goOn_1 0 rfl rfl)
theorem dX2_goOn_27 : decode cX2_goOn 27 = .ok (.goto (-25), 3) := dk_167 255 231 (dk_at dksX2_goOn_1 3 rfl rfl)
theorem dX2_goOn_30 : decode cX2_goOn 30 = .ok (.return_, 1) := dk_177 (dk_at dksX2_goOn_1 6 rfl rfl)
abbrev cX2_putBack : ByteArray := prog_19_method_99_code
def yX2_putBack : MethodName := ⟨RX2, "putBack", "()V"⟩
def dkwX2_putBack_1 : List UInt8 := [167, 255, 235, 177]
abbrev dktX2_putBack_1 : List UInt8 := dkwX2_putBack_1 ++ []
def dkwX2_putBack_0 : List UInt8 := [16, 8, 60, 27, 16, 68, 162, 0, 21, 42, 180, 0, 7, 27, 42, 180, 0, 43, 27, 46, 79, 132, 1, 1]
abbrev dktX2_putBack_0 : List UInt8 := dkwX2_putBack_0 ++ dktX2_putBack_1
theorem dksX2_putBack_0 : cX2_putBack.data.toList.drop 0 = dktX2_putBack_0 := by decide +kernel
theorem dksX2_putBack_1 : cX2_putBack.data.toList.drop 24 = dktX2_putBack_1 := dk_seg dksX2_putBack_0 24 rfl rfl
theorem dX2_putBack_0 : decode cX2_putBack 0 = .ok (.bipush 8, 2) := dk_16 8 (dk_at dksX2_putBack_0 0 rfl rfl)
theorem dX2_putBack_2 : decode cX2_putBack 2 = .ok (.istore_n 1, 1) := dk_60 (dk_at dksX2_putBack_0 2 rfl rfl)
theorem dX2_putBack_3 : decode cX2_putBack 3 = .ok (.iload_n 1, 1) := dk_27 (dk_at dksX2_putBack_0 3 rfl rfl)
theorem dX2_putBack_4 : decode cX2_putBack 4 = .ok (.bipush 68, 2) := dk_16 68 (dk_at dksX2_putBack_0 4 rfl rfl)
theorem dX2_putBack_6 : decode cX2_putBack 6 = .ok (.if_icmp .ge 21, 3) := dk_162 0 21 (dk_at dksX2_putBack_0 6 rfl rfl)
theorem dX2_putBack_9 : decode cX2_putBack 9 = .ok (.aload_n 0, 1) := dk_42 (dk_at dksX2_putBack_0 9 rfl rfl)
theorem dX2_putBack_10 : decode cX2_putBack 10 = .ok (.getfield 7, 3) := dk_180 0 7 (dk_at dksX2_putBack_0 10 rfl rfl)
theorem dX2_putBack_13 : decode cX2_putBack 13 = .ok (.iload_n 1, 1) := dk_27 (dk_at dksX2_putBack_0 13 rfl rfl)
theorem dX2_putBack_14 : decode cX2_putBack 14 = .ok (.aload_n 0, 1) := dk_42 (dk_at dksX2_putBack_0 14 rfl rfl)
theorem dX2_putBack_15 : decode cX2_putBack 15 = .ok (.getfield 43, 3) := dk_180 0 43 (dk_at dksX2_putBack_0 15 rfl rfl)
theorem dX2_putBack_18 : decode cX2_putBack 18 = .ok (.iload_n 1, 1) := dk_27 (dk_at dksX2_putBack_0 18 rfl rfl)
theorem dX2_putBack_19 : decode cX2_putBack 19 = .ok (.iaload, 1) := dk_46 (dk_at dksX2_putBack_0 19 rfl rfl)
theorem dX2_putBack_20 : decode cX2_putBack 20 = .ok (.iastore, 1) := dk_79 (dk_at dksX2_putBack_0 20 rfl rfl)
theorem dX2_putBack_21 : decode cX2_putBack 21 = .ok (.iinc 1 1, 3) := dk_132 1 1 (dk_at dksX2_putBack_0 21 rfl rfl)
theorem dX2_putBack_24 : decode cX2_putBack 24 = .ok (.goto (-21), 3) := dk_167 255 235 (dk_at dksX2_putBack_1 0 rfl rfl)
theorem dX2_putBack_27 : decode cX2_putBack 27 = .ok (.return_, 1) := dk_177 (dk_at dksX2_putBack_1 3 rfl rfl)
abbrev cX2_poorest : ByteArray := prog_19_method_102_code
def yX2_poorest : MethodName := ⟨RX2, "poorest", "(I)I"⟩
def dkwX2_poorest_3 : List UInt8 := [182, 1, 146, 28, 172]
abbrev dktX2_poorest_3 : List UInt8 := dkwX2_poorest_3 ++ []
def dkwX2_poorest_2 : List UInt8 := [42, 29, 4, 182, 0, 73, 42, 28, 4, 182, 0, 73, 162, 0, 5, 29, 61, 132, 3, 1, 167, 255, 213, 42]
abbrev dktX2_poorest_2 : List UInt8 := dkwX2_poorest_2 ++ dktX2_poorest_3
def dkwX2_poorest_1 : List UInt8 := [62, 29, 42, 180, 0, 7, 3, 46, 162, 0, 39, 42, 29, 182, 0, 77, 153, 0, 25, 28, 2, 159, 0, 18]
abbrev dktX2_poorest_1 : List UInt8 := dkwX2_poorest_1 ++ dktX2_poorest_2
def dkwX2_poorest_0 : List UInt8 := [27, 4, 16, 60, 184, 0, 65, 154, 0, 5, 2, 172, 42, 182, 1, 140, 42, 27, 182, 1, 143, 2, 61, 3]
abbrev dktX2_poorest_0 : List UInt8 := dkwX2_poorest_0 ++ dktX2_poorest_1
theorem dksX2_poorest_0 : cX2_poorest.data.toList.drop 0 = dktX2_poorest_0 := by decide +kernel
theorem dksX2_poorest_1 : cX2_poorest.data.toList.drop 24 = dktX2_poorest_1 := dk_seg dksX2_poorest_0 24 rfl rfl
theorem dksX2_poorest_2 : cX2_poorest.data.toList.drop 48 = dktX2_poorest_2 := dk_seg dksX2_poorest_1 24 rfl rfl
theorem dksX2_poorest_3 : cX2_poorest.data.toList.drop 72 = dktX2_poorest_3 := dk_seg dksX2_poorest_2 24 rfl rfl
theorem dX2_poorest_0 : decode cX2_poorest 0 = .ok (.iload_n 1, 1) := dk_27 (dk_at dksX2_poorest_0 0 rfl rfl)
theorem dX2_poorest_1 : decode cX2_poorest 1 = .ok (.iconst 1, 1) := dk_4 (dk_at dksX2_poorest_0 1 rfl rfl)
theorem dX2_poorest_2 : decode cX2_poorest 2 = .ok (.bipush 60, 2) := dk_16 60 (dk_at dksX2_poorest_0 2 rfl rfl)
theorem dX2_poorest_4 : decode cX2_poorest 4 = .ok (.invokestatic 65, 3) := dk_184 0 65 (dk_at dksX2_poorest_0 4 rfl rfl)
theorem dX2_poorest_7 : decode cX2_poorest 7 = .ok (.ifCond .ne 5, 3) := dk_154 0 5 (dk_at dksX2_poorest_0 7 rfl rfl)
theorem dX2_poorest_10 : decode cX2_poorest 10 = .ok (.iconst (-1), 1) := dk_2 (dk_at dksX2_poorest_0 10 rfl rfl)
theorem dX2_poorest_11 : decode cX2_poorest 11 = .ok (.ireturn, 1) := dk_172 (dk_at dksX2_poorest_0 11 rfl rfl)
theorem dX2_poorest_12 : decode cX2_poorest 12 = .ok (.aload_n 0, 1) := dk_42 (dk_at dksX2_poorest_0 12 rfl rfl)
theorem dX2_poorest_13 : decode cX2_poorest 13 = .ok (.invokevirtual 396, 3) := dk_182 1 140 (dk_at dksX2_poorest_0 13 rfl rfl)
theorem dX2_poorest_16 : decode cX2_poorest 16 = .ok (.aload_n 0, 1) := dk_42 (dk_at dksX2_poorest_0 16 rfl rfl)
theorem dX2_poorest_17 : decode cX2_poorest 17 = .ok (.iload_n 1, 1) := dk_27 (dk_at dksX2_poorest_0 17 rfl rfl)
theorem dX2_poorest_18 : decode cX2_poorest 18 = .ok (.invokevirtual 399, 3) := dk_182 1 143 (dk_at dksX2_poorest_0 18 rfl rfl)
theorem dX2_poorest_21 : decode cX2_poorest 21 = .ok (.iconst (-1), 1) := dk_2 (dk_at dksX2_poorest_0 21 rfl rfl)
theorem dX2_poorest_22 : decode cX2_poorest 22 = .ok (.istore_n 2, 1) := dk_61 (dk_at dksX2_poorest_0 22 rfl rfl)
theorem dX2_poorest_23 : decode cX2_poorest 23 = .ok (.iconst 0, 1) := dk_3 (dk_at dksX2_poorest_0 23 rfl rfl)
theorem dX2_poorest_24 : decode cX2_poorest 24 = .ok (.istore_n 3, 1) := dk_62 (dk_at dksX2_poorest_1 0 rfl rfl)
theorem dX2_poorest_25 : decode cX2_poorest 25 = .ok (.iload_n 3, 1) := dk_29 (dk_at dksX2_poorest_1 1 rfl rfl)
theorem dX2_poorest_26 : decode cX2_poorest 26 = .ok (.aload_n 0, 1) := dk_42 (dk_at dksX2_poorest_1 2 rfl rfl)
theorem dX2_poorest_27 : decode cX2_poorest 27 = .ok (.getfield 7, 3) := dk_180 0 7 (dk_at dksX2_poorest_1 3 rfl rfl)
theorem dX2_poorest_30 : decode cX2_poorest 30 = .ok (.iconst 0, 1) := dk_3 (dk_at dksX2_poorest_1 6 rfl rfl)
theorem dX2_poorest_31 : decode cX2_poorest 31 = .ok (.iaload, 1) := dk_46 (dk_at dksX2_poorest_1 7 rfl rfl)
theorem dX2_poorest_32 : decode cX2_poorest 32 = .ok (.if_icmp .ge 39, 3) := dk_162 0 39 (dk_at dksX2_poorest_1 8 rfl rfl)
theorem dX2_poorest_35 : decode cX2_poorest 35 = .ok (.aload_n 0, 1) := dk_42 (dk_at dksX2_poorest_1 11 rfl rfl)
theorem dX2_poorest_36 : decode cX2_poorest 36 = .ok (.iload_n 3, 1) := dk_29 (dk_at dksX2_poorest_1 12 rfl rfl)
theorem dX2_poorest_37 : decode cX2_poorest 37 = .ok (.invokevirtual 77, 3) := dk_182 0 77 (dk_at dksX2_poorest_1 13 rfl rfl)
theorem dX2_poorest_40 : decode cX2_poorest 40 = .ok (.ifCond .eq 25, 3) := dk_153 0 25 (dk_at dksX2_poorest_1 16 rfl rfl)
theorem dX2_poorest_43 : decode cX2_poorest 43 = .ok (.iload_n 2, 1) := dk_28 (dk_at dksX2_poorest_1 19 rfl rfl)
theorem dX2_poorest_44 : decode cX2_poorest 44 = .ok (.iconst (-1), 1) := dk_2 (dk_at dksX2_poorest_1 20 rfl rfl)
theorem dX2_poorest_45 : decode cX2_poorest 45 = .ok (.if_icmp .eq 18, 3) := dk_159 0 18 (dk_at dksX2_poorest_1 21 rfl rfl)
theorem dX2_poorest_48 : decode cX2_poorest 48 = .ok (.aload_n 0, 1) := dk_42 (dk_at dksX2_poorest_2 0 rfl rfl)
theorem dX2_poorest_49 : decode cX2_poorest 49 = .ok (.iload_n 3, 1) := dk_29 (dk_at dksX2_poorest_2 1 rfl rfl)
theorem dX2_poorest_50 : decode cX2_poorest 50 = .ok (.iconst 1, 1) := dk_4 (dk_at dksX2_poorest_2 2 rfl rfl)
theorem dX2_poorest_51 : decode cX2_poorest 51 = .ok (.invokevirtual 73, 3) := dk_182 0 73 (dk_at dksX2_poorest_2 3 rfl rfl)
theorem dX2_poorest_54 : decode cX2_poorest 54 = .ok (.aload_n 0, 1) := dk_42 (dk_at dksX2_poorest_2 6 rfl rfl)
theorem dX2_poorest_55 : decode cX2_poorest 55 = .ok (.iload_n 2, 1) := dk_28 (dk_at dksX2_poorest_2 7 rfl rfl)
theorem dX2_poorest_56 : decode cX2_poorest 56 = .ok (.iconst 1, 1) := dk_4 (dk_at dksX2_poorest_2 8 rfl rfl)
theorem dX2_poorest_57 : decode cX2_poorest 57 = .ok (.invokevirtual 73, 3) := dk_182 0 73 (dk_at dksX2_poorest_2 9 rfl rfl)
theorem dX2_poorest_60 : decode cX2_poorest 60 = .ok (.if_icmp .ge 5, 3) := dk_162 0 5 (dk_at dksX2_poorest_2 12 rfl rfl)
theorem dX2_poorest_63 : decode cX2_poorest 63 = .ok (.iload_n 3, 1) := dk_29 (dk_at dksX2_poorest_2 15 rfl rfl)
theorem dX2_poorest_64 : decode cX2_poorest 64 = .ok (.istore_n 2, 1) := dk_61 (dk_at dksX2_poorest_2 16 rfl rfl)
theorem dX2_poorest_65 : decode cX2_poorest 65 = .ok (.iinc 3 1, 3) := dk_132 3 1 (dk_at dksX2_poorest_2 17 rfl rfl)
theorem dX2_poorest_68 : decode cX2_poorest 68 = .ok (.goto (-43), 3) := dk_167 255 213 (dk_at dksX2_poorest_2 20 rfl rfl)
theorem dX2_poorest_71 : decode cX2_poorest 71 = .ok (.aload_n 0, 1) := dk_42 (dk_at dksX2_poorest_2 23 rfl rfl)
theorem dX2_poorest_72 : decode cX2_poorest 72 = .ok (.invokevirtual 402, 3) := dk_182 1 146 (dk_at dksX2_poorest_3 0 rfl rfl)
theorem dX2_poorest_75 : decode cX2_poorest 75 = .ok (.iload_n 2, 1) := dk_28 (dk_at dksX2_poorest_3 3 rfl rfl)
theorem dX2_poorest_76 : decode cX2_poorest 76 = .ok (.ireturn, 1) := dk_172 (dk_at dksX2_poorest_3 4 rfl rfl)
abbrev cX2_whose : ByteArray := prog_19_method_103_code
def yX2_whose : MethodName := ⟨RX2, "whose", "(I)I"⟩
def dkwX2_whose_5 : List UInt8 := [21, 6, 54, 4, 21, 5, 62, 132, 5, 1, 167, 255, 156, 42, 180, 0, 7, 5, 28, 79, 29, 172]
abbrev dktX2_whose_5 : List UInt8 := dkwX2_whose_5 ++ []
def dkwX2_whose_4 : List UInt8 := [3, 96, 54, 6, 132, 7, 1, 167, 255, 217, 42, 182, 1, 146, 21, 6, 21, 4, 163, 0, 6, 167, 0, 10]
abbrev dktX2_whose_4 : List UInt8 := dkwX2_whose_4 ++ dktX2_whose_5
def dkwX2_whose_3 : List UInt8 := [162, 0, 34, 21, 6, 42, 21, 7, 182, 0, 77, 153, 0, 13, 42, 21, 7, 4, 182, 0, 73, 167, 0, 4]
abbrev dktX2_whose_3 : List UInt8 := dkwX2_whose_3 ++ dktX2_whose_4
def dkwX2_whose_2 : List UInt8 := [182, 1, 140, 42, 27, 182, 1, 143, 3, 54, 6, 3, 54, 7, 21, 7, 42, 180, 0, 7, 3, 46]
abbrev dktX2_whose_2 : List UInt8 := dkwX2_whose_2 ++ dktX2_whose_3
def dkwX2_whose_1 : List UInt8 := [3, 54, 5, 21, 5, 42, 180, 0, 7, 4, 46, 162, 0, 95, 42, 180, 0, 7, 5, 21, 5, 79, 42]
abbrev dktX2_whose_1 : List UInt8 := dkwX2_whose_1 ++ dktX2_whose_2
def dkwX2_whose_0 : List UInt8 := [27, 4, 16, 60, 184, 0, 65, 154, 0, 5, 2, 172, 42, 180, 0, 7, 5, 46, 61, 2, 62, 2, 54, 4]
abbrev dktX2_whose_0 : List UInt8 := dkwX2_whose_0 ++ dktX2_whose_1
theorem dksX2_whose_0 : cX2_whose.data.toList.drop 0 = dktX2_whose_0 := by decide +kernel
theorem dksX2_whose_1 : cX2_whose.data.toList.drop 24 = dktX2_whose_1 := dk_seg dksX2_whose_0 24 rfl rfl
theorem dksX2_whose_2 : cX2_whose.data.toList.drop 47 = dktX2_whose_2 := dk_seg dksX2_whose_1 23 rfl rfl
theorem dksX2_whose_3 : cX2_whose.data.toList.drop 69 = dktX2_whose_3 := dk_seg dksX2_whose_2 22 rfl rfl
theorem dksX2_whose_4 : cX2_whose.data.toList.drop 93 = dktX2_whose_4 := dk_seg dksX2_whose_3 24 rfl rfl
theorem dksX2_whose_5 : cX2_whose.data.toList.drop 117 = dktX2_whose_5 := dk_seg dksX2_whose_4 24 rfl rfl
theorem dX2_whose_0 : decode cX2_whose 0 = .ok (.iload_n 1, 1) := dk_27 (dk_at dksX2_whose_0 0 rfl rfl)
theorem dX2_whose_1 : decode cX2_whose 1 = .ok (.iconst 1, 1) := dk_4 (dk_at dksX2_whose_0 1 rfl rfl)
theorem dX2_whose_2 : decode cX2_whose 2 = .ok (.bipush 60, 2) := dk_16 60 (dk_at dksX2_whose_0 2 rfl rfl)
theorem dX2_whose_4 : decode cX2_whose 4 = .ok (.invokestatic 65, 3) := dk_184 0 65 (dk_at dksX2_whose_0 4 rfl rfl)
theorem dX2_whose_7 : decode cX2_whose 7 = .ok (.ifCond .ne 5, 3) := dk_154 0 5 (dk_at dksX2_whose_0 7 rfl rfl)
theorem dX2_whose_10 : decode cX2_whose 10 = .ok (.iconst (-1), 1) := dk_2 (dk_at dksX2_whose_0 10 rfl rfl)
theorem dX2_whose_11 : decode cX2_whose 11 = .ok (.ireturn, 1) := dk_172 (dk_at dksX2_whose_0 11 rfl rfl)
theorem dX2_whose_12 : decode cX2_whose 12 = .ok (.aload_n 0, 1) := dk_42 (dk_at dksX2_whose_0 12 rfl rfl)
theorem dX2_whose_13 : decode cX2_whose 13 = .ok (.getfield 7, 3) := dk_180 0 7 (dk_at dksX2_whose_0 13 rfl rfl)
theorem dX2_whose_16 : decode cX2_whose 16 = .ok (.iconst 2, 1) := dk_5 (dk_at dksX2_whose_0 16 rfl rfl)
theorem dX2_whose_17 : decode cX2_whose 17 = .ok (.iaload, 1) := dk_46 (dk_at dksX2_whose_0 17 rfl rfl)
theorem dX2_whose_18 : decode cX2_whose 18 = .ok (.istore_n 2, 1) := dk_61 (dk_at dksX2_whose_0 18 rfl rfl)
theorem dX2_whose_19 : decode cX2_whose 19 = .ok (.iconst (-1), 1) := dk_2 (dk_at dksX2_whose_0 19 rfl rfl)
theorem dX2_whose_20 : decode cX2_whose 20 = .ok (.istore_n 3, 1) := dk_62 (dk_at dksX2_whose_0 20 rfl rfl)
theorem dX2_whose_21 : decode cX2_whose 21 = .ok (.iconst (-1), 1) := dk_2 (dk_at dksX2_whose_0 21 rfl rfl)
theorem dX2_whose_22 : decode cX2_whose 22 = .ok (.istore 4, 2) := dk_54 4 (dk_at dksX2_whose_0 22 rfl rfl)
theorem dX2_whose_24 : decode cX2_whose 24 = .ok (.iconst 0, 1) := dk_3 (dk_at dksX2_whose_1 0 rfl rfl)
theorem dX2_whose_25 : decode cX2_whose 25 = .ok (.istore 5, 2) := dk_54 5 (dk_at dksX2_whose_1 1 rfl rfl)
theorem dX2_whose_27 : decode cX2_whose 27 = .ok (.iload 5, 2) := dk_21 5 (dk_at dksX2_whose_1 3 rfl rfl)
theorem dX2_whose_29 : decode cX2_whose 29 = .ok (.aload_n 0, 1) := dk_42 (dk_at dksX2_whose_1 5 rfl rfl)
theorem dX2_whose_30 : decode cX2_whose 30 = .ok (.getfield 7, 3) := dk_180 0 7 (dk_at dksX2_whose_1 6 rfl rfl)
theorem dX2_whose_33 : decode cX2_whose 33 = .ok (.iconst 1, 1) := dk_4 (dk_at dksX2_whose_1 9 rfl rfl)
theorem dX2_whose_34 : decode cX2_whose 34 = .ok (.iaload, 1) := dk_46 (dk_at dksX2_whose_1 10 rfl rfl)
theorem dX2_whose_35 : decode cX2_whose 35 = .ok (.if_icmp .ge 95, 3) := dk_162 0 95 (dk_at dksX2_whose_1 11 rfl rfl)
theorem dX2_whose_38 : decode cX2_whose 38 = .ok (.aload_n 0, 1) := dk_42 (dk_at dksX2_whose_1 14 rfl rfl)
theorem dX2_whose_39 : decode cX2_whose 39 = .ok (.getfield 7, 3) := dk_180 0 7 (dk_at dksX2_whose_1 15 rfl rfl)
theorem dX2_whose_42 : decode cX2_whose 42 = .ok (.iconst 2, 1) := dk_5 (dk_at dksX2_whose_1 18 rfl rfl)
theorem dX2_whose_43 : decode cX2_whose 43 = .ok (.iload 5, 2) := dk_21 5 (dk_at dksX2_whose_1 19 rfl rfl)
theorem dX2_whose_45 : decode cX2_whose 45 = .ok (.iastore, 1) := dk_79 (dk_at dksX2_whose_1 21 rfl rfl)
theorem dX2_whose_46 : decode cX2_whose 46 = .ok (.aload_n 0, 1) := dk_42 (dk_at dksX2_whose_1 22 rfl rfl)
theorem dX2_whose_47 : decode cX2_whose 47 = .ok (.invokevirtual 396, 3) := dk_182 1 140 (dk_at dksX2_whose_2 0 rfl rfl)
theorem dX2_whose_50 : decode cX2_whose 50 = .ok (.aload_n 0, 1) := dk_42 (dk_at dksX2_whose_2 3 rfl rfl)
theorem dX2_whose_51 : decode cX2_whose 51 = .ok (.iload_n 1, 1) := dk_27 (dk_at dksX2_whose_2 4 rfl rfl)
theorem dX2_whose_52 : decode cX2_whose 52 = .ok (.invokevirtual 399, 3) := dk_182 1 143 (dk_at dksX2_whose_2 5 rfl rfl)
theorem dX2_whose_55 : decode cX2_whose 55 = .ok (.iconst 0, 1) := dk_3 (dk_at dksX2_whose_2 8 rfl rfl)
theorem dX2_whose_56 : decode cX2_whose 56 = .ok (.istore 6, 2) := dk_54 6 (dk_at dksX2_whose_2 9 rfl rfl)
theorem dX2_whose_58 : decode cX2_whose 58 = .ok (.iconst 0, 1) := dk_3 (dk_at dksX2_whose_2 11 rfl rfl)
theorem dX2_whose_59 : decode cX2_whose 59 = .ok (.istore 7, 2) := dk_54 7 (dk_at dksX2_whose_2 12 rfl rfl)
theorem dX2_whose_61 : decode cX2_whose 61 = .ok (.iload 7, 2) := dk_21 7 (dk_at dksX2_whose_2 14 rfl rfl)
theorem dX2_whose_63 : decode cX2_whose 63 = .ok (.aload_n 0, 1) := dk_42 (dk_at dksX2_whose_2 16 rfl rfl)
theorem dX2_whose_64 : decode cX2_whose 64 = .ok (.getfield 7, 3) := dk_180 0 7 (dk_at dksX2_whose_2 17 rfl rfl)
theorem dX2_whose_67 : decode cX2_whose 67 = .ok (.iconst 0, 1) := dk_3 (dk_at dksX2_whose_2 20 rfl rfl)
theorem dX2_whose_68 : decode cX2_whose 68 = .ok (.iaload, 1) := dk_46 (dk_at dksX2_whose_2 21 rfl rfl)
theorem dX2_whose_69 : decode cX2_whose 69 = .ok (.if_icmp .ge 34, 3) := dk_162 0 34 (dk_at dksX2_whose_3 0 rfl rfl)
theorem dX2_whose_72 : decode cX2_whose 72 = .ok (.iload 6, 2) := dk_21 6 (dk_at dksX2_whose_3 3 rfl rfl)
theorem dX2_whose_74 : decode cX2_whose 74 = .ok (.aload_n 0, 1) := dk_42 (dk_at dksX2_whose_3 5 rfl rfl)
theorem dX2_whose_75 : decode cX2_whose 75 = .ok (.iload 7, 2) := dk_21 7 (dk_at dksX2_whose_3 6 rfl rfl)
theorem dX2_whose_77 : decode cX2_whose 77 = .ok (.invokevirtual 77, 3) := dk_182 0 77 (dk_at dksX2_whose_3 8 rfl rfl)
theorem dX2_whose_80 : decode cX2_whose 80 = .ok (.ifCond .eq 13, 3) := dk_153 0 13 (dk_at dksX2_whose_3 11 rfl rfl)
theorem dX2_whose_83 : decode cX2_whose 83 = .ok (.aload_n 0, 1) := dk_42 (dk_at dksX2_whose_3 14 rfl rfl)
theorem dX2_whose_84 : decode cX2_whose 84 = .ok (.iload 7, 2) := dk_21 7 (dk_at dksX2_whose_3 15 rfl rfl)
theorem dX2_whose_86 : decode cX2_whose 86 = .ok (.iconst 1, 1) := dk_4 (dk_at dksX2_whose_3 17 rfl rfl)
theorem dX2_whose_87 : decode cX2_whose 87 = .ok (.invokevirtual 73, 3) := dk_182 0 73 (dk_at dksX2_whose_3 18 rfl rfl)
theorem dX2_whose_90 : decode cX2_whose 90 = .ok (.goto 4, 3) := dk_167 0 4 (dk_at dksX2_whose_3 21 rfl rfl)
theorem dX2_whose_93 : decode cX2_whose 93 = .ok (.iconst 0, 1) := dk_3 (dk_at dksX2_whose_4 0 rfl rfl)
theorem dX2_whose_94 : decode cX2_whose 94 = .ok (.iadd, 1) := dk_96 (dk_at dksX2_whose_4 1 rfl rfl)
theorem dX2_whose_95 : decode cX2_whose 95 = .ok (.istore 6, 2) := dk_54 6 (dk_at dksX2_whose_4 2 rfl rfl)
theorem dX2_whose_97 : decode cX2_whose 97 = .ok (.iinc 7 1, 3) := dk_132 7 1 (dk_at dksX2_whose_4 4 rfl rfl)
theorem dX2_whose_100 : decode cX2_whose 100 = .ok (.goto (-39), 3) := dk_167 255 217 (dk_at dksX2_whose_4 7 rfl rfl)
theorem dX2_whose_103 : decode cX2_whose 103 = .ok (.aload_n 0, 1) := dk_42 (dk_at dksX2_whose_4 10 rfl rfl)
theorem dX2_whose_104 : decode cX2_whose 104 = .ok (.invokevirtual 402, 3) := dk_182 1 146 (dk_at dksX2_whose_4 11 rfl rfl)
theorem dX2_whose_107 : decode cX2_whose 107 = .ok (.iload 6, 2) := dk_21 6 (dk_at dksX2_whose_4 14 rfl rfl)
theorem dX2_whose_109 : decode cX2_whose 109 = .ok (.iload 4, 2) := dk_21 4 (dk_at dksX2_whose_4 16 rfl rfl)
theorem dX2_whose_111 : decode cX2_whose 111 = .ok (.if_icmp .gt 6, 3) := dk_163 0 6 (dk_at dksX2_whose_4 18 rfl rfl)
theorem dX2_whose_114 : decode cX2_whose 114 = .ok (.goto 10, 3) := dk_167 0 10 (dk_at dksX2_whose_4 21 rfl rfl)
theorem dX2_whose_117 : decode cX2_whose 117 = .ok (.iload 6, 2) := dk_21 6 (dk_at dksX2_whose_5 0 rfl rfl)
theorem dX2_whose_119 : decode cX2_whose 119 = .ok (.istore 4, 2) := dk_54 4 (dk_at dksX2_whose_5 2 rfl rfl)
theorem dX2_whose_121 : decode cX2_whose 121 = .ok (.iload 5, 2) := dk_21 5 (dk_at dksX2_whose_5 4 rfl rfl)
theorem dX2_whose_123 : decode cX2_whose 123 = .ok (.istore_n 3, 1) := dk_62 (dk_at dksX2_whose_5 6 rfl rfl)
theorem dX2_whose_124 : decode cX2_whose 124 = .ok (.iinc 5 1, 3) := dk_132 5 1 (dk_at dksX2_whose_5 7 rfl rfl)
theorem dX2_whose_127 : decode cX2_whose 127 = .ok (.goto (-100), 3) := dk_167 255 156 (dk_at dksX2_whose_5 10 rfl rfl)
theorem dX2_whose_130 : decode cX2_whose 130 = .ok (.aload_n 0, 1) := dk_42 (dk_at dksX2_whose_5 13 rfl rfl)
theorem dX2_whose_131 : decode cX2_whose 131 = .ok (.getfield 7, 3) := dk_180 0 7 (dk_at dksX2_whose_5 14 rfl rfl)
theorem dX2_whose_134 : decode cX2_whose 134 = .ok (.iconst 2, 1) := dk_5 (dk_at dksX2_whose_5 17 rfl rfl)
theorem dX2_whose_135 : decode cX2_whose 135 = .ok (.iload_n 2, 1) := dk_28 (dk_at dksX2_whose_5 18 rfl rfl)
theorem dX2_whose_136 : decode cX2_whose 136 = .ok (.iastore, 1) := dk_79 (dk_at dksX2_whose_5 19 rfl rfl)
theorem dX2_whose_137 : decode cX2_whose 137 = .ok (.iload_n 3, 1) := dk_29 (dk_at dksX2_whose_5 20 rfl rfl)
theorem dX2_whose_138 : decode cX2_whose 138 = .ok (.ireturn, 1) := dk_172 (dk_at dksX2_whose_5 21 rfl rfl)
abbrev cX2_indoors : ByteArray := prog_19_method_105_code
def yX2_indoors : MethodName := ⟨RX2, "indoors", "(I)I"⟩
def dkwX2_indoors_2 : List UInt8 := [167, 255, 225, 2, 172]
abbrev dktX2_indoors_2 : List UInt8 := dkwX2_indoors_2 ++ []
def dkwX2_indoors_1 : List UInt8 := [180, 0, 7, 16, 8, 46, 28, 96, 16, 20, 112, 182, 1, 149, 27, 161, 0, 5, 28, 172, 132, 2, 1]
abbrev dktX2_indoors_1 : List UInt8 := dkwX2_indoors_1 ++ dktX2_indoors_2
def dkwX2_indoors_0 : List UInt8 := [27, 4, 16, 7, 184, 0, 65, 154, 0, 5, 2, 172, 3, 61, 28, 16, 60, 163, 0, 31, 42, 42]
abbrev dktX2_indoors_0 : List UInt8 := dkwX2_indoors_0 ++ dktX2_indoors_1
theorem dksX2_indoors_0 : cX2_indoors.data.toList.drop 0 = dktX2_indoors_0 := by decide +kernel
theorem dksX2_indoors_1 : cX2_indoors.data.toList.drop 22 = dktX2_indoors_1 := dk_seg dksX2_indoors_0 22 rfl rfl
theorem dksX2_indoors_2 : cX2_indoors.data.toList.drop 45 = dktX2_indoors_2 := dk_seg dksX2_indoors_1 23 rfl rfl
theorem dX2_indoors_0 : decode cX2_indoors 0 = .ok (.iload_n 1, 1) := dk_27 (dk_at dksX2_indoors_0 0 rfl rfl)
theorem dX2_indoors_1 : decode cX2_indoors 1 = .ok (.iconst 1, 1) := dk_4 (dk_at dksX2_indoors_0 1 rfl rfl)
theorem dX2_indoors_2 : decode cX2_indoors 2 = .ok (.bipush 7, 2) := dk_16 7 (dk_at dksX2_indoors_0 2 rfl rfl)
theorem dX2_indoors_4 : decode cX2_indoors 4 = .ok (.invokestatic 65, 3) := dk_184 0 65 (dk_at dksX2_indoors_0 4 rfl rfl)
theorem dX2_indoors_7 : decode cX2_indoors 7 = .ok (.ifCond .ne 5, 3) := dk_154 0 5 (dk_at dksX2_indoors_0 7 rfl rfl)
theorem dX2_indoors_10 : decode cX2_indoors 10 = .ok (.iconst (-1), 1) := dk_2 (dk_at dksX2_indoors_0 10 rfl rfl)
theorem dX2_indoors_11 : decode cX2_indoors 11 = .ok (.ireturn, 1) := dk_172 (dk_at dksX2_indoors_0 11 rfl rfl)
theorem dX2_indoors_12 : decode cX2_indoors 12 = .ok (.iconst 0, 1) := dk_3 (dk_at dksX2_indoors_0 12 rfl rfl)
theorem dX2_indoors_13 : decode cX2_indoors 13 = .ok (.istore_n 2, 1) := dk_61 (dk_at dksX2_indoors_0 13 rfl rfl)
theorem dX2_indoors_14 : decode cX2_indoors 14 = .ok (.iload_n 2, 1) := dk_28 (dk_at dksX2_indoors_0 14 rfl rfl)
theorem dX2_indoors_15 : decode cX2_indoors 15 = .ok (.bipush 60, 2) := dk_16 60 (dk_at dksX2_indoors_0 15 rfl rfl)
theorem dX2_indoors_17 : decode cX2_indoors 17 = .ok (.if_icmp .gt 31, 3) := dk_163 0 31 (dk_at dksX2_indoors_0 17 rfl rfl)
theorem dX2_indoors_20 : decode cX2_indoors 20 = .ok (.aload_n 0, 1) := dk_42 (dk_at dksX2_indoors_0 20 rfl rfl)
theorem dX2_indoors_21 : decode cX2_indoors 21 = .ok (.aload_n 0, 1) := dk_42 (dk_at dksX2_indoors_0 21 rfl rfl)
theorem dX2_indoors_22 : decode cX2_indoors 22 = .ok (.getfield 7, 3) := dk_180 0 7 (dk_at dksX2_indoors_1 0 rfl rfl)
theorem dX2_indoors_25 : decode cX2_indoors 25 = .ok (.bipush 8, 2) := dk_16 8 (dk_at dksX2_indoors_1 3 rfl rfl)
theorem dX2_indoors_27 : decode cX2_indoors 27 = .ok (.iaload, 1) := dk_46 (dk_at dksX2_indoors_1 5 rfl rfl)
theorem dX2_indoors_28 : decode cX2_indoors 28 = .ok (.iload_n 2, 1) := dk_28 (dk_at dksX2_indoors_1 6 rfl rfl)
theorem dX2_indoors_29 : decode cX2_indoors 29 = .ok (.iadd, 1) := dk_96 (dk_at dksX2_indoors_1 7 rfl rfl)
theorem dX2_indoors_30 : decode cX2_indoors 30 = .ok (.bipush 20, 2) := dk_16 20 (dk_at dksX2_indoors_1 8 rfl rfl)
theorem dX2_indoors_32 : decode cX2_indoors 32 = .ok (.irem, 1) := dk_112 (dk_at dksX2_indoors_1 10 rfl rfl)
theorem dX2_indoors_33 : decode cX2_indoors 33 = .ok (.invokevirtual 405, 3) := dk_182 1 149 (dk_at dksX2_indoors_1 11 rfl rfl)
theorem dX2_indoors_36 : decode cX2_indoors 36 = .ok (.iload_n 1, 1) := dk_27 (dk_at dksX2_indoors_1 14 rfl rfl)
theorem dX2_indoors_37 : decode cX2_indoors 37 = .ok (.if_icmp .lt 5, 3) := dk_161 0 5 (dk_at dksX2_indoors_1 15 rfl rfl)
theorem dX2_indoors_40 : decode cX2_indoors 40 = .ok (.iload_n 2, 1) := dk_28 (dk_at dksX2_indoors_1 18 rfl rfl)
theorem dX2_indoors_41 : decode cX2_indoors 41 = .ok (.ireturn, 1) := dk_172 (dk_at dksX2_indoors_1 19 rfl rfl)
theorem dX2_indoors_42 : decode cX2_indoors 42 = .ok (.iinc 2 1, 3) := dk_132 2 1 (dk_at dksX2_indoors_1 20 rfl rfl)
theorem dX2_indoors_45 : decode cX2_indoors 45 = .ok (.goto (-31), 3) := dk_167 255 225 (dk_at dksX2_indoors_2 0 rfl rfl)
theorem dX2_indoors_48 : decode cX2_indoors 48 = .ok (.iconst (-1), 1) := dk_2 (dk_at dksX2_indoors_2 3 rfl rfl)
theorem dX2_indoors_49 : decode cX2_indoors 49 = .ok (.ireturn, 1) := dk_172 (dk_at dksX2_indoors_2 4 rfl rfl)
abbrev cX2_shutOn : ByteArray := prog_19_method_104_code
def yX2_shutOn : MethodName := ⟨RX2, "shutOn", "(I)I"⟩
def dkwX2_shutOn_2 : List UInt8 := [167, 255, 214, 28, 172]
abbrev dktX2_shutOn_2 : List UInt8 := dkwX2_shutOn_2 ++ []
def dkwX2_shutOn_1 : List UInt8 := [29, 3, 182, 0, 73, 27, 184, 0, 80, 153, 0, 7, 4, 167, 0, 4, 3, 96, 61, 132, 3, 1]
abbrev dktX2_shutOn_1 : List UInt8 := dkwX2_shutOn_1 ++ dktX2_shutOn_2
def dkwX2_shutOn_0 : List UInt8 := [3, 61, 3, 62, 29, 42, 180, 0, 7, 3, 46, 162, 0, 38, 28, 42, 29, 182, 0, 77, 153, 0, 20, 42]
abbrev dktX2_shutOn_0 : List UInt8 := dkwX2_shutOn_0 ++ dktX2_shutOn_1
theorem dksX2_shutOn_0 : cX2_shutOn.data.toList.drop 0 = dktX2_shutOn_0 := by decide +kernel
theorem dksX2_shutOn_1 : cX2_shutOn.data.toList.drop 24 = dktX2_shutOn_1 := dk_seg dksX2_shutOn_0 24 rfl rfl
theorem dksX2_shutOn_2 : cX2_shutOn.data.toList.drop 46 = dktX2_shutOn_2 := dk_seg dksX2_shutOn_1 22 rfl rfl
theorem dX2_shutOn_0 : decode cX2_shutOn 0 = .ok (.iconst 0, 1) := dk_3 (dk_at dksX2_shutOn_0 0 rfl rfl)
theorem dX2_shutOn_1 : decode cX2_shutOn 1 = .ok (.istore_n 2, 1) := dk_61 (dk_at dksX2_shutOn_0 1 rfl rfl)
theorem dX2_shutOn_2 : decode cX2_shutOn 2 = .ok (.iconst 0, 1) := dk_3 (dk_at dksX2_shutOn_0 2 rfl rfl)
theorem dX2_shutOn_3 : decode cX2_shutOn 3 = .ok (.istore_n 3, 1) := dk_62 (dk_at dksX2_shutOn_0 3 rfl rfl)
theorem dX2_shutOn_4 : decode cX2_shutOn 4 = .ok (.iload_n 3, 1) := dk_29 (dk_at dksX2_shutOn_0 4 rfl rfl)
theorem dX2_shutOn_5 : decode cX2_shutOn 5 = .ok (.aload_n 0, 1) := dk_42 (dk_at dksX2_shutOn_0 5 rfl rfl)
theorem dX2_shutOn_6 : decode cX2_shutOn 6 = .ok (.getfield 7, 3) := dk_180 0 7 (dk_at dksX2_shutOn_0 6 rfl rfl)
theorem dX2_shutOn_9 : decode cX2_shutOn 9 = .ok (.iconst 0, 1) := dk_3 (dk_at dksX2_shutOn_0 9 rfl rfl)
theorem dX2_shutOn_10 : decode cX2_shutOn 10 = .ok (.iaload, 1) := dk_46 (dk_at dksX2_shutOn_0 10 rfl rfl)
theorem dX2_shutOn_11 : decode cX2_shutOn 11 = .ok (.if_icmp .ge 38, 3) := dk_162 0 38 (dk_at dksX2_shutOn_0 11 rfl rfl)
theorem dX2_shutOn_14 : decode cX2_shutOn 14 = .ok (.iload_n 2, 1) := dk_28 (dk_at dksX2_shutOn_0 14 rfl rfl)
theorem dX2_shutOn_15 : decode cX2_shutOn 15 = .ok (.aload_n 0, 1) := dk_42 (dk_at dksX2_shutOn_0 15 rfl rfl)
theorem dX2_shutOn_16 : decode cX2_shutOn 16 = .ok (.iload_n 3, 1) := dk_29 (dk_at dksX2_shutOn_0 16 rfl rfl)
theorem dX2_shutOn_17 : decode cX2_shutOn 17 = .ok (.invokevirtual 77, 3) := dk_182 0 77 (dk_at dksX2_shutOn_0 17 rfl rfl)
theorem dX2_shutOn_20 : decode cX2_shutOn 20 = .ok (.ifCond .eq 20, 3) := dk_153 0 20 (dk_at dksX2_shutOn_0 20 rfl rfl)
theorem dX2_shutOn_23 : decode cX2_shutOn 23 = .ok (.aload_n 0, 1) := dk_42 (dk_at dksX2_shutOn_0 23 rfl rfl)
theorem dX2_shutOn_24 : decode cX2_shutOn 24 = .ok (.iload_n 3, 1) := dk_29 (dk_at dksX2_shutOn_1 0 rfl rfl)
theorem dX2_shutOn_25 : decode cX2_shutOn 25 = .ok (.iconst 0, 1) := dk_3 (dk_at dksX2_shutOn_1 1 rfl rfl)
theorem dX2_shutOn_26 : decode cX2_shutOn 26 = .ok (.invokevirtual 73, 3) := dk_182 0 73 (dk_at dksX2_shutOn_1 2 rfl rfl)
theorem dX2_shutOn_29 : decode cX2_shutOn 29 = .ok (.iload_n 1, 1) := dk_27 (dk_at dksX2_shutOn_1 5 rfl rfl)
theorem dX2_shutOn_30 : decode cX2_shutOn 30 = .ok (.invokestatic 80, 3) := dk_184 0 80 (dk_at dksX2_shutOn_1 6 rfl rfl)
theorem dX2_shutOn_33 : decode cX2_shutOn 33 = .ok (.ifCond .eq 7, 3) := dk_153 0 7 (dk_at dksX2_shutOn_1 9 rfl rfl)
theorem dX2_shutOn_36 : decode cX2_shutOn 36 = .ok (.iconst 1, 1) := dk_4 (dk_at dksX2_shutOn_1 12 rfl rfl)
theorem dX2_shutOn_37 : decode cX2_shutOn 37 = .ok (.goto 4, 3) := dk_167 0 4 (dk_at dksX2_shutOn_1 13 rfl rfl)
theorem dX2_shutOn_40 : decode cX2_shutOn 40 = .ok (.iconst 0, 1) := dk_3 (dk_at dksX2_shutOn_1 16 rfl rfl)
theorem dX2_shutOn_41 : decode cX2_shutOn 41 = .ok (.iadd, 1) := dk_96 (dk_at dksX2_shutOn_1 17 rfl rfl)
theorem dX2_shutOn_42 : decode cX2_shutOn 42 = .ok (.istore_n 2, 1) := dk_61 (dk_at dksX2_shutOn_1 18 rfl rfl)
theorem dX2_shutOn_43 : decode cX2_shutOn 43 = .ok (.iinc 3 1, 3) := dk_132 3 1 (dk_at dksX2_shutOn_1 19 rfl rfl)
theorem dX2_shutOn_46 : decode cX2_shutOn 46 = .ok (.goto (-42), 3) := dk_167 255 214 (dk_at dksX2_shutOn_2 0 rfl rfl)
theorem dX2_shutOn_49 : decode cX2_shutOn 49 = .ok (.iload_n 2, 1) := dk_28 (dk_at dksX2_shutOn_2 3 rfl rfl)
theorem dX2_shutOn_50 : decode cX2_shutOn 50 = .ok (.ireturn, 1) := dk_172 (dk_at dksX2_shutOn_2 4 rfl rfl)
abbrev cX2_crowded : ByteArray := prog_19_method_106_code
def yX2_crowded : MethodName := ⟨RX2, "crowded", "(Z)I"⟩
def dkwX2_crowded_1 : List UInt8 := [61, 132, 3, 1, 167, 255, 232, 27, 153, 0, 11, 42, 28, 182, 1, 149, 167, 0, 4, 28, 172]
abbrev dktX2_crowded_1 : List UInt8 := dkwX2_crowded_1 ++ []
def dkwX2_crowded_0 : List UInt8 := [3, 61, 4, 62, 29, 16, 20, 162, 0, 24, 42, 29, 182, 1, 149, 42, 28, 182, 1, 149, 164, 0, 5, 29]
abbrev dktX2_crowded_0 : List UInt8 := dkwX2_crowded_0 ++ dktX2_crowded_1
theorem dksX2_crowded_0 : cX2_crowded.data.toList.drop 0 = dktX2_crowded_0 := by decide +kernel
theorem dksX2_crowded_1 : cX2_crowded.data.toList.drop 24 = dktX2_crowded_1 := dk_seg dksX2_crowded_0 24 rfl rfl
theorem dX2_crowded_0 : decode cX2_crowded 0 = .ok (.iconst 0, 1) := dk_3 (dk_at dksX2_crowded_0 0 rfl rfl)
theorem dX2_crowded_1 : decode cX2_crowded 1 = .ok (.istore_n 2, 1) := dk_61 (dk_at dksX2_crowded_0 1 rfl rfl)
theorem dX2_crowded_2 : decode cX2_crowded 2 = .ok (.iconst 1, 1) := dk_4 (dk_at dksX2_crowded_0 2 rfl rfl)
theorem dX2_crowded_3 : decode cX2_crowded 3 = .ok (.istore_n 3, 1) := dk_62 (dk_at dksX2_crowded_0 3 rfl rfl)
theorem dX2_crowded_4 : decode cX2_crowded 4 = .ok (.iload_n 3, 1) := dk_29 (dk_at dksX2_crowded_0 4 rfl rfl)
theorem dX2_crowded_5 : decode cX2_crowded 5 = .ok (.bipush 20, 2) := dk_16 20 (dk_at dksX2_crowded_0 5 rfl rfl)
theorem dX2_crowded_7 : decode cX2_crowded 7 = .ok (.if_icmp .ge 24, 3) := dk_162 0 24 (dk_at dksX2_crowded_0 7 rfl rfl)
theorem dX2_crowded_10 : decode cX2_crowded 10 = .ok (.aload_n 0, 1) := dk_42 (dk_at dksX2_crowded_0 10 rfl rfl)
theorem dX2_crowded_11 : decode cX2_crowded 11 = .ok (.iload_n 3, 1) := dk_29 (dk_at dksX2_crowded_0 11 rfl rfl)
theorem dX2_crowded_12 : decode cX2_crowded 12 = .ok (.invokevirtual 405, 3) := dk_182 1 149 (dk_at dksX2_crowded_0 12 rfl rfl)
theorem dX2_crowded_15 : decode cX2_crowded 15 = .ok (.aload_n 0, 1) := dk_42 (dk_at dksX2_crowded_0 15 rfl rfl)
theorem dX2_crowded_16 : decode cX2_crowded 16 = .ok (.iload_n 2, 1) := dk_28 (dk_at dksX2_crowded_0 16 rfl rfl)
theorem dX2_crowded_17 : decode cX2_crowded 17 = .ok (.invokevirtual 405, 3) := dk_182 1 149 (dk_at dksX2_crowded_0 17 rfl rfl)
theorem dX2_crowded_20 : decode cX2_crowded 20 = .ok (.if_icmp .le 5, 3) := dk_164 0 5 (dk_at dksX2_crowded_0 20 rfl rfl)
theorem dX2_crowded_23 : decode cX2_crowded 23 = .ok (.iload_n 3, 1) := dk_29 (dk_at dksX2_crowded_0 23 rfl rfl)
theorem dX2_crowded_24 : decode cX2_crowded 24 = .ok (.istore_n 2, 1) := dk_61 (dk_at dksX2_crowded_1 0 rfl rfl)
theorem dX2_crowded_25 : decode cX2_crowded 25 = .ok (.iinc 3 1, 3) := dk_132 3 1 (dk_at dksX2_crowded_1 1 rfl rfl)
theorem dX2_crowded_28 : decode cX2_crowded 28 = .ok (.goto (-24), 3) := dk_167 255 232 (dk_at dksX2_crowded_1 4 rfl rfl)
theorem dX2_crowded_31 : decode cX2_crowded 31 = .ok (.iload_n 1, 1) := dk_27 (dk_at dksX2_crowded_1 7 rfl rfl)
theorem dX2_crowded_32 : decode cX2_crowded 32 = .ok (.ifCond .eq 11, 3) := dk_153 0 11 (dk_at dksX2_crowded_1 8 rfl rfl)
theorem dX2_crowded_35 : decode cX2_crowded 35 = .ok (.aload_n 0, 1) := dk_42 (dk_at dksX2_crowded_1 11 rfl rfl)
theorem dX2_crowded_36 : decode cX2_crowded 36 = .ok (.iload_n 2, 1) := dk_28 (dk_at dksX2_crowded_1 12 rfl rfl)
theorem dX2_crowded_37 : decode cX2_crowded 37 = .ok (.invokevirtual 405, 3) := dk_182 1 149 (dk_at dksX2_crowded_1 13 rfl rfl)
theorem dX2_crowded_40 : decode cX2_crowded 40 = .ok (.goto 4, 3) := dk_167 0 4 (dk_at dksX2_crowded_1 16 rfl rfl)
theorem dX2_crowded_43 : decode cX2_crowded 43 = .ok (.iload_n 2, 1) := dk_28 (dk_at dksX2_crowded_1 19 rfl rfl)
theorem dX2_crowded_44 : decode cX2_crowded 44 = .ok (.ireturn, 1) := dk_172 (dk_at dksX2_crowded_1 20 rfl rfl)
abbrev cX2_feast : ByteArray := prog_19_method_108_code
def yX2_feast : MethodName := ⟨RX2, "feast", "(Z)I"⟩
def dkwX2_feast_1 : List UInt8 := [61, 132, 3, 1, 167, 255, 232, 27, 153, 0, 11, 42, 28, 182, 1, 152, 167, 0, 4, 28, 172]
abbrev dktX2_feast_1 : List UInt8 := dkwX2_feast_1 ++ []
def dkwX2_feast_0 : List UInt8 := [3, 61, 4, 62, 29, 16, 20, 162, 0, 24, 42, 29, 182, 1, 152, 42, 28, 182, 1, 152, 164, 0, 5, 29]
abbrev dktX2_feast_0 : List UInt8 := dkwX2_feast_0 ++ dktX2_feast_1
theorem dksX2_feast_0 : cX2_feast.data.toList.drop 0 = dktX2_feast_0 := by decide +kernel
theorem dksX2_feast_1 : cX2_feast.data.toList.drop 24 = dktX2_feast_1 := dk_seg dksX2_feast_0 24 rfl rfl
theorem dX2_feast_0 : decode cX2_feast 0 = .ok (.iconst 0, 1) := dk_3 (dk_at dksX2_feast_0 0 rfl rfl)
theorem dX2_feast_1 : decode cX2_feast 1 = .ok (.istore_n 2, 1) := dk_61 (dk_at dksX2_feast_0 1 rfl rfl)
theorem dX2_feast_2 : decode cX2_feast 2 = .ok (.iconst 1, 1) := dk_4 (dk_at dksX2_feast_0 2 rfl rfl)
theorem dX2_feast_3 : decode cX2_feast 3 = .ok (.istore_n 3, 1) := dk_62 (dk_at dksX2_feast_0 3 rfl rfl)
theorem dX2_feast_4 : decode cX2_feast 4 = .ok (.iload_n 3, 1) := dk_29 (dk_at dksX2_feast_0 4 rfl rfl)
theorem dX2_feast_5 : decode cX2_feast 5 = .ok (.bipush 20, 2) := dk_16 20 (dk_at dksX2_feast_0 5 rfl rfl)
theorem dX2_feast_7 : decode cX2_feast 7 = .ok (.if_icmp .ge 24, 3) := dk_162 0 24 (dk_at dksX2_feast_0 7 rfl rfl)
theorem dX2_feast_10 : decode cX2_feast 10 = .ok (.aload_n 0, 1) := dk_42 (dk_at dksX2_feast_0 10 rfl rfl)
theorem dX2_feast_11 : decode cX2_feast 11 = .ok (.iload_n 3, 1) := dk_29 (dk_at dksX2_feast_0 11 rfl rfl)
theorem dX2_feast_12 : decode cX2_feast 12 = .ok (.invokevirtual 408, 3) := dk_182 1 152 (dk_at dksX2_feast_0 12 rfl rfl)
theorem dX2_feast_15 : decode cX2_feast 15 = .ok (.aload_n 0, 1) := dk_42 (dk_at dksX2_feast_0 15 rfl rfl)
theorem dX2_feast_16 : decode cX2_feast 16 = .ok (.iload_n 2, 1) := dk_28 (dk_at dksX2_feast_0 16 rfl rfl)
theorem dX2_feast_17 : decode cX2_feast 17 = .ok (.invokevirtual 408, 3) := dk_182 1 152 (dk_at dksX2_feast_0 17 rfl rfl)
theorem dX2_feast_20 : decode cX2_feast 20 = .ok (.if_icmp .le 5, 3) := dk_164 0 5 (dk_at dksX2_feast_0 20 rfl rfl)
theorem dX2_feast_23 : decode cX2_feast 23 = .ok (.iload_n 3, 1) := dk_29 (dk_at dksX2_feast_0 23 rfl rfl)
theorem dX2_feast_24 : decode cX2_feast 24 = .ok (.istore_n 2, 1) := dk_61 (dk_at dksX2_feast_1 0 rfl rfl)
theorem dX2_feast_25 : decode cX2_feast 25 = .ok (.iinc 3 1, 3) := dk_132 3 1 (dk_at dksX2_feast_1 1 rfl rfl)
theorem dX2_feast_28 : decode cX2_feast 28 = .ok (.goto (-24), 3) := dk_167 255 232 (dk_at dksX2_feast_1 4 rfl rfl)
theorem dX2_feast_31 : decode cX2_feast 31 = .ok (.iload_n 1, 1) := dk_27 (dk_at dksX2_feast_1 7 rfl rfl)
theorem dX2_feast_32 : decode cX2_feast 32 = .ok (.ifCond .eq 11, 3) := dk_153 0 11 (dk_at dksX2_feast_1 8 rfl rfl)
theorem dX2_feast_35 : decode cX2_feast 35 = .ok (.aload_n 0, 1) := dk_42 (dk_at dksX2_feast_1 11 rfl rfl)
theorem dX2_feast_36 : decode cX2_feast 36 = .ok (.iload_n 2, 1) := dk_28 (dk_at dksX2_feast_1 12 rfl rfl)
theorem dX2_feast_37 : decode cX2_feast 37 = .ok (.invokevirtual 408, 3) := dk_182 1 152 (dk_at dksX2_feast_1 13 rfl rfl)
theorem dX2_feast_40 : decode cX2_feast 40 = .ok (.goto 4, 3) := dk_167 0 4 (dk_at dksX2_feast_1 16 rfl rfl)
theorem dX2_feast_43 : decode cX2_feast 43 = .ok (.iload_n 2, 1) := dk_28 (dk_at dksX2_feast_1 19 rfl rfl)
theorem dX2_feast_44 : decode cX2_feast 44 = .ok (.ireturn, 1) := dk_172 (dk_at dksX2_feast_1 20 rfl rfl)
abbrev cX2_friendsOn : ByteArray := prog_19_method_107_code
def yX2_friendsOn : MethodName := ⟨RX2, "friendsOn", "(I)I"⟩
def dkwX2_friendsOn_1 : List UInt8 := [42, 29, 5, 182, 0, 73, 167, 0, 4, 3, 96, 61, 132, 3, 1, 167, 255, 221, 28, 172]
abbrev dktX2_friendsOn_1 : List UInt8 := dkwX2_friendsOn_1 ++ []
def dkwX2_friendsOn_0 : List UInt8 := [3, 61, 3, 62, 29, 42, 180, 0, 7, 3, 46, 162, 0, 31, 28, 42, 29, 27, 182, 1, 46, 153, 0, 12]
abbrev dktX2_friendsOn_0 : List UInt8 := dkwX2_friendsOn_0 ++ dktX2_friendsOn_1
theorem dksX2_friendsOn_0 : cX2_friendsOn.data.toList.drop 0 = dktX2_friendsOn_0 := by decide +kernel
theorem dksX2_friendsOn_1 : cX2_friendsOn.data.toList.drop 24 = dktX2_friendsOn_1 := dk_seg dksX2_friendsOn_0 24 rfl rfl
theorem dX2_friendsOn_0 : decode cX2_friendsOn 0 = .ok (.iconst 0, 1) := dk_3 (dk_at dksX2_friendsOn_0 0 rfl rfl)
theorem dX2_friendsOn_1 : decode cX2_friendsOn 1 = .ok (.istore_n 2, 1) := dk_61 (dk_at dksX2_friendsOn_0 1 rfl rfl)
theorem dX2_friendsOn_2 : decode cX2_friendsOn 2 = .ok (.iconst 0, 1) := dk_3 (dk_at dksX2_friendsOn_0 2 rfl rfl)
theorem dX2_friendsOn_3 : decode cX2_friendsOn 3 = .ok (.istore_n 3, 1) := dk_62 (dk_at dksX2_friendsOn_0 3 rfl rfl)
theorem dX2_friendsOn_4 : decode cX2_friendsOn 4 = .ok (.iload_n 3, 1) := dk_29 (dk_at dksX2_friendsOn_0 4 rfl rfl)
theorem dX2_friendsOn_5 : decode cX2_friendsOn 5 = .ok (.aload_n 0, 1) := dk_42 (dk_at dksX2_friendsOn_0 5 rfl rfl)
theorem dX2_friendsOn_6 : decode cX2_friendsOn 6 = .ok (.getfield 7, 3) := dk_180 0 7 (dk_at dksX2_friendsOn_0 6 rfl rfl)
theorem dX2_friendsOn_9 : decode cX2_friendsOn 9 = .ok (.iconst 0, 1) := dk_3 (dk_at dksX2_friendsOn_0 9 rfl rfl)
theorem dX2_friendsOn_10 : decode cX2_friendsOn 10 = .ok (.iaload, 1) := dk_46 (dk_at dksX2_friendsOn_0 10 rfl rfl)
theorem dX2_friendsOn_11 : decode cX2_friendsOn 11 = .ok (.if_icmp .ge 31, 3) := dk_162 0 31 (dk_at dksX2_friendsOn_0 11 rfl rfl)
theorem dX2_friendsOn_14 : decode cX2_friendsOn 14 = .ok (.iload_n 2, 1) := dk_28 (dk_at dksX2_friendsOn_0 14 rfl rfl)
theorem dX2_friendsOn_15 : decode cX2_friendsOn 15 = .ok (.aload_n 0, 1) := dk_42 (dk_at dksX2_friendsOn_0 15 rfl rfl)
theorem dX2_friendsOn_16 : decode cX2_friendsOn 16 = .ok (.iload_n 3, 1) := dk_29 (dk_at dksX2_friendsOn_0 16 rfl rfl)
theorem dX2_friendsOn_17 : decode cX2_friendsOn 17 = .ok (.iload_n 1, 1) := dk_27 (dk_at dksX2_friendsOn_0 17 rfl rfl)
theorem dX2_friendsOn_18 : decode cX2_friendsOn 18 = .ok (.invokevirtual 302, 3) := dk_182 1 46 (dk_at dksX2_friendsOn_0 18 rfl rfl)
theorem dX2_friendsOn_21 : decode cX2_friendsOn 21 = .ok (.ifCond .eq 12, 3) := dk_153 0 12 (dk_at dksX2_friendsOn_0 21 rfl rfl)
theorem dX2_friendsOn_24 : decode cX2_friendsOn 24 = .ok (.aload_n 0, 1) := dk_42 (dk_at dksX2_friendsOn_1 0 rfl rfl)
theorem dX2_friendsOn_25 : decode cX2_friendsOn 25 = .ok (.iload_n 3, 1) := dk_29 (dk_at dksX2_friendsOn_1 1 rfl rfl)
theorem dX2_friendsOn_26 : decode cX2_friendsOn 26 = .ok (.iconst 2, 1) := dk_5 (dk_at dksX2_friendsOn_1 2 rfl rfl)
theorem dX2_friendsOn_27 : decode cX2_friendsOn 27 = .ok (.invokevirtual 73, 3) := dk_182 0 73 (dk_at dksX2_friendsOn_1 3 rfl rfl)
theorem dX2_friendsOn_30 : decode cX2_friendsOn 30 = .ok (.goto 4, 3) := dk_167 0 4 (dk_at dksX2_friendsOn_1 6 rfl rfl)
theorem dX2_friendsOn_33 : decode cX2_friendsOn 33 = .ok (.iconst 0, 1) := dk_3 (dk_at dksX2_friendsOn_1 9 rfl rfl)
theorem dX2_friendsOn_34 : decode cX2_friendsOn 34 = .ok (.iadd, 1) := dk_96 (dk_at dksX2_friendsOn_1 10 rfl rfl)
theorem dX2_friendsOn_35 : decode cX2_friendsOn 35 = .ok (.istore_n 2, 1) := dk_61 (dk_at dksX2_friendsOn_1 11 rfl rfl)
theorem dX2_friendsOn_36 : decode cX2_friendsOn 36 = .ok (.iinc 3 1, 3) := dk_132 3 1 (dk_at dksX2_friendsOn_1 12 rfl rfl)
theorem dX2_friendsOn_39 : decode cX2_friendsOn 39 = .ok (.goto (-35), 3) := dk_167 255 221 (dk_at dksX2_friendsOn_1 15 rfl rfl)
theorem dX2_friendsOn_42 : decode cX2_friendsOn 42 = .ok (.iload_n 2, 1) := dk_28 (dk_at dksX2_friendsOn_1 18 rfl rfl)
theorem dX2_friendsOn_43 : decode cX2_friendsOn 43 = .ok (.ireturn, 1) := dk_172 (dk_at dksX2_friendsOn_1 19 rfl rfl)
abbrev cX2_alone : ByteArray := prog_19_method_109_code
def yX2_alone : MethodName := ⟨RX2, "alone", "()I"⟩
def dkwX2_alone_4 : List UInt8 := [60, 132, 2, 1, 167, 255, 161, 27, 172]
abbrev dktX2_alone_4 : List UInt8 := dkwX2_alone_4 ++ []
def dkwX2_alone_3 : List UInt8 := [167, 0, 4, 3, 62, 132, 4, 1, 167, 255, 200, 27, 29, 153, 0, 9, 4, 28, 120, 167, 0, 4, 3, 128]
abbrev dktX2_alone_3 : List UInt8 := dkwX2_alone_3 ++ dktX2_alone_4
def dkwX2_alone_2 : List UInt8 := [182, 0, 77, 153, 0, 20, 42, 28, 3, 182, 0, 73, 42, 21, 4, 3, 182, 0, 73, 126, 154, 0, 7, 4]
abbrev dktX2_alone_2 : List UInt8 := dkwX2_alone_2 ++ dktX2_alone_3
def dkwX2_alone_1 : List UInt8 := [21, 4, 42, 180, 0, 7, 3, 46, 162, 0, 51, 29, 153, 0, 39, 21, 4, 28, 159, 0, 29, 42, 21, 4]
abbrev dktX2_alone_1 : List UInt8 := dkwX2_alone_1 ++ dktX2_alone_2
def dkwX2_alone_0 : List UInt8 := [3, 60, 3, 61, 28, 42, 180, 0, 7, 3, 46, 162, 0, 91, 42, 28, 182, 0, 77, 62, 3, 54, 4]
abbrev dktX2_alone_0 : List UInt8 := dkwX2_alone_0 ++ dktX2_alone_1
theorem dksX2_alone_0 : cX2_alone.data.toList.drop 0 = dktX2_alone_0 := by decide +kernel
theorem dksX2_alone_1 : cX2_alone.data.toList.drop 23 = dktX2_alone_1 := dk_seg dksX2_alone_0 23 rfl rfl
theorem dksX2_alone_2 : cX2_alone.data.toList.drop 47 = dktX2_alone_2 := dk_seg dksX2_alone_1 24 rfl rfl
theorem dksX2_alone_3 : cX2_alone.data.toList.drop 71 = dktX2_alone_3 := dk_seg dksX2_alone_2 24 rfl rfl
theorem dksX2_alone_4 : cX2_alone.data.toList.drop 95 = dktX2_alone_4 := dk_seg dksX2_alone_3 24 rfl rfl
theorem dX2_alone_0 : decode cX2_alone 0 = .ok (.iconst 0, 1) := dk_3 (dk_at dksX2_alone_0 0 rfl rfl)
theorem dX2_alone_1 : decode cX2_alone 1 = .ok (.istore_n 1, 1) := dk_60 (dk_at dksX2_alone_0 1 rfl rfl)
theorem dX2_alone_2 : decode cX2_alone 2 = .ok (.iconst 0, 1) := dk_3 (dk_at dksX2_alone_0 2 rfl rfl)
theorem dX2_alone_3 : decode cX2_alone 3 = .ok (.istore_n 2, 1) := dk_61 (dk_at dksX2_alone_0 3 rfl rfl)
theorem dX2_alone_4 : decode cX2_alone 4 = .ok (.iload_n 2, 1) := dk_28 (dk_at dksX2_alone_0 4 rfl rfl)
theorem dX2_alone_5 : decode cX2_alone 5 = .ok (.aload_n 0, 1) := dk_42 (dk_at dksX2_alone_0 5 rfl rfl)
theorem dX2_alone_6 : decode cX2_alone 6 = .ok (.getfield 7, 3) := dk_180 0 7 (dk_at dksX2_alone_0 6 rfl rfl)
theorem dX2_alone_9 : decode cX2_alone 9 = .ok (.iconst 0, 1) := dk_3 (dk_at dksX2_alone_0 9 rfl rfl)
theorem dX2_alone_10 : decode cX2_alone 10 = .ok (.iaload, 1) := dk_46 (dk_at dksX2_alone_0 10 rfl rfl)
theorem dX2_alone_11 : decode cX2_alone 11 = .ok (.if_icmp .ge 91, 3) := dk_162 0 91 (dk_at dksX2_alone_0 11 rfl rfl)
theorem dX2_alone_14 : decode cX2_alone 14 = .ok (.aload_n 0, 1) := dk_42 (dk_at dksX2_alone_0 14 rfl rfl)
theorem dX2_alone_15 : decode cX2_alone 15 = .ok (.iload_n 2, 1) := dk_28 (dk_at dksX2_alone_0 15 rfl rfl)
theorem dX2_alone_16 : decode cX2_alone 16 = .ok (.invokevirtual 77, 3) := dk_182 0 77 (dk_at dksX2_alone_0 16 rfl rfl)
theorem dX2_alone_19 : decode cX2_alone 19 = .ok (.istore_n 3, 1) := dk_62 (dk_at dksX2_alone_0 19 rfl rfl)
theorem dX2_alone_20 : decode cX2_alone 20 = .ok (.iconst 0, 1) := dk_3 (dk_at dksX2_alone_0 20 rfl rfl)
theorem dX2_alone_21 : decode cX2_alone 21 = .ok (.istore 4, 2) := dk_54 4 (dk_at dksX2_alone_0 21 rfl rfl)
theorem dX2_alone_23 : decode cX2_alone 23 = .ok (.iload 4, 2) := dk_21 4 (dk_at dksX2_alone_1 0 rfl rfl)
theorem dX2_alone_25 : decode cX2_alone 25 = .ok (.aload_n 0, 1) := dk_42 (dk_at dksX2_alone_1 2 rfl rfl)
theorem dX2_alone_26 : decode cX2_alone 26 = .ok (.getfield 7, 3) := dk_180 0 7 (dk_at dksX2_alone_1 3 rfl rfl)
theorem dX2_alone_29 : decode cX2_alone 29 = .ok (.iconst 0, 1) := dk_3 (dk_at dksX2_alone_1 6 rfl rfl)
theorem dX2_alone_30 : decode cX2_alone 30 = .ok (.iaload, 1) := dk_46 (dk_at dksX2_alone_1 7 rfl rfl)
theorem dX2_alone_31 : decode cX2_alone 31 = .ok (.if_icmp .ge 51, 3) := dk_162 0 51 (dk_at dksX2_alone_1 8 rfl rfl)
theorem dX2_alone_34 : decode cX2_alone 34 = .ok (.iload_n 3, 1) := dk_29 (dk_at dksX2_alone_1 11 rfl rfl)
theorem dX2_alone_35 : decode cX2_alone 35 = .ok (.ifCond .eq 39, 3) := dk_153 0 39 (dk_at dksX2_alone_1 12 rfl rfl)
theorem dX2_alone_38 : decode cX2_alone 38 = .ok (.iload 4, 2) := dk_21 4 (dk_at dksX2_alone_1 15 rfl rfl)
theorem dX2_alone_40 : decode cX2_alone 40 = .ok (.iload_n 2, 1) := dk_28 (dk_at dksX2_alone_1 17 rfl rfl)
theorem dX2_alone_41 : decode cX2_alone 41 = .ok (.if_icmp .eq 29, 3) := dk_159 0 29 (dk_at dksX2_alone_1 18 rfl rfl)
theorem dX2_alone_44 : decode cX2_alone 44 = .ok (.aload_n 0, 1) := dk_42 (dk_at dksX2_alone_1 21 rfl rfl)
theorem dX2_alone_45 : decode cX2_alone 45 = .ok (.iload 4, 2) := dk_21 4 (dk_at dksX2_alone_1 22 rfl rfl)
theorem dX2_alone_47 : decode cX2_alone 47 = .ok (.invokevirtual 77, 3) := dk_182 0 77 (dk_at dksX2_alone_2 0 rfl rfl)
theorem dX2_alone_50 : decode cX2_alone 50 = .ok (.ifCond .eq 20, 3) := dk_153 0 20 (dk_at dksX2_alone_2 3 rfl rfl)
theorem dX2_alone_53 : decode cX2_alone 53 = .ok (.aload_n 0, 1) := dk_42 (dk_at dksX2_alone_2 6 rfl rfl)
theorem dX2_alone_54 : decode cX2_alone 54 = .ok (.iload_n 2, 1) := dk_28 (dk_at dksX2_alone_2 7 rfl rfl)
theorem dX2_alone_55 : decode cX2_alone 55 = .ok (.iconst 0, 1) := dk_3 (dk_at dksX2_alone_2 8 rfl rfl)
theorem dX2_alone_56 : decode cX2_alone 56 = .ok (.invokevirtual 73, 3) := dk_182 0 73 (dk_at dksX2_alone_2 9 rfl rfl)
theorem dX2_alone_59 : decode cX2_alone 59 = .ok (.aload_n 0, 1) := dk_42 (dk_at dksX2_alone_2 12 rfl rfl)
theorem dX2_alone_60 : decode cX2_alone 60 = .ok (.iload 4, 2) := dk_21 4 (dk_at dksX2_alone_2 13 rfl rfl)
theorem dX2_alone_62 : decode cX2_alone 62 = .ok (.iconst 0, 1) := dk_3 (dk_at dksX2_alone_2 15 rfl rfl)
theorem dX2_alone_63 : decode cX2_alone 63 = .ok (.invokevirtual 73, 3) := dk_182 0 73 (dk_at dksX2_alone_2 16 rfl rfl)
theorem dX2_alone_66 : decode cX2_alone 66 = .ok (.iand, 1) := dk_126 (dk_at dksX2_alone_2 19 rfl rfl)
theorem dX2_alone_67 : decode cX2_alone 67 = .ok (.ifCond .ne 7, 3) := dk_154 0 7 (dk_at dksX2_alone_2 20 rfl rfl)
theorem dX2_alone_70 : decode cX2_alone 70 = .ok (.iconst 1, 1) := dk_4 (dk_at dksX2_alone_2 23 rfl rfl)
theorem dX2_alone_71 : decode cX2_alone 71 = .ok (.goto 4, 3) := dk_167 0 4 (dk_at dksX2_alone_3 0 rfl rfl)
theorem dX2_alone_74 : decode cX2_alone 74 = .ok (.iconst 0, 1) := dk_3 (dk_at dksX2_alone_3 3 rfl rfl)
theorem dX2_alone_75 : decode cX2_alone 75 = .ok (.istore_n 3, 1) := dk_62 (dk_at dksX2_alone_3 4 rfl rfl)
theorem dX2_alone_76 : decode cX2_alone 76 = .ok (.iinc 4 1, 3) := dk_132 4 1 (dk_at dksX2_alone_3 5 rfl rfl)
theorem dX2_alone_79 : decode cX2_alone 79 = .ok (.goto (-56), 3) := dk_167 255 200 (dk_at dksX2_alone_3 8 rfl rfl)
theorem dX2_alone_82 : decode cX2_alone 82 = .ok (.iload_n 1, 1) := dk_27 (dk_at dksX2_alone_3 11 rfl rfl)
theorem dX2_alone_83 : decode cX2_alone 83 = .ok (.iload_n 3, 1) := dk_29 (dk_at dksX2_alone_3 12 rfl rfl)
theorem dX2_alone_84 : decode cX2_alone 84 = .ok (.ifCond .eq 9, 3) := dk_153 0 9 (dk_at dksX2_alone_3 13 rfl rfl)
theorem dX2_alone_87 : decode cX2_alone 87 = .ok (.iconst 1, 1) := dk_4 (dk_at dksX2_alone_3 16 rfl rfl)
theorem dX2_alone_88 : decode cX2_alone 88 = .ok (.iload_n 2, 1) := dk_28 (dk_at dksX2_alone_3 17 rfl rfl)
theorem dX2_alone_89 : decode cX2_alone 89 = .ok (.ishl, 1) := dk_120 (dk_at dksX2_alone_3 18 rfl rfl)
theorem dX2_alone_90 : decode cX2_alone 90 = .ok (.goto 4, 3) := dk_167 0 4 (dk_at dksX2_alone_3 19 rfl rfl)
theorem dX2_alone_93 : decode cX2_alone 93 = .ok (.iconst 0, 1) := dk_3 (dk_at dksX2_alone_3 22 rfl rfl)
theorem dX2_alone_94 : decode cX2_alone 94 = .ok (.ior, 1) := dk_128 (dk_at dksX2_alone_3 23 rfl rfl)
theorem dX2_alone_95 : decode cX2_alone 95 = .ok (.istore_n 1, 1) := dk_60 (dk_at dksX2_alone_4 0 rfl rfl)
theorem dX2_alone_96 : decode cX2_alone 96 = .ok (.iinc 2 1, 3) := dk_132 2 1 (dk_at dksX2_alone_4 1 rfl rfl)
theorem dX2_alone_99 : decode cX2_alone 99 = .ok (.goto (-95), 3) := dk_167 255 161 (dk_at dksX2_alone_4 4 rfl rfl)
theorem dX2_alone_102 : decode cX2_alone 102 = .ok (.iload_n 1, 1) := dk_27 (dk_at dksX2_alone_4 7 rfl rfl)
theorem dX2_alone_103 : decode cX2_alone 103 = .ok (.ireturn, 1) := dk_172 (dk_at dksX2_alone_4 8 rfl rfl)
abbrev cX2_nobodys : ByteArray := prog_19_method_110_code
def yX2_nobodys : MethodName := ⟨RX2, "nobodys", "()I"⟩
def dkwX2_nobodys_1 : List UInt8 := [167, 0, 4, 3, 128, 60, 132, 2, 1, 167, 255, 229, 27, 172]
abbrev dktX2_nobodys_1 : List UInt8 := dkwX2_nobodys_1 ++ []
def dkwX2_nobodys_0 : List UInt8 := [3, 60, 3, 61, 28, 16, 20, 162, 0, 27, 27, 42, 28, 182, 1, 149, 154, 0, 9, 4, 28, 120]
abbrev dktX2_nobodys_0 : List UInt8 := dkwX2_nobodys_0 ++ dktX2_nobodys_1
theorem dksX2_nobodys_0 : cX2_nobodys.data.toList.drop 0 = dktX2_nobodys_0 := by decide +kernel
theorem dksX2_nobodys_1 : cX2_nobodys.data.toList.drop 22 = dktX2_nobodys_1 := dk_seg dksX2_nobodys_0 22 rfl rfl
theorem dX2_nobodys_0 : decode cX2_nobodys 0 = .ok (.iconst 0, 1) := dk_3 (dk_at dksX2_nobodys_0 0 rfl rfl)
theorem dX2_nobodys_1 : decode cX2_nobodys 1 = .ok (.istore_n 1, 1) := dk_60 (dk_at dksX2_nobodys_0 1 rfl rfl)
theorem dX2_nobodys_2 : decode cX2_nobodys 2 = .ok (.iconst 0, 1) := dk_3 (dk_at dksX2_nobodys_0 2 rfl rfl)
theorem dX2_nobodys_3 : decode cX2_nobodys 3 = .ok (.istore_n 2, 1) := dk_61 (dk_at dksX2_nobodys_0 3 rfl rfl)
theorem dX2_nobodys_4 : decode cX2_nobodys 4 = .ok (.iload_n 2, 1) := dk_28 (dk_at dksX2_nobodys_0 4 rfl rfl)
theorem dX2_nobodys_5 : decode cX2_nobodys 5 = .ok (.bipush 20, 2) := dk_16 20 (dk_at dksX2_nobodys_0 5 rfl rfl)
theorem dX2_nobodys_7 : decode cX2_nobodys 7 = .ok (.if_icmp .ge 27, 3) := dk_162 0 27 (dk_at dksX2_nobodys_0 7 rfl rfl)
theorem dX2_nobodys_10 : decode cX2_nobodys 10 = .ok (.iload_n 1, 1) := dk_27 (dk_at dksX2_nobodys_0 10 rfl rfl)
theorem dX2_nobodys_11 : decode cX2_nobodys 11 = .ok (.aload_n 0, 1) := dk_42 (dk_at dksX2_nobodys_0 11 rfl rfl)
theorem dX2_nobodys_12 : decode cX2_nobodys 12 = .ok (.iload_n 2, 1) := dk_28 (dk_at dksX2_nobodys_0 12 rfl rfl)
theorem dX2_nobodys_13 : decode cX2_nobodys 13 = .ok (.invokevirtual 405, 3) := dk_182 1 149 (dk_at dksX2_nobodys_0 13 rfl rfl)
theorem dX2_nobodys_16 : decode cX2_nobodys 16 = .ok (.ifCond .ne 9, 3) := dk_154 0 9 (dk_at dksX2_nobodys_0 16 rfl rfl)
theorem dX2_nobodys_19 : decode cX2_nobodys 19 = .ok (.iconst 1, 1) := dk_4 (dk_at dksX2_nobodys_0 19 rfl rfl)
theorem dX2_nobodys_20 : decode cX2_nobodys 20 = .ok (.iload_n 2, 1) := dk_28 (dk_at dksX2_nobodys_0 20 rfl rfl)
theorem dX2_nobodys_21 : decode cX2_nobodys 21 = .ok (.ishl, 1) := dk_120 (dk_at dksX2_nobodys_0 21 rfl rfl)
theorem dX2_nobodys_22 : decode cX2_nobodys 22 = .ok (.goto 4, 3) := dk_167 0 4 (dk_at dksX2_nobodys_1 0 rfl rfl)
theorem dX2_nobodys_25 : decode cX2_nobodys 25 = .ok (.iconst 0, 1) := dk_3 (dk_at dksX2_nobodys_1 3 rfl rfl)
theorem dX2_nobodys_26 : decode cX2_nobodys 26 = .ok (.ior, 1) := dk_128 (dk_at dksX2_nobodys_1 4 rfl rfl)
theorem dX2_nobodys_27 : decode cX2_nobodys 27 = .ok (.istore_n 1, 1) := dk_60 (dk_at dksX2_nobodys_1 5 rfl rfl)
theorem dX2_nobodys_28 : decode cX2_nobodys 28 = .ok (.iinc 2 1, 3) := dk_132 2 1 (dk_at dksX2_nobodys_1 6 rfl rfl)
theorem dX2_nobodys_31 : decode cX2_nobodys 31 = .ok (.goto (-27), 3) := dk_167 255 229 (dk_at dksX2_nobodys_1 9 rfl rfl)
theorem dX2_nobodys_34 : decode cX2_nobodys 34 = .ok (.iload_n 1, 1) := dk_27 (dk_at dksX2_nobodys_1 12 rfl rfl)
theorem dX2_nobodys_35 : decode cX2_nobodys 35 = .ok (.ireturn, 1) := dk_172 (dk_at dksX2_nobodys_1 13 rfl rfl)
abbrev cX2_seen : ByteArray := prog_19_method_111_code
def yX2_seen : MethodName := ⟨RX2, "seen", "(IIZ)I"⟩
def dkwX2_seen_4 : List UInt8 := [42, 180, 0, 7, 7, 92, 46, 4, 96, 79, 42, 180, 0, 7, 7, 46, 172]
abbrev dktX2_seen_4 : List UInt8 := dkwX2_seen_4 ++ []
def dkwX2_seen_3 : List UInt8 := [21, 4, 4, 96, 28, 79, 42, 180, 0, 7, 21, 4, 5, 96, 29, 153, 0, 7, 4, 167, 0, 4, 3, 79]
abbrev dktX2_seen_3 : List UInt8 := dkwX2_seen_3 ++ dktX2_seen_4
def dkwX2_seen_2 : List UInt8 := [6, 42, 180, 0, 7, 7, 46, 104, 96, 54, 4, 42, 180, 0, 7, 21, 4, 27, 79, 42, 180, 0, 7]
abbrev dktX2_seen_2 : List UInt8 := dkwX2_seen_2 ++ dktX2_seen_3
def dkwX2_seen_1 : List UInt8 := [16, 19, 184, 0, 65, 153, 0, 14, 42, 180, 0, 7, 7, 46, 16, 8, 160, 0, 6, 16, 254, 172, 16, 68]
abbrev dktX2_seen_1 : List UInt8 := dkwX2_seen_1 ++ dktX2_seen_2
def dkwX2_seen_0 : List UInt8 := [27, 2, 160, 0, 12, 42, 180, 0, 7, 7, 3, 79, 3, 172, 42, 27, 182, 0, 69, 153, 0, 24, 28, 3]
abbrev dktX2_seen_0 : List UInt8 := dkwX2_seen_0 ++ dktX2_seen_1
theorem dksX2_seen_0 : cX2_seen.data.toList.drop 0 = dktX2_seen_0 := by decide +kernel
theorem dksX2_seen_1 : cX2_seen.data.toList.drop 24 = dktX2_seen_1 := dk_seg dksX2_seen_0 24 rfl rfl
theorem dksX2_seen_2 : cX2_seen.data.toList.drop 48 = dktX2_seen_2 := dk_seg dksX2_seen_1 24 rfl rfl
theorem dksX2_seen_3 : cX2_seen.data.toList.drop 71 = dktX2_seen_3 := dk_seg dksX2_seen_2 23 rfl rfl
theorem dksX2_seen_4 : cX2_seen.data.toList.drop 95 = dktX2_seen_4 := dk_seg dksX2_seen_3 24 rfl rfl
theorem dX2_seen_0 : decode cX2_seen 0 = .ok (.iload_n 1, 1) := dk_27 (dk_at dksX2_seen_0 0 rfl rfl)
theorem dX2_seen_1 : decode cX2_seen 1 = .ok (.iconst (-1), 1) := dk_2 (dk_at dksX2_seen_0 1 rfl rfl)
theorem dX2_seen_2 : decode cX2_seen 2 = .ok (.if_icmp .ne 12, 3) := dk_160 0 12 (dk_at dksX2_seen_0 2 rfl rfl)
theorem dX2_seen_5 : decode cX2_seen 5 = .ok (.aload_n 0, 1) := dk_42 (dk_at dksX2_seen_0 5 rfl rfl)
theorem dX2_seen_6 : decode cX2_seen 6 = .ok (.getfield 7, 3) := dk_180 0 7 (dk_at dksX2_seen_0 6 rfl rfl)
theorem dX2_seen_9 : decode cX2_seen 9 = .ok (.iconst 4, 1) := dk_7 (dk_at dksX2_seen_0 9 rfl rfl)
theorem dX2_seen_10 : decode cX2_seen 10 = .ok (.iconst 0, 1) := dk_3 (dk_at dksX2_seen_0 10 rfl rfl)
theorem dX2_seen_11 : decode cX2_seen 11 = .ok (.iastore, 1) := dk_79 (dk_at dksX2_seen_0 11 rfl rfl)
theorem dX2_seen_12 : decode cX2_seen 12 = .ok (.iconst 0, 1) := dk_3 (dk_at dksX2_seen_0 12 rfl rfl)
theorem dX2_seen_13 : decode cX2_seen 13 = .ok (.ireturn, 1) := dk_172 (dk_at dksX2_seen_0 13 rfl rfl)
theorem dX2_seen_14 : decode cX2_seen 14 = .ok (.aload_n 0, 1) := dk_42 (dk_at dksX2_seen_0 14 rfl rfl)
theorem dX2_seen_15 : decode cX2_seen 15 = .ok (.iload_n 1, 1) := dk_27 (dk_at dksX2_seen_0 15 rfl rfl)
theorem dX2_seen_16 : decode cX2_seen 16 = .ok (.invokevirtual 69, 3) := dk_182 0 69 (dk_at dksX2_seen_0 16 rfl rfl)
theorem dX2_seen_19 : decode cX2_seen 19 = .ok (.ifCond .eq 24, 3) := dk_153 0 24 (dk_at dksX2_seen_0 19 rfl rfl)
theorem dX2_seen_22 : decode cX2_seen 22 = .ok (.iload_n 2, 1) := dk_28 (dk_at dksX2_seen_0 22 rfl rfl)
theorem dX2_seen_23 : decode cX2_seen 23 = .ok (.iconst 0, 1) := dk_3 (dk_at dksX2_seen_0 23 rfl rfl)
theorem dX2_seen_24 : decode cX2_seen 24 = .ok (.bipush 19, 2) := dk_16 19 (dk_at dksX2_seen_1 0 rfl rfl)
theorem dX2_seen_26 : decode cX2_seen 26 = .ok (.invokestatic 65, 3) := dk_184 0 65 (dk_at dksX2_seen_1 2 rfl rfl)
theorem dX2_seen_29 : decode cX2_seen 29 = .ok (.ifCond .eq 14, 3) := dk_153 0 14 (dk_at dksX2_seen_1 5 rfl rfl)
theorem dX2_seen_32 : decode cX2_seen 32 = .ok (.aload_n 0, 1) := dk_42 (dk_at dksX2_seen_1 8 rfl rfl)
theorem dX2_seen_33 : decode cX2_seen 33 = .ok (.getfield 7, 3) := dk_180 0 7 (dk_at dksX2_seen_1 9 rfl rfl)
theorem dX2_seen_36 : decode cX2_seen 36 = .ok (.iconst 4, 1) := dk_7 (dk_at dksX2_seen_1 12 rfl rfl)
theorem dX2_seen_37 : decode cX2_seen 37 = .ok (.iaload, 1) := dk_46 (dk_at dksX2_seen_1 13 rfl rfl)
theorem dX2_seen_38 : decode cX2_seen 38 = .ok (.bipush 8, 2) := dk_16 8 (dk_at dksX2_seen_1 14 rfl rfl)
theorem dX2_seen_40 : decode cX2_seen 40 = .ok (.if_icmp .ne 6, 3) := dk_160 0 6 (dk_at dksX2_seen_1 16 rfl rfl)
theorem dX2_seen_43 : decode cX2_seen 43 = .ok (.bipush (-2), 2) := dk_16 254 (dk_at dksX2_seen_1 19 rfl rfl)
theorem dX2_seen_45 : decode cX2_seen 45 = .ok (.ireturn, 1) := dk_172 (dk_at dksX2_seen_1 21 rfl rfl)
theorem dX2_seen_46 : decode cX2_seen 46 = .ok (.bipush 68, 2) := dk_16 68 (dk_at dksX2_seen_1 22 rfl rfl)
theorem dX2_seen_48 : decode cX2_seen 48 = .ok (.iconst 3, 1) := dk_6 (dk_at dksX2_seen_2 0 rfl rfl)
theorem dX2_seen_49 : decode cX2_seen 49 = .ok (.aload_n 0, 1) := dk_42 (dk_at dksX2_seen_2 1 rfl rfl)
theorem dX2_seen_50 : decode cX2_seen 50 = .ok (.getfield 7, 3) := dk_180 0 7 (dk_at dksX2_seen_2 2 rfl rfl)
theorem dX2_seen_53 : decode cX2_seen 53 = .ok (.iconst 4, 1) := dk_7 (dk_at dksX2_seen_2 5 rfl rfl)
theorem dX2_seen_54 : decode cX2_seen 54 = .ok (.iaload, 1) := dk_46 (dk_at dksX2_seen_2 6 rfl rfl)
theorem dX2_seen_55 : decode cX2_seen 55 = .ok (.imul, 1) := dk_104 (dk_at dksX2_seen_2 7 rfl rfl)
theorem dX2_seen_56 : decode cX2_seen 56 = .ok (.iadd, 1) := dk_96 (dk_at dksX2_seen_2 8 rfl rfl)
theorem dX2_seen_57 : decode cX2_seen 57 = .ok (.istore 4, 2) := dk_54 4 (dk_at dksX2_seen_2 9 rfl rfl)
theorem dX2_seen_59 : decode cX2_seen 59 = .ok (.aload_n 0, 1) := dk_42 (dk_at dksX2_seen_2 11 rfl rfl)
theorem dX2_seen_60 : decode cX2_seen 60 = .ok (.getfield 7, 3) := dk_180 0 7 (dk_at dksX2_seen_2 12 rfl rfl)
theorem dX2_seen_63 : decode cX2_seen 63 = .ok (.iload 4, 2) := dk_21 4 (dk_at dksX2_seen_2 15 rfl rfl)
theorem dX2_seen_65 : decode cX2_seen 65 = .ok (.iload_n 1, 1) := dk_27 (dk_at dksX2_seen_2 17 rfl rfl)
theorem dX2_seen_66 : decode cX2_seen 66 = .ok (.iastore, 1) := dk_79 (dk_at dksX2_seen_2 18 rfl rfl)
theorem dX2_seen_67 : decode cX2_seen 67 = .ok (.aload_n 0, 1) := dk_42 (dk_at dksX2_seen_2 19 rfl rfl)
theorem dX2_seen_68 : decode cX2_seen 68 = .ok (.getfield 7, 3) := dk_180 0 7 (dk_at dksX2_seen_2 20 rfl rfl)
theorem dX2_seen_71 : decode cX2_seen 71 = .ok (.iload 4, 2) := dk_21 4 (dk_at dksX2_seen_3 0 rfl rfl)
theorem dX2_seen_73 : decode cX2_seen 73 = .ok (.iconst 1, 1) := dk_4 (dk_at dksX2_seen_3 2 rfl rfl)
theorem dX2_seen_74 : decode cX2_seen 74 = .ok (.iadd, 1) := dk_96 (dk_at dksX2_seen_3 3 rfl rfl)
theorem dX2_seen_75 : decode cX2_seen 75 = .ok (.iload_n 2, 1) := dk_28 (dk_at dksX2_seen_3 4 rfl rfl)
theorem dX2_seen_76 : decode cX2_seen 76 = .ok (.iastore, 1) := dk_79 (dk_at dksX2_seen_3 5 rfl rfl)
theorem dX2_seen_77 : decode cX2_seen 77 = .ok (.aload_n 0, 1) := dk_42 (dk_at dksX2_seen_3 6 rfl rfl)
theorem dX2_seen_78 : decode cX2_seen 78 = .ok (.getfield 7, 3) := dk_180 0 7 (dk_at dksX2_seen_3 7 rfl rfl)
theorem dX2_seen_81 : decode cX2_seen 81 = .ok (.iload 4, 2) := dk_21 4 (dk_at dksX2_seen_3 10 rfl rfl)
theorem dX2_seen_83 : decode cX2_seen 83 = .ok (.iconst 2, 1) := dk_5 (dk_at dksX2_seen_3 12 rfl rfl)
theorem dX2_seen_84 : decode cX2_seen 84 = .ok (.iadd, 1) := dk_96 (dk_at dksX2_seen_3 13 rfl rfl)
theorem dX2_seen_85 : decode cX2_seen 85 = .ok (.iload_n 3, 1) := dk_29 (dk_at dksX2_seen_3 14 rfl rfl)
theorem dX2_seen_86 : decode cX2_seen 86 = .ok (.ifCond .eq 7, 3) := dk_153 0 7 (dk_at dksX2_seen_3 15 rfl rfl)
theorem dX2_seen_89 : decode cX2_seen 89 = .ok (.iconst 1, 1) := dk_4 (dk_at dksX2_seen_3 18 rfl rfl)
theorem dX2_seen_90 : decode cX2_seen 90 = .ok (.goto 4, 3) := dk_167 0 4 (dk_at dksX2_seen_3 19 rfl rfl)
theorem dX2_seen_93 : decode cX2_seen 93 = .ok (.iconst 0, 1) := dk_3 (dk_at dksX2_seen_3 22 rfl rfl)
theorem dX2_seen_94 : decode cX2_seen 94 = .ok (.iastore, 1) := dk_79 (dk_at dksX2_seen_3 23 rfl rfl)
theorem dX2_seen_95 : decode cX2_seen 95 = .ok (.aload_n 0, 1) := dk_42 (dk_at dksX2_seen_4 0 rfl rfl)
theorem dX2_seen_96 : decode cX2_seen 96 = .ok (.getfield 7, 3) := dk_180 0 7 (dk_at dksX2_seen_4 1 rfl rfl)
theorem dX2_seen_99 : decode cX2_seen 99 = .ok (.iconst 4, 1) := dk_7 (dk_at dksX2_seen_4 4 rfl rfl)
theorem dX2_seen_100 : decode cX2_seen 100 = .ok (.dup2, 1) := dk_92 (dk_at dksX2_seen_4 5 rfl rfl)
theorem dX2_seen_101 : decode cX2_seen 101 = .ok (.iaload, 1) := dk_46 (dk_at dksX2_seen_4 6 rfl rfl)
theorem dX2_seen_102 : decode cX2_seen 102 = .ok (.iconst 1, 1) := dk_4 (dk_at dksX2_seen_4 7 rfl rfl)
theorem dX2_seen_103 : decode cX2_seen 103 = .ok (.iadd, 1) := dk_96 (dk_at dksX2_seen_4 8 rfl rfl)
theorem dX2_seen_104 : decode cX2_seen 104 = .ok (.iastore, 1) := dk_79 (dk_at dksX2_seen_4 9 rfl rfl)
theorem dX2_seen_105 : decode cX2_seen 105 = .ok (.aload_n 0, 1) := dk_42 (dk_at dksX2_seen_4 10 rfl rfl)
theorem dX2_seen_106 : decode cX2_seen 106 = .ok (.getfield 7, 3) := dk_180 0 7 (dk_at dksX2_seen_4 11 rfl rfl)
theorem dX2_seen_109 : decode cX2_seen 109 = .ok (.iconst 4, 1) := dk_7 (dk_at dksX2_seen_4 14 rfl rfl)
theorem dX2_seen_110 : decode cX2_seen 110 = .ok (.iaload, 1) := dk_46 (dk_at dksX2_seen_4 15 rfl rfl)
theorem dX2_seen_111 : decode cX2_seen 111 = .ok (.ireturn, 1) := dk_172 (dk_at dksX2_seen_4 16 rfl rfl)
abbrev cX2_sets : ByteArray := prog_19_method_115_code
def yX2_sets : MethodName := ⟨RX2, "sets", "(IIZ)I"⟩
def dkwX2_sets_2 : List UInt8 := [167, 0, 7, 42, 180, 1, 164, 172]
abbrev dktX2_sets_2 : List UInt8 := dkwX2_sets_2 ++ []
def dkwX2_sets_1 : List UInt8 := [182, 1, 174, 29, 154, 0, 10, 42, 180, 1, 161, 167, 0, 18, 42, 180, 1, 161, 154, 0, 7, 3]
abbrev dktX2_sets_1 : List UInt8 := dkwX2_sets_1 ++ dktX2_sets_2
def dkwX2_sets_0 : List UInt8 := [42, 27, 182, 0, 69, 153, 0, 12, 28, 4, 6, 184, 0, 65, 154, 0, 5, 2, 172, 42, 27, 28]
abbrev dktX2_sets_0 : List UInt8 := dkwX2_sets_0 ++ dktX2_sets_1
theorem dksX2_sets_0 : cX2_sets.data.toList.drop 0 = dktX2_sets_0 := by decide +kernel
theorem dksX2_sets_1 : cX2_sets.data.toList.drop 22 = dktX2_sets_1 := dk_seg dksX2_sets_0 22 rfl rfl
theorem dksX2_sets_2 : cX2_sets.data.toList.drop 44 = dktX2_sets_2 := dk_seg dksX2_sets_1 22 rfl rfl
theorem dX2_sets_0 : decode cX2_sets 0 = .ok (.aload_n 0, 1) := dk_42 (dk_at dksX2_sets_0 0 rfl rfl)
theorem dX2_sets_1 : decode cX2_sets 1 = .ok (.iload_n 1, 1) := dk_27 (dk_at dksX2_sets_0 1 rfl rfl)
theorem dX2_sets_2 : decode cX2_sets 2 = .ok (.invokevirtual 69, 3) := dk_182 0 69 (dk_at dksX2_sets_0 2 rfl rfl)
theorem dX2_sets_5 : decode cX2_sets 5 = .ok (.ifCond .eq 12, 3) := dk_153 0 12 (dk_at dksX2_sets_0 5 rfl rfl)
theorem dX2_sets_8 : decode cX2_sets 8 = .ok (.iload_n 2, 1) := dk_28 (dk_at dksX2_sets_0 8 rfl rfl)
theorem dX2_sets_9 : decode cX2_sets 9 = .ok (.iconst 1, 1) := dk_4 (dk_at dksX2_sets_0 9 rfl rfl)
theorem dX2_sets_10 : decode cX2_sets 10 = .ok (.iconst 3, 1) := dk_6 (dk_at dksX2_sets_0 10 rfl rfl)
theorem dX2_sets_11 : decode cX2_sets 11 = .ok (.invokestatic 65, 3) := dk_184 0 65 (dk_at dksX2_sets_0 11 rfl rfl)
theorem dX2_sets_14 : decode cX2_sets 14 = .ok (.ifCond .ne 5, 3) := dk_154 0 5 (dk_at dksX2_sets_0 14 rfl rfl)
theorem dX2_sets_17 : decode cX2_sets 17 = .ok (.iconst (-1), 1) := dk_2 (dk_at dksX2_sets_0 17 rfl rfl)
theorem dX2_sets_18 : decode cX2_sets 18 = .ok (.ireturn, 1) := dk_172 (dk_at dksX2_sets_0 18 rfl rfl)
theorem dX2_sets_19 : decode cX2_sets 19 = .ok (.aload_n 0, 1) := dk_42 (dk_at dksX2_sets_0 19 rfl rfl)
theorem dX2_sets_20 : decode cX2_sets 20 = .ok (.iload_n 1, 1) := dk_27 (dk_at dksX2_sets_0 20 rfl rfl)
theorem dX2_sets_21 : decode cX2_sets 21 = .ok (.iload_n 2, 1) := dk_28 (dk_at dksX2_sets_0 21 rfl rfl)
theorem dX2_sets_22 : decode cX2_sets 22 = .ok (.invokevirtual 430, 3) := dk_182 1 174 (dk_at dksX2_sets_1 0 rfl rfl)
theorem dX2_sets_25 : decode cX2_sets 25 = .ok (.iload_n 3, 1) := dk_29 (dk_at dksX2_sets_1 3 rfl rfl)
theorem dX2_sets_26 : decode cX2_sets 26 = .ok (.ifCond .ne 10, 3) := dk_154 0 10 (dk_at dksX2_sets_1 4 rfl rfl)
theorem dX2_sets_29 : decode cX2_sets 29 = .ok (.aload_n 0, 1) := dk_42 (dk_at dksX2_sets_1 7 rfl rfl)
theorem dX2_sets_30 : decode cX2_sets 30 = .ok (.getfield 417, 3) := dk_180 1 161 (dk_at dksX2_sets_1 8 rfl rfl)
theorem dX2_sets_33 : decode cX2_sets 33 = .ok (.goto 18, 3) := dk_167 0 18 (dk_at dksX2_sets_1 11 rfl rfl)
theorem dX2_sets_36 : decode cX2_sets 36 = .ok (.aload_n 0, 1) := dk_42 (dk_at dksX2_sets_1 14 rfl rfl)
theorem dX2_sets_37 : decode cX2_sets 37 = .ok (.getfield 417, 3) := dk_180 1 161 (dk_at dksX2_sets_1 15 rfl rfl)
theorem dX2_sets_40 : decode cX2_sets 40 = .ok (.ifCond .ne 7, 3) := dk_154 0 7 (dk_at dksX2_sets_1 18 rfl rfl)
theorem dX2_sets_43 : decode cX2_sets 43 = .ok (.iconst 0, 1) := dk_3 (dk_at dksX2_sets_1 21 rfl rfl)
theorem dX2_sets_44 : decode cX2_sets 44 = .ok (.goto 7, 3) := dk_167 0 7 (dk_at dksX2_sets_2 0 rfl rfl)
theorem dX2_sets_47 : decode cX2_sets 47 = .ok (.aload_n 0, 1) := dk_42 (dk_at dksX2_sets_2 3 rfl rfl)
theorem dX2_sets_48 : decode cX2_sets 48 = .ok (.getfield 420, 3) := dk_180 1 164 (dk_at dksX2_sets_2 4 rfl rfl)
theorem dX2_sets_51 : decode cX2_sets 51 = .ok (.ireturn, 1) := dk_172 (dk_at dksX2_sets_2 7 rfl rfl)
abbrev cX2_laySets : ByteArray := prog_19_method_114_code
def yX2_laySets : MethodName := ⟨RX2, "laySets", "(II)V"⟩
def dkwX2_laySets_11 : List UInt8 := [167, 255, 154, 177]
abbrev dktX2_laySets_11 : List UInt8 := dkwX2_laySets_11 ++ []
def dkwX2_laySets_10 : List UInt8 := [21, 5, 120, 128, 182, 1, 171, 132, 5, 1, 167, 255, 224, 132, 4, 1, 167, 255, 183, 132, 3, 1]
abbrev dktX2_laySets_10 : List UInt8 := dkwX2_laySets_10 ++ dktX2_laySets_11
def dkwX2_laySets_9 : List UInt8 := [54, 5, 21, 5, 16, 20, 162, 0, 31, 28, 6, 160, 0, 26, 42, 4, 29, 120, 4, 21, 4, 120, 128, 4]
abbrev dktX2_laySets_9 : List UInt8 := dkwX2_laySets_9 ++ dktX2_laySets_10
def dkwX2_laySets_8 : List UInt8 := [164, 0, 67, 28, 5, 160, 0, 15, 42, 4, 29, 120, 4, 21, 4, 120, 128, 182, 1, 171, 21, 4, 4, 96]
abbrev dktX2_laySets_8 : List UInt8 := dkwX2_laySets_8 ++ dktX2_laySets_9
def dkwX2_laySets_7 : List UInt8 := [160, 0, 10, 42, 4, 29, 120, 182, 1, 171, 29, 4, 96, 54, 4, 21, 4, 16, 20, 162, 0, 72, 28, 4]
abbrev dktX2_laySets_7 : List UInt8 := dkwX2_laySets_7 ++ dktX2_laySets_8
def dkwX2_laySets_6 : List UInt8 := [180, 0, 46, 29, 3, 79, 132, 3, 1, 167, 255, 240, 3, 62, 29, 16, 20, 162, 0, 102, 28, 4]
abbrev dktX2_laySets_6 : List UInt8 := dkwX2_laySets_6 ++ dktX2_laySets_7
def dkwX2_laySets_5 : List UInt8 := [167, 255, 198, 42, 3, 181, 1, 161, 42, 19, 1, 170, 181, 1, 164, 3, 62, 29, 16, 20, 162, 0, 16, 42]
abbrev dktX2_laySets_5 : List UInt8 := dkwX2_laySets_5 ++ dktX2_laySets_6
def dkwX2_laySets_4 : List UInt8 := [104, 96, 4, 96, 46, 42, 180, 0, 7, 16, 68, 6, 29, 104, 96, 5, 96, 46, 182, 1, 167, 132, 3, 1]
abbrev dktX2_laySets_4 : List UInt8 := dkwX2_laySets_4 ++ dktX2_laySets_5
def dkwX2_laySets_3 : List UInt8 := [42, 180, 0, 7, 16, 68, 6, 29, 104, 96, 46, 27, 160, 0, 33, 42, 42, 180, 0, 7, 16, 68, 6, 29]
abbrev dktX2_laySets_3 : List UInt8 := dkwX2_laySets_3 ++ dktX2_laySets_4
def dkwX2_laySets_2 : List UInt8 := [182, 1, 134, 182, 1, 167, 132, 3, 1, 167, 255, 213, 3, 62, 29, 42, 180, 0, 7, 7, 46, 162, 0, 54]
abbrev dktX2_laySets_2 : List UInt8 := dkwX2_laySets_2 ++ dktX2_laySets_3
def dkwX2_laySets_1 : List UInt8 := [29, 4, 182, 1, 134, 27, 160, 0, 22, 42, 42, 29, 3, 182, 1, 134, 16, 20, 112, 42, 29, 5]
abbrev dktX2_laySets_1 : List UInt8 := dkwX2_laySets_1 ++ dktX2_laySets_2
def dkwX2_laySets_0 : List UInt8 := [42, 3, 181, 1, 155, 42, 3, 181, 1, 158, 3, 62, 29, 42, 180, 0, 7, 16, 10, 46, 162, 0, 38, 42]
abbrev dktX2_laySets_0 : List UInt8 := dkwX2_laySets_0 ++ dktX2_laySets_1
theorem dksX2_laySets_0 : cX2_laySets.data.toList.drop 0 = dktX2_laySets_0 := by decide +kernel
theorem dksX2_laySets_1 : cX2_laySets.data.toList.drop 24 = dktX2_laySets_1 := dk_seg dksX2_laySets_0 24 rfl rfl
theorem dksX2_laySets_2 : cX2_laySets.data.toList.drop 46 = dktX2_laySets_2 := dk_seg dksX2_laySets_1 22 rfl rfl
theorem dksX2_laySets_3 : cX2_laySets.data.toList.drop 70 = dktX2_laySets_3 := dk_seg dksX2_laySets_2 24 rfl rfl
theorem dksX2_laySets_4 : cX2_laySets.data.toList.drop 94 = dktX2_laySets_4 := dk_seg dksX2_laySets_3 24 rfl rfl
theorem dksX2_laySets_5 : cX2_laySets.data.toList.drop 118 = dktX2_laySets_5 := dk_seg dksX2_laySets_4 24 rfl rfl
theorem dksX2_laySets_6 : cX2_laySets.data.toList.drop 142 = dktX2_laySets_6 := dk_seg dksX2_laySets_5 24 rfl rfl
theorem dksX2_laySets_7 : cX2_laySets.data.toList.drop 164 = dktX2_laySets_7 := dk_seg dksX2_laySets_6 22 rfl rfl
theorem dksX2_laySets_8 : cX2_laySets.data.toList.drop 188 = dktX2_laySets_8 := dk_seg dksX2_laySets_7 24 rfl rfl
theorem dksX2_laySets_9 : cX2_laySets.data.toList.drop 212 = dktX2_laySets_9 := dk_seg dksX2_laySets_8 24 rfl rfl
theorem dksX2_laySets_10 : cX2_laySets.data.toList.drop 236 = dktX2_laySets_10 := dk_seg dksX2_laySets_9 24 rfl rfl
theorem dksX2_laySets_11 : cX2_laySets.data.toList.drop 258 = dktX2_laySets_11 := dk_seg dksX2_laySets_10 22 rfl rfl
theorem dX2_laySets_0 : decode cX2_laySets 0 = .ok (.aload_n 0, 1) := dk_42 (dk_at dksX2_laySets_0 0 rfl rfl)
theorem dX2_laySets_1 : decode cX2_laySets 1 = .ok (.iconst 0, 1) := dk_3 (dk_at dksX2_laySets_0 1 rfl rfl)
theorem dX2_laySets_2 : decode cX2_laySets 2 = .ok (.putfield 411, 3) := dk_181 1 155 (dk_at dksX2_laySets_0 2 rfl rfl)
theorem dX2_laySets_5 : decode cX2_laySets 5 = .ok (.aload_n 0, 1) := dk_42 (dk_at dksX2_laySets_0 5 rfl rfl)
theorem dX2_laySets_6 : decode cX2_laySets 6 = .ok (.iconst 0, 1) := dk_3 (dk_at dksX2_laySets_0 6 rfl rfl)
theorem dX2_laySets_7 : decode cX2_laySets 7 = .ok (.putfield 414, 3) := dk_181 1 158 (dk_at dksX2_laySets_0 7 rfl rfl)
theorem dX2_laySets_10 : decode cX2_laySets 10 = .ok (.iconst 0, 1) := dk_3 (dk_at dksX2_laySets_0 10 rfl rfl)
theorem dX2_laySets_11 : decode cX2_laySets 11 = .ok (.istore_n 3, 1) := dk_62 (dk_at dksX2_laySets_0 11 rfl rfl)
theorem dX2_laySets_12 : decode cX2_laySets 12 = .ok (.iload_n 3, 1) := dk_29 (dk_at dksX2_laySets_0 12 rfl rfl)
theorem dX2_laySets_13 : decode cX2_laySets 13 = .ok (.aload_n 0, 1) := dk_42 (dk_at dksX2_laySets_0 13 rfl rfl)
theorem dX2_laySets_14 : decode cX2_laySets 14 = .ok (.getfield 7, 3) := dk_180 0 7 (dk_at dksX2_laySets_0 14 rfl rfl)
theorem dX2_laySets_17 : decode cX2_laySets 17 = .ok (.bipush 10, 2) := dk_16 10 (dk_at dksX2_laySets_0 17 rfl rfl)
theorem dX2_laySets_19 : decode cX2_laySets 19 = .ok (.iaload, 1) := dk_46 (dk_at dksX2_laySets_0 19 rfl rfl)
theorem dX2_laySets_20 : decode cX2_laySets 20 = .ok (.if_icmp .ge 38, 3) := dk_162 0 38 (dk_at dksX2_laySets_0 20 rfl rfl)
theorem dX2_laySets_23 : decode cX2_laySets 23 = .ok (.aload_n 0, 1) := dk_42 (dk_at dksX2_laySets_0 23 rfl rfl)
theorem dX2_laySets_24 : decode cX2_laySets 24 = .ok (.iload_n 3, 1) := dk_29 (dk_at dksX2_laySets_1 0 rfl rfl)
theorem dX2_laySets_25 : decode cX2_laySets 25 = .ok (.iconst 1, 1) := dk_4 (dk_at dksX2_laySets_1 1 rfl rfl)
theorem dX2_laySets_26 : decode cX2_laySets 26 = .ok (.invokevirtual 390, 3) := dk_182 1 134 (dk_at dksX2_laySets_1 2 rfl rfl)
theorem dX2_laySets_29 : decode cX2_laySets 29 = .ok (.iload_n 1, 1) := dk_27 (dk_at dksX2_laySets_1 5 rfl rfl)
theorem dX2_laySets_30 : decode cX2_laySets 30 = .ok (.if_icmp .ne 22, 3) := dk_160 0 22 (dk_at dksX2_laySets_1 6 rfl rfl)
theorem dX2_laySets_33 : decode cX2_laySets 33 = .ok (.aload_n 0, 1) := dk_42 (dk_at dksX2_laySets_1 9 rfl rfl)
theorem dX2_laySets_34 : decode cX2_laySets 34 = .ok (.aload_n 0, 1) := dk_42 (dk_at dksX2_laySets_1 10 rfl rfl)
theorem dX2_laySets_35 : decode cX2_laySets 35 = .ok (.iload_n 3, 1) := dk_29 (dk_at dksX2_laySets_1 11 rfl rfl)
theorem dX2_laySets_36 : decode cX2_laySets 36 = .ok (.iconst 0, 1) := dk_3 (dk_at dksX2_laySets_1 12 rfl rfl)
theorem dX2_laySets_37 : decode cX2_laySets 37 = .ok (.invokevirtual 390, 3) := dk_182 1 134 (dk_at dksX2_laySets_1 13 rfl rfl)
theorem dX2_laySets_40 : decode cX2_laySets 40 = .ok (.bipush 20, 2) := dk_16 20 (dk_at dksX2_laySets_1 16 rfl rfl)
theorem dX2_laySets_42 : decode cX2_laySets 42 = .ok (.irem, 1) := dk_112 (dk_at dksX2_laySets_1 18 rfl rfl)
theorem dX2_laySets_43 : decode cX2_laySets 43 = .ok (.aload_n 0, 1) := dk_42 (dk_at dksX2_laySets_1 19 rfl rfl)
theorem dX2_laySets_44 : decode cX2_laySets 44 = .ok (.iload_n 3, 1) := dk_29 (dk_at dksX2_laySets_1 20 rfl rfl)
theorem dX2_laySets_45 : decode cX2_laySets 45 = .ok (.iconst 2, 1) := dk_5 (dk_at dksX2_laySets_1 21 rfl rfl)
theorem dX2_laySets_46 : decode cX2_laySets 46 = .ok (.invokevirtual 390, 3) := dk_182 1 134 (dk_at dksX2_laySets_2 0 rfl rfl)
theorem dX2_laySets_49 : decode cX2_laySets 49 = .ok (.invokevirtual 423, 3) := dk_182 1 167 (dk_at dksX2_laySets_2 3 rfl rfl)
theorem dX2_laySets_52 : decode cX2_laySets 52 = .ok (.iinc 3 1, 3) := dk_132 3 1 (dk_at dksX2_laySets_2 6 rfl rfl)
theorem dX2_laySets_55 : decode cX2_laySets 55 = .ok (.goto (-43), 3) := dk_167 255 213 (dk_at dksX2_laySets_2 9 rfl rfl)
theorem dX2_laySets_58 : decode cX2_laySets 58 = .ok (.iconst 0, 1) := dk_3 (dk_at dksX2_laySets_2 12 rfl rfl)
theorem dX2_laySets_59 : decode cX2_laySets 59 = .ok (.istore_n 3, 1) := dk_62 (dk_at dksX2_laySets_2 13 rfl rfl)
theorem dX2_laySets_60 : decode cX2_laySets 60 = .ok (.iload_n 3, 1) := dk_29 (dk_at dksX2_laySets_2 14 rfl rfl)
theorem dX2_laySets_61 : decode cX2_laySets 61 = .ok (.aload_n 0, 1) := dk_42 (dk_at dksX2_laySets_2 15 rfl rfl)
theorem dX2_laySets_62 : decode cX2_laySets 62 = .ok (.getfield 7, 3) := dk_180 0 7 (dk_at dksX2_laySets_2 16 rfl rfl)
theorem dX2_laySets_65 : decode cX2_laySets 65 = .ok (.iconst 4, 1) := dk_7 (dk_at dksX2_laySets_2 19 rfl rfl)
theorem dX2_laySets_66 : decode cX2_laySets 66 = .ok (.iaload, 1) := dk_46 (dk_at dksX2_laySets_2 20 rfl rfl)
theorem dX2_laySets_67 : decode cX2_laySets 67 = .ok (.if_icmp .ge 54, 3) := dk_162 0 54 (dk_at dksX2_laySets_2 21 rfl rfl)
theorem dX2_laySets_70 : decode cX2_laySets 70 = .ok (.aload_n 0, 1) := dk_42 (dk_at dksX2_laySets_3 0 rfl rfl)
theorem dX2_laySets_71 : decode cX2_laySets 71 = .ok (.getfield 7, 3) := dk_180 0 7 (dk_at dksX2_laySets_3 1 rfl rfl)
theorem dX2_laySets_74 : decode cX2_laySets 74 = .ok (.bipush 68, 2) := dk_16 68 (dk_at dksX2_laySets_3 4 rfl rfl)
theorem dX2_laySets_76 : decode cX2_laySets 76 = .ok (.iconst 3, 1) := dk_6 (dk_at dksX2_laySets_3 6 rfl rfl)
theorem dX2_laySets_77 : decode cX2_laySets 77 = .ok (.iload_n 3, 1) := dk_29 (dk_at dksX2_laySets_3 7 rfl rfl)
theorem dX2_laySets_78 : decode cX2_laySets 78 = .ok (.imul, 1) := dk_104 (dk_at dksX2_laySets_3 8 rfl rfl)
theorem dX2_laySets_79 : decode cX2_laySets 79 = .ok (.iadd, 1) := dk_96 (dk_at dksX2_laySets_3 9 rfl rfl)
theorem dX2_laySets_80 : decode cX2_laySets 80 = .ok (.iaload, 1) := dk_46 (dk_at dksX2_laySets_3 10 rfl rfl)
theorem dX2_laySets_81 : decode cX2_laySets 81 = .ok (.iload_n 1, 1) := dk_27 (dk_at dksX2_laySets_3 11 rfl rfl)
theorem dX2_laySets_82 : decode cX2_laySets 82 = .ok (.if_icmp .ne 33, 3) := dk_160 0 33 (dk_at dksX2_laySets_3 12 rfl rfl)
theorem dX2_laySets_85 : decode cX2_laySets 85 = .ok (.aload_n 0, 1) := dk_42 (dk_at dksX2_laySets_3 15 rfl rfl)
theorem dX2_laySets_86 : decode cX2_laySets 86 = .ok (.aload_n 0, 1) := dk_42 (dk_at dksX2_laySets_3 16 rfl rfl)
theorem dX2_laySets_87 : decode cX2_laySets 87 = .ok (.getfield 7, 3) := dk_180 0 7 (dk_at dksX2_laySets_3 17 rfl rfl)
theorem dX2_laySets_90 : decode cX2_laySets 90 = .ok (.bipush 68, 2) := dk_16 68 (dk_at dksX2_laySets_3 20 rfl rfl)
theorem dX2_laySets_92 : decode cX2_laySets 92 = .ok (.iconst 3, 1) := dk_6 (dk_at dksX2_laySets_3 22 rfl rfl)
theorem dX2_laySets_93 : decode cX2_laySets 93 = .ok (.iload_n 3, 1) := dk_29 (dk_at dksX2_laySets_3 23 rfl rfl)
theorem dX2_laySets_94 : decode cX2_laySets 94 = .ok (.imul, 1) := dk_104 (dk_at dksX2_laySets_4 0 rfl rfl)
theorem dX2_laySets_95 : decode cX2_laySets 95 = .ok (.iadd, 1) := dk_96 (dk_at dksX2_laySets_4 1 rfl rfl)
theorem dX2_laySets_96 : decode cX2_laySets 96 = .ok (.iconst 1, 1) := dk_4 (dk_at dksX2_laySets_4 2 rfl rfl)
theorem dX2_laySets_97 : decode cX2_laySets 97 = .ok (.iadd, 1) := dk_96 (dk_at dksX2_laySets_4 3 rfl rfl)
theorem dX2_laySets_98 : decode cX2_laySets 98 = .ok (.iaload, 1) := dk_46 (dk_at dksX2_laySets_4 4 rfl rfl)
theorem dX2_laySets_99 : decode cX2_laySets 99 = .ok (.aload_n 0, 1) := dk_42 (dk_at dksX2_laySets_4 5 rfl rfl)
theorem dX2_laySets_100 : decode cX2_laySets 100 = .ok (.getfield 7, 3) := dk_180 0 7 (dk_at dksX2_laySets_4 6 rfl rfl)
theorem dX2_laySets_103 : decode cX2_laySets 103 = .ok (.bipush 68, 2) := dk_16 68 (dk_at dksX2_laySets_4 9 rfl rfl)
theorem dX2_laySets_105 : decode cX2_laySets 105 = .ok (.iconst 3, 1) := dk_6 (dk_at dksX2_laySets_4 11 rfl rfl)
theorem dX2_laySets_106 : decode cX2_laySets 106 = .ok (.iload_n 3, 1) := dk_29 (dk_at dksX2_laySets_4 12 rfl rfl)
theorem dX2_laySets_107 : decode cX2_laySets 107 = .ok (.imul, 1) := dk_104 (dk_at dksX2_laySets_4 13 rfl rfl)
theorem dX2_laySets_108 : decode cX2_laySets 108 = .ok (.iadd, 1) := dk_96 (dk_at dksX2_laySets_4 14 rfl rfl)
theorem dX2_laySets_109 : decode cX2_laySets 109 = .ok (.iconst 2, 1) := dk_5 (dk_at dksX2_laySets_4 15 rfl rfl)
theorem dX2_laySets_110 : decode cX2_laySets 110 = .ok (.iadd, 1) := dk_96 (dk_at dksX2_laySets_4 16 rfl rfl)
theorem dX2_laySets_111 : decode cX2_laySets 111 = .ok (.iaload, 1) := dk_46 (dk_at dksX2_laySets_4 17 rfl rfl)
theorem dX2_laySets_112 : decode cX2_laySets 112 = .ok (.invokevirtual 423, 3) := dk_182 1 167 (dk_at dksX2_laySets_4 18 rfl rfl)
theorem dX2_laySets_115 : decode cX2_laySets 115 = .ok (.iinc 3 1, 3) := dk_132 3 1 (dk_at dksX2_laySets_4 21 rfl rfl)
theorem dX2_laySets_118 : decode cX2_laySets 118 = .ok (.goto (-58), 3) := dk_167 255 198 (dk_at dksX2_laySets_5 0 rfl rfl)
theorem dX2_laySets_121 : decode cX2_laySets 121 = .ok (.aload_n 0, 1) := dk_42 (dk_at dksX2_laySets_5 3 rfl rfl)
theorem dX2_laySets_122 : decode cX2_laySets 122 = .ok (.iconst 0, 1) := dk_3 (dk_at dksX2_laySets_5 4 rfl rfl)
theorem dX2_laySets_123 : decode cX2_laySets 123 = .ok (.putfield 417, 3) := dk_181 1 161 (dk_at dksX2_laySets_5 5 rfl rfl)
theorem dX2_laySets_126 : decode cX2_laySets 126 = .ok (.aload_n 0, 1) := dk_42 (dk_at dksX2_laySets_5 8 rfl rfl)
theorem dX2_laySets_127 : decode cX2_laySets 127 = .ok (.ldc_w 426, 3) := dk_19 1 170 (dk_at dksX2_laySets_5 9 rfl rfl)
theorem dX2_laySets_130 : decode cX2_laySets 130 = .ok (.putfield 420, 3) := dk_181 1 164 (dk_at dksX2_laySets_5 12 rfl rfl)
theorem dX2_laySets_133 : decode cX2_laySets 133 = .ok (.iconst 0, 1) := dk_3 (dk_at dksX2_laySets_5 15 rfl rfl)
theorem dX2_laySets_134 : decode cX2_laySets 134 = .ok (.istore_n 3, 1) := dk_62 (dk_at dksX2_laySets_5 16 rfl rfl)
theorem dX2_laySets_135 : decode cX2_laySets 135 = .ok (.iload_n 3, 1) := dk_29 (dk_at dksX2_laySets_5 17 rfl rfl)
theorem dX2_laySets_136 : decode cX2_laySets 136 = .ok (.bipush 20, 2) := dk_16 20 (dk_at dksX2_laySets_5 18 rfl rfl)
theorem dX2_laySets_138 : decode cX2_laySets 138 = .ok (.if_icmp .ge 16, 3) := dk_162 0 16 (dk_at dksX2_laySets_5 20 rfl rfl)
theorem dX2_laySets_141 : decode cX2_laySets 141 = .ok (.aload_n 0, 1) := dk_42 (dk_at dksX2_laySets_5 23 rfl rfl)
theorem dX2_laySets_142 : decode cX2_laySets 142 = .ok (.getfield 46, 3) := dk_180 0 46 (dk_at dksX2_laySets_6 0 rfl rfl)
theorem dX2_laySets_145 : decode cX2_laySets 145 = .ok (.iload_n 3, 1) := dk_29 (dk_at dksX2_laySets_6 3 rfl rfl)
theorem dX2_laySets_146 : decode cX2_laySets 146 = .ok (.iconst 0, 1) := dk_3 (dk_at dksX2_laySets_6 4 rfl rfl)
theorem dX2_laySets_147 : decode cX2_laySets 147 = .ok (.iastore, 1) := dk_79 (dk_at dksX2_laySets_6 5 rfl rfl)
theorem dX2_laySets_148 : decode cX2_laySets 148 = .ok (.iinc 3 1, 3) := dk_132 3 1 (dk_at dksX2_laySets_6 6 rfl rfl)
theorem dX2_laySets_151 : decode cX2_laySets 151 = .ok (.goto (-16), 3) := dk_167 255 240 (dk_at dksX2_laySets_6 9 rfl rfl)
theorem dX2_laySets_154 : decode cX2_laySets 154 = .ok (.iconst 0, 1) := dk_3 (dk_at dksX2_laySets_6 12 rfl rfl)
theorem dX2_laySets_155 : decode cX2_laySets 155 = .ok (.istore_n 3, 1) := dk_62 (dk_at dksX2_laySets_6 13 rfl rfl)
theorem dX2_laySets_156 : decode cX2_laySets 156 = .ok (.iload_n 3, 1) := dk_29 (dk_at dksX2_laySets_6 14 rfl rfl)
theorem dX2_laySets_157 : decode cX2_laySets 157 = .ok (.bipush 20, 2) := dk_16 20 (dk_at dksX2_laySets_6 15 rfl rfl)
theorem dX2_laySets_159 : decode cX2_laySets 159 = .ok (.if_icmp .ge 102, 3) := dk_162 0 102 (dk_at dksX2_laySets_6 17 rfl rfl)
theorem dX2_laySets_162 : decode cX2_laySets 162 = .ok (.iload_n 2, 1) := dk_28 (dk_at dksX2_laySets_6 20 rfl rfl)
theorem dX2_laySets_163 : decode cX2_laySets 163 = .ok (.iconst 1, 1) := dk_4 (dk_at dksX2_laySets_6 21 rfl rfl)
theorem dX2_laySets_164 : decode cX2_laySets 164 = .ok (.if_icmp .ne 10, 3) := dk_160 0 10 (dk_at dksX2_laySets_7 0 rfl rfl)
theorem dX2_laySets_167 : decode cX2_laySets 167 = .ok (.aload_n 0, 1) := dk_42 (dk_at dksX2_laySets_7 3 rfl rfl)
theorem dX2_laySets_168 : decode cX2_laySets 168 = .ok (.iconst 1, 1) := dk_4 (dk_at dksX2_laySets_7 4 rfl rfl)
theorem dX2_laySets_169 : decode cX2_laySets 169 = .ok (.iload_n 3, 1) := dk_29 (dk_at dksX2_laySets_7 5 rfl rfl)
theorem dX2_laySets_170 : decode cX2_laySets 170 = .ok (.ishl, 1) := dk_120 (dk_at dksX2_laySets_7 6 rfl rfl)
theorem dX2_laySets_171 : decode cX2_laySets 171 = .ok (.invokevirtual 427, 3) := dk_182 1 171 (dk_at dksX2_laySets_7 7 rfl rfl)
theorem dX2_laySets_174 : decode cX2_laySets 174 = .ok (.iload_n 3, 1) := dk_29 (dk_at dksX2_laySets_7 10 rfl rfl)
theorem dX2_laySets_175 : decode cX2_laySets 175 = .ok (.iconst 1, 1) := dk_4 (dk_at dksX2_laySets_7 11 rfl rfl)
theorem dX2_laySets_176 : decode cX2_laySets 176 = .ok (.iadd, 1) := dk_96 (dk_at dksX2_laySets_7 12 rfl rfl)
theorem dX2_laySets_177 : decode cX2_laySets 177 = .ok (.istore 4, 2) := dk_54 4 (dk_at dksX2_laySets_7 13 rfl rfl)
theorem dX2_laySets_179 : decode cX2_laySets 179 = .ok (.iload 4, 2) := dk_21 4 (dk_at dksX2_laySets_7 15 rfl rfl)
theorem dX2_laySets_181 : decode cX2_laySets 181 = .ok (.bipush 20, 2) := dk_16 20 (dk_at dksX2_laySets_7 17 rfl rfl)
theorem dX2_laySets_183 : decode cX2_laySets 183 = .ok (.if_icmp .ge 72, 3) := dk_162 0 72 (dk_at dksX2_laySets_7 19 rfl rfl)
theorem dX2_laySets_186 : decode cX2_laySets 186 = .ok (.iload_n 2, 1) := dk_28 (dk_at dksX2_laySets_7 22 rfl rfl)
theorem dX2_laySets_187 : decode cX2_laySets 187 = .ok (.iconst 1, 1) := dk_4 (dk_at dksX2_laySets_7 23 rfl rfl)
theorem dX2_laySets_188 : decode cX2_laySets 188 = .ok (.if_icmp .le 67, 3) := dk_164 0 67 (dk_at dksX2_laySets_8 0 rfl rfl)
theorem dX2_laySets_191 : decode cX2_laySets 191 = .ok (.iload_n 2, 1) := dk_28 (dk_at dksX2_laySets_8 3 rfl rfl)
theorem dX2_laySets_192 : decode cX2_laySets 192 = .ok (.iconst 2, 1) := dk_5 (dk_at dksX2_laySets_8 4 rfl rfl)
theorem dX2_laySets_193 : decode cX2_laySets 193 = .ok (.if_icmp .ne 15, 3) := dk_160 0 15 (dk_at dksX2_laySets_8 5 rfl rfl)
theorem dX2_laySets_196 : decode cX2_laySets 196 = .ok (.aload_n 0, 1) := dk_42 (dk_at dksX2_laySets_8 8 rfl rfl)
theorem dX2_laySets_197 : decode cX2_laySets 197 = .ok (.iconst 1, 1) := dk_4 (dk_at dksX2_laySets_8 9 rfl rfl)
theorem dX2_laySets_198 : decode cX2_laySets 198 = .ok (.iload_n 3, 1) := dk_29 (dk_at dksX2_laySets_8 10 rfl rfl)
theorem dX2_laySets_199 : decode cX2_laySets 199 = .ok (.ishl, 1) := dk_120 (dk_at dksX2_laySets_8 11 rfl rfl)
theorem dX2_laySets_200 : decode cX2_laySets 200 = .ok (.iconst 1, 1) := dk_4 (dk_at dksX2_laySets_8 12 rfl rfl)
theorem dX2_laySets_201 : decode cX2_laySets 201 = .ok (.iload 4, 2) := dk_21 4 (dk_at dksX2_laySets_8 13 rfl rfl)
theorem dX2_laySets_203 : decode cX2_laySets 203 = .ok (.ishl, 1) := dk_120 (dk_at dksX2_laySets_8 15 rfl rfl)
theorem dX2_laySets_204 : decode cX2_laySets 204 = .ok (.ior, 1) := dk_128 (dk_at dksX2_laySets_8 16 rfl rfl)
theorem dX2_laySets_205 : decode cX2_laySets 205 = .ok (.invokevirtual 427, 3) := dk_182 1 171 (dk_at dksX2_laySets_8 17 rfl rfl)
theorem dX2_laySets_208 : decode cX2_laySets 208 = .ok (.iload 4, 2) := dk_21 4 (dk_at dksX2_laySets_8 20 rfl rfl)
theorem dX2_laySets_210 : decode cX2_laySets 210 = .ok (.iconst 1, 1) := dk_4 (dk_at dksX2_laySets_8 22 rfl rfl)
theorem dX2_laySets_211 : decode cX2_laySets 211 = .ok (.iadd, 1) := dk_96 (dk_at dksX2_laySets_8 23 rfl rfl)
theorem dX2_laySets_212 : decode cX2_laySets 212 = .ok (.istore 5, 2) := dk_54 5 (dk_at dksX2_laySets_9 0 rfl rfl)
theorem dX2_laySets_214 : decode cX2_laySets 214 = .ok (.iload 5, 2) := dk_21 5 (dk_at dksX2_laySets_9 2 rfl rfl)
theorem dX2_laySets_216 : decode cX2_laySets 216 = .ok (.bipush 20, 2) := dk_16 20 (dk_at dksX2_laySets_9 4 rfl rfl)
theorem dX2_laySets_218 : decode cX2_laySets 218 = .ok (.if_icmp .ge 31, 3) := dk_162 0 31 (dk_at dksX2_laySets_9 6 rfl rfl)
theorem dX2_laySets_221 : decode cX2_laySets 221 = .ok (.iload_n 2, 1) := dk_28 (dk_at dksX2_laySets_9 9 rfl rfl)
theorem dX2_laySets_222 : decode cX2_laySets 222 = .ok (.iconst 3, 1) := dk_6 (dk_at dksX2_laySets_9 10 rfl rfl)
theorem dX2_laySets_223 : decode cX2_laySets 223 = .ok (.if_icmp .ne 26, 3) := dk_160 0 26 (dk_at dksX2_laySets_9 11 rfl rfl)
theorem dX2_laySets_226 : decode cX2_laySets 226 = .ok (.aload_n 0, 1) := dk_42 (dk_at dksX2_laySets_9 14 rfl rfl)
theorem dX2_laySets_227 : decode cX2_laySets 227 = .ok (.iconst 1, 1) := dk_4 (dk_at dksX2_laySets_9 15 rfl rfl)
theorem dX2_laySets_228 : decode cX2_laySets 228 = .ok (.iload_n 3, 1) := dk_29 (dk_at dksX2_laySets_9 16 rfl rfl)
theorem dX2_laySets_229 : decode cX2_laySets 229 = .ok (.ishl, 1) := dk_120 (dk_at dksX2_laySets_9 17 rfl rfl)
theorem dX2_laySets_230 : decode cX2_laySets 230 = .ok (.iconst 1, 1) := dk_4 (dk_at dksX2_laySets_9 18 rfl rfl)
theorem dX2_laySets_231 : decode cX2_laySets 231 = .ok (.iload 4, 2) := dk_21 4 (dk_at dksX2_laySets_9 19 rfl rfl)
theorem dX2_laySets_233 : decode cX2_laySets 233 = .ok (.ishl, 1) := dk_120 (dk_at dksX2_laySets_9 21 rfl rfl)
theorem dX2_laySets_234 : decode cX2_laySets 234 = .ok (.ior, 1) := dk_128 (dk_at dksX2_laySets_9 22 rfl rfl)
theorem dX2_laySets_235 : decode cX2_laySets 235 = .ok (.iconst 1, 1) := dk_4 (dk_at dksX2_laySets_9 23 rfl rfl)
theorem dX2_laySets_236 : decode cX2_laySets 236 = .ok (.iload 5, 2) := dk_21 5 (dk_at dksX2_laySets_10 0 rfl rfl)
theorem dX2_laySets_238 : decode cX2_laySets 238 = .ok (.ishl, 1) := dk_120 (dk_at dksX2_laySets_10 2 rfl rfl)
theorem dX2_laySets_239 : decode cX2_laySets 239 = .ok (.ior, 1) := dk_128 (dk_at dksX2_laySets_10 3 rfl rfl)
theorem dX2_laySets_240 : decode cX2_laySets 240 = .ok (.invokevirtual 427, 3) := dk_182 1 171 (dk_at dksX2_laySets_10 4 rfl rfl)
theorem dX2_laySets_243 : decode cX2_laySets 243 = .ok (.iinc 5 1, 3) := dk_132 5 1 (dk_at dksX2_laySets_10 7 rfl rfl)
theorem dX2_laySets_246 : decode cX2_laySets 246 = .ok (.goto (-32), 3) := dk_167 255 224 (dk_at dksX2_laySets_10 10 rfl rfl)
theorem dX2_laySets_249 : decode cX2_laySets 249 = .ok (.iinc 4 1, 3) := dk_132 4 1 (dk_at dksX2_laySets_10 13 rfl rfl)
theorem dX2_laySets_252 : decode cX2_laySets 252 = .ok (.goto (-73), 3) := dk_167 255 183 (dk_at dksX2_laySets_10 16 rfl rfl)
theorem dX2_laySets_255 : decode cX2_laySets 255 = .ok (.iinc 3 1, 3) := dk_132 3 1 (dk_at dksX2_laySets_10 19 rfl rfl)
theorem dX2_laySets_258 : decode cX2_laySets 258 = .ok (.goto (-102), 3) := dk_167 255 154 (dk_at dksX2_laySets_11 0 rfl rfl)
theorem dX2_laySets_261 : decode cX2_laySets 261 = .ok (.return_, 1) := dk_177 (dk_at dksX2_laySets_11 3 rfl rfl)
abbrev cX2_note : ByteArray := prog_19_method_112_code
def yX2_note : MethodName := ⟨RX2, "note", "(II)V"⟩
def dkwX2_note_1 : List UInt8 := [180, 1, 158, 4, 27, 120, 128, 181, 1, 158, 177]
abbrev dktX2_note_1 : List UInt8 := dkwX2_note_1 ++ []
def dkwX2_note_0 : List UInt8 := [28, 4, 160, 0, 18, 42, 89, 180, 1, 155, 4, 27, 120, 128, 181, 1, 155, 167, 0, 15, 42, 89]
abbrev dktX2_note_0 : List UInt8 := dkwX2_note_0 ++ dktX2_note_1
theorem dksX2_note_0 : cX2_note.data.toList.drop 0 = dktX2_note_0 := by decide +kernel
theorem dksX2_note_1 : cX2_note.data.toList.drop 22 = dktX2_note_1 := dk_seg dksX2_note_0 22 rfl rfl
theorem dX2_note_0 : decode cX2_note 0 = .ok (.iload_n 2, 1) := dk_28 (dk_at dksX2_note_0 0 rfl rfl)
theorem dX2_note_1 : decode cX2_note 1 = .ok (.iconst 1, 1) := dk_4 (dk_at dksX2_note_0 1 rfl rfl)
theorem dX2_note_2 : decode cX2_note 2 = .ok (.if_icmp .ne 18, 3) := dk_160 0 18 (dk_at dksX2_note_0 2 rfl rfl)
theorem dX2_note_5 : decode cX2_note 5 = .ok (.aload_n 0, 1) := dk_42 (dk_at dksX2_note_0 5 rfl rfl)
theorem dX2_note_6 : decode cX2_note 6 = .ok (.dup, 1) := dk_89 (dk_at dksX2_note_0 6 rfl rfl)
theorem dX2_note_7 : decode cX2_note 7 = .ok (.getfield 411, 3) := dk_180 1 155 (dk_at dksX2_note_0 7 rfl rfl)
theorem dX2_note_10 : decode cX2_note 10 = .ok (.iconst 1, 1) := dk_4 (dk_at dksX2_note_0 10 rfl rfl)
theorem dX2_note_11 : decode cX2_note 11 = .ok (.iload_n 1, 1) := dk_27 (dk_at dksX2_note_0 11 rfl rfl)
theorem dX2_note_12 : decode cX2_note 12 = .ok (.ishl, 1) := dk_120 (dk_at dksX2_note_0 12 rfl rfl)
theorem dX2_note_13 : decode cX2_note 13 = .ok (.ior, 1) := dk_128 (dk_at dksX2_note_0 13 rfl rfl)
theorem dX2_note_14 : decode cX2_note 14 = .ok (.putfield 411, 3) := dk_181 1 155 (dk_at dksX2_note_0 14 rfl rfl)
theorem dX2_note_17 : decode cX2_note 17 = .ok (.goto 15, 3) := dk_167 0 15 (dk_at dksX2_note_0 17 rfl rfl)
theorem dX2_note_20 : decode cX2_note 20 = .ok (.aload_n 0, 1) := dk_42 (dk_at dksX2_note_0 20 rfl rfl)
theorem dX2_note_21 : decode cX2_note 21 = .ok (.dup, 1) := dk_89 (dk_at dksX2_note_0 21 rfl rfl)
theorem dX2_note_22 : decode cX2_note 22 = .ok (.getfield 414, 3) := dk_180 1 158 (dk_at dksX2_note_1 0 rfl rfl)
theorem dX2_note_25 : decode cX2_note 25 = .ok (.iconst 1, 1) := dk_4 (dk_at dksX2_note_1 3 rfl rfl)
theorem dX2_note_26 : decode cX2_note 26 = .ok (.iload_n 1, 1) := dk_27 (dk_at dksX2_note_1 4 rfl rfl)
theorem dX2_note_27 : decode cX2_note 27 = .ok (.ishl, 1) := dk_120 (dk_at dksX2_note_1 5 rfl rfl)
theorem dX2_note_28 : decode cX2_note 28 = .ok (.ior, 1) := dk_128 (dk_at dksX2_note_1 6 rfl rfl)
theorem dX2_note_29 : decode cX2_note 29 = .ok (.putfield 414, 3) := dk_181 1 158 (dk_at dksX2_note_1 7 rfl rfl)
theorem dX2_note_32 : decode cX2_note 32 = .ok (.return_, 1) := dk_177 (dk_at dksX2_note_1 10 rfl rfl)
abbrev cX2_count : ByteArray := prog_19_method_113_code
def yX2_count : MethodName := ⟨RX2, "count", "(I)V"⟩
def dkwX2_count_2 : List UInt8 := [162, 0, 23, 42, 180, 0, 46, 28, 92, 46, 27, 28, 122, 4, 126, 96, 79, 132, 2, 1, 167, 255, 233, 177]
abbrev dktX2_count_2 : List UInt8 := dkwX2_count_2 ++ []
def dkwX2_count_1 : List UInt8 := [180, 1, 161, 4, 96, 181, 1, 161, 42, 89, 180, 1, 164, 27, 126, 181, 1, 164, 3, 61, 28, 16, 20]
abbrev dktX2_count_1 : List UInt8 := dkwX2_count_1 ++ dktX2_count_2
def dkwX2_count_0 : List UInt8 := [42, 180, 1, 155, 27, 2, 130, 126, 154, 0, 12, 42, 180, 1, 158, 27, 126, 153, 0, 4, 177, 42, 89]
abbrev dktX2_count_0 : List UInt8 := dkwX2_count_0 ++ dktX2_count_1
theorem dksX2_count_0 : cX2_count.data.toList.drop 0 = dktX2_count_0 := by decide +kernel
theorem dksX2_count_1 : cX2_count.data.toList.drop 23 = dktX2_count_1 := dk_seg dksX2_count_0 23 rfl rfl
theorem dksX2_count_2 : cX2_count.data.toList.drop 46 = dktX2_count_2 := dk_seg dksX2_count_1 23 rfl rfl
theorem dX2_count_0 : decode cX2_count 0 = .ok (.aload_n 0, 1) := dk_42 (dk_at dksX2_count_0 0 rfl rfl)
theorem dX2_count_1 : decode cX2_count 1 = .ok (.getfield 411, 3) := dk_180 1 155 (dk_at dksX2_count_0 1 rfl rfl)
theorem dX2_count_4 : decode cX2_count 4 = .ok (.iload_n 1, 1) := dk_27 (dk_at dksX2_count_0 4 rfl rfl)
theorem dX2_count_5 : decode cX2_count 5 = .ok (.iconst (-1), 1) := dk_2 (dk_at dksX2_count_0 5 rfl rfl)
theorem dX2_count_6 : decode cX2_count 6 = .ok (.ixor, 1) := dk_130 (dk_at dksX2_count_0 6 rfl rfl)
theorem dX2_count_7 : decode cX2_count 7 = .ok (.iand, 1) := dk_126 (dk_at dksX2_count_0 7 rfl rfl)
theorem dX2_count_8 : decode cX2_count 8 = .ok (.ifCond .ne 12, 3) := dk_154 0 12 (dk_at dksX2_count_0 8 rfl rfl)
theorem dX2_count_11 : decode cX2_count 11 = .ok (.aload_n 0, 1) := dk_42 (dk_at dksX2_count_0 11 rfl rfl)
theorem dX2_count_12 : decode cX2_count 12 = .ok (.getfield 414, 3) := dk_180 1 158 (dk_at dksX2_count_0 12 rfl rfl)
theorem dX2_count_15 : decode cX2_count 15 = .ok (.iload_n 1, 1) := dk_27 (dk_at dksX2_count_0 15 rfl rfl)
theorem dX2_count_16 : decode cX2_count 16 = .ok (.iand, 1) := dk_126 (dk_at dksX2_count_0 16 rfl rfl)
theorem dX2_count_17 : decode cX2_count 17 = .ok (.ifCond .eq 4, 3) := dk_153 0 4 (dk_at dksX2_count_0 17 rfl rfl)
theorem dX2_count_20 : decode cX2_count 20 = .ok (.return_, 1) := dk_177 (dk_at dksX2_count_0 20 rfl rfl)
theorem dX2_count_21 : decode cX2_count 21 = .ok (.aload_n 0, 1) := dk_42 (dk_at dksX2_count_0 21 rfl rfl)
theorem dX2_count_22 : decode cX2_count 22 = .ok (.dup, 1) := dk_89 (dk_at dksX2_count_0 22 rfl rfl)
theorem dX2_count_23 : decode cX2_count 23 = .ok (.getfield 417, 3) := dk_180 1 161 (dk_at dksX2_count_1 0 rfl rfl)
theorem dX2_count_26 : decode cX2_count 26 = .ok (.iconst 1, 1) := dk_4 (dk_at dksX2_count_1 3 rfl rfl)
theorem dX2_count_27 : decode cX2_count 27 = .ok (.iadd, 1) := dk_96 (dk_at dksX2_count_1 4 rfl rfl)
theorem dX2_count_28 : decode cX2_count 28 = .ok (.putfield 417, 3) := dk_181 1 161 (dk_at dksX2_count_1 5 rfl rfl)
theorem dX2_count_31 : decode cX2_count 31 = .ok (.aload_n 0, 1) := dk_42 (dk_at dksX2_count_1 8 rfl rfl)
theorem dX2_count_32 : decode cX2_count 32 = .ok (.dup, 1) := dk_89 (dk_at dksX2_count_1 9 rfl rfl)
theorem dX2_count_33 : decode cX2_count 33 = .ok (.getfield 420, 3) := dk_180 1 164 (dk_at dksX2_count_1 10 rfl rfl)
theorem dX2_count_36 : decode cX2_count 36 = .ok (.iload_n 1, 1) := dk_27 (dk_at dksX2_count_1 13 rfl rfl)
theorem dX2_count_37 : decode cX2_count 37 = .ok (.iand, 1) := dk_126 (dk_at dksX2_count_1 14 rfl rfl)
theorem dX2_count_38 : decode cX2_count 38 = .ok (.putfield 420, 3) := dk_181 1 164 (dk_at dksX2_count_1 15 rfl rfl)
theorem dX2_count_41 : decode cX2_count 41 = .ok (.iconst 0, 1) := dk_3 (dk_at dksX2_count_1 18 rfl rfl)
theorem dX2_count_42 : decode cX2_count 42 = .ok (.istore_n 2, 1) := dk_61 (dk_at dksX2_count_1 19 rfl rfl)
theorem dX2_count_43 : decode cX2_count 43 = .ok (.iload_n 2, 1) := dk_28 (dk_at dksX2_count_1 20 rfl rfl)
theorem dX2_count_44 : decode cX2_count 44 = .ok (.bipush 20, 2) := dk_16 20 (dk_at dksX2_count_1 21 rfl rfl)
theorem dX2_count_46 : decode cX2_count 46 = .ok (.if_icmp .ge 23, 3) := dk_162 0 23 (dk_at dksX2_count_2 0 rfl rfl)
theorem dX2_count_49 : decode cX2_count 49 = .ok (.aload_n 0, 1) := dk_42 (dk_at dksX2_count_2 3 rfl rfl)
theorem dX2_count_50 : decode cX2_count 50 = .ok (.getfield 46, 3) := dk_180 0 46 (dk_at dksX2_count_2 4 rfl rfl)
theorem dX2_count_53 : decode cX2_count 53 = .ok (.iload_n 2, 1) := dk_28 (dk_at dksX2_count_2 7 rfl rfl)
theorem dX2_count_54 : decode cX2_count 54 = .ok (.dup2, 1) := dk_92 (dk_at dksX2_count_2 8 rfl rfl)
theorem dX2_count_55 : decode cX2_count 55 = .ok (.iaload, 1) := dk_46 (dk_at dksX2_count_2 9 rfl rfl)
theorem dX2_count_56 : decode cX2_count 56 = .ok (.iload_n 1, 1) := dk_27 (dk_at dksX2_count_2 10 rfl rfl)
theorem dX2_count_57 : decode cX2_count 57 = .ok (.iload_n 2, 1) := dk_28 (dk_at dksX2_count_2 11 rfl rfl)
theorem dX2_count_58 : decode cX2_count 58 = .ok (.ishr, 1) := dk_122 (dk_at dksX2_count_2 12 rfl rfl)
theorem dX2_count_59 : decode cX2_count 59 = .ok (.iconst 1, 1) := dk_4 (dk_at dksX2_count_2 13 rfl rfl)
theorem dX2_count_60 : decode cX2_count 60 = .ok (.iand, 1) := dk_126 (dk_at dksX2_count_2 14 rfl rfl)
theorem dX2_count_61 : decode cX2_count 61 = .ok (.iadd, 1) := dk_96 (dk_at dksX2_count_2 15 rfl rfl)
theorem dX2_count_62 : decode cX2_count 62 = .ok (.iastore, 1) := dk_79 (dk_at dksX2_count_2 16 rfl rfl)
theorem dX2_count_63 : decode cX2_count 63 = .ok (.iinc 2 1, 3) := dk_132 2 1 (dk_at dksX2_count_2 17 rfl rfl)
theorem dX2_count_66 : decode cX2_count 66 = .ok (.goto (-23), 3) := dk_167 255 233 (dk_at dksX2_count_2 20 rfl rfl)
theorem dX2_count_69 : decode cX2_count 69 = .ok (.return_, 1) := dk_177 (dk_at dksX2_count_2 23 rfl rfl)
abbrev cX2_odds : ByteArray := prog_19_method_117_code
def yX2_odds : MethodName := ⟨RX2, "odds", "(IIIZ)I"⟩
def dkwX2_odds_3 : List UInt8 := [180, 0, 46, 29, 46, 42, 180, 1, 161, 184, 1, 177, 108, 172]
abbrev dktX2_odds_3 : List UInt8 := dkwX2_odds_3 ++ []
def dkwX2_odds_2 : List UInt8 := [167, 0, 4, 3, 172, 21, 4, 153, 0, 10, 42, 180, 1, 161, 167, 0, 9, 42, 180, 0, 46, 29, 46, 42]
abbrev dktX2_odds_2 : List UInt8 := dkwX2_odds_2 ++ dktX2_odds_3
def dkwX2_odds_1 : List UInt8 := [154, 0, 5, 2, 172, 42, 27, 28, 182, 1, 174, 42, 180, 1, 161, 154, 0, 14, 21, 4, 153, 0, 7, 4]
abbrev dktX2_odds_1 : List UInt8 := dkwX2_odds_1 ++ dktX2_odds_2
def dkwX2_odds_0 : List UInt8 := [42, 27, 182, 0, 69, 153, 0, 22, 28, 4, 6, 184, 0, 65, 153, 0, 13, 29, 3, 16, 19, 184, 0, 65]
abbrev dktX2_odds_0 : List UInt8 := dkwX2_odds_0 ++ dktX2_odds_1
theorem dksX2_odds_0 : cX2_odds.data.toList.drop 0 = dktX2_odds_0 := by decide +kernel
theorem dksX2_odds_1 : cX2_odds.data.toList.drop 24 = dktX2_odds_1 := dk_seg dksX2_odds_0 24 rfl rfl
theorem dksX2_odds_2 : cX2_odds.data.toList.drop 48 = dktX2_odds_2 := dk_seg dksX2_odds_1 24 rfl rfl
theorem dksX2_odds_3 : cX2_odds.data.toList.drop 72 = dktX2_odds_3 := dk_seg dksX2_odds_2 24 rfl rfl
theorem dX2_odds_0 : decode cX2_odds 0 = .ok (.aload_n 0, 1) := dk_42 (dk_at dksX2_odds_0 0 rfl rfl)
theorem dX2_odds_1 : decode cX2_odds 1 = .ok (.iload_n 1, 1) := dk_27 (dk_at dksX2_odds_0 1 rfl rfl)
theorem dX2_odds_2 : decode cX2_odds 2 = .ok (.invokevirtual 69, 3) := dk_182 0 69 (dk_at dksX2_odds_0 2 rfl rfl)
theorem dX2_odds_5 : decode cX2_odds 5 = .ok (.ifCond .eq 22, 3) := dk_153 0 22 (dk_at dksX2_odds_0 5 rfl rfl)
theorem dX2_odds_8 : decode cX2_odds 8 = .ok (.iload_n 2, 1) := dk_28 (dk_at dksX2_odds_0 8 rfl rfl)
theorem dX2_odds_9 : decode cX2_odds 9 = .ok (.iconst 1, 1) := dk_4 (dk_at dksX2_odds_0 9 rfl rfl)
theorem dX2_odds_10 : decode cX2_odds 10 = .ok (.iconst 3, 1) := dk_6 (dk_at dksX2_odds_0 10 rfl rfl)
theorem dX2_odds_11 : decode cX2_odds 11 = .ok (.invokestatic 65, 3) := dk_184 0 65 (dk_at dksX2_odds_0 11 rfl rfl)
theorem dX2_odds_14 : decode cX2_odds 14 = .ok (.ifCond .eq 13, 3) := dk_153 0 13 (dk_at dksX2_odds_0 14 rfl rfl)
theorem dX2_odds_17 : decode cX2_odds 17 = .ok (.iload_n 3, 1) := dk_29 (dk_at dksX2_odds_0 17 rfl rfl)
theorem dX2_odds_18 : decode cX2_odds 18 = .ok (.iconst 0, 1) := dk_3 (dk_at dksX2_odds_0 18 rfl rfl)
theorem dX2_odds_19 : decode cX2_odds 19 = .ok (.bipush 19, 2) := dk_16 19 (dk_at dksX2_odds_0 19 rfl rfl)
theorem dX2_odds_21 : decode cX2_odds 21 = .ok (.invokestatic 65, 3) := dk_184 0 65 (dk_at dksX2_odds_0 21 rfl rfl)
theorem dX2_odds_24 : decode cX2_odds 24 = .ok (.ifCond .ne 5, 3) := dk_154 0 5 (dk_at dksX2_odds_1 0 rfl rfl)
theorem dX2_odds_27 : decode cX2_odds 27 = .ok (.iconst (-1), 1) := dk_2 (dk_at dksX2_odds_1 3 rfl rfl)
theorem dX2_odds_28 : decode cX2_odds 28 = .ok (.ireturn, 1) := dk_172 (dk_at dksX2_odds_1 4 rfl rfl)
theorem dX2_odds_29 : decode cX2_odds 29 = .ok (.aload_n 0, 1) := dk_42 (dk_at dksX2_odds_1 5 rfl rfl)
theorem dX2_odds_30 : decode cX2_odds 30 = .ok (.iload_n 1, 1) := dk_27 (dk_at dksX2_odds_1 6 rfl rfl)
theorem dX2_odds_31 : decode cX2_odds 31 = .ok (.iload_n 2, 1) := dk_28 (dk_at dksX2_odds_1 7 rfl rfl)
theorem dX2_odds_32 : decode cX2_odds 32 = .ok (.invokevirtual 430, 3) := dk_182 1 174 (dk_at dksX2_odds_1 8 rfl rfl)
theorem dX2_odds_35 : decode cX2_odds 35 = .ok (.aload_n 0, 1) := dk_42 (dk_at dksX2_odds_1 11 rfl rfl)
theorem dX2_odds_36 : decode cX2_odds 36 = .ok (.getfield 417, 3) := dk_180 1 161 (dk_at dksX2_odds_1 12 rfl rfl)
theorem dX2_odds_39 : decode cX2_odds 39 = .ok (.ifCond .ne 14, 3) := dk_154 0 14 (dk_at dksX2_odds_1 15 rfl rfl)
theorem dX2_odds_42 : decode cX2_odds 42 = .ok (.iload 4, 2) := dk_21 4 (dk_at dksX2_odds_1 18 rfl rfl)
theorem dX2_odds_44 : decode cX2_odds 44 = .ok (.ifCond .eq 7, 3) := dk_153 0 7 (dk_at dksX2_odds_1 20 rfl rfl)
theorem dX2_odds_47 : decode cX2_odds 47 = .ok (.iconst 1, 1) := dk_4 (dk_at dksX2_odds_1 23 rfl rfl)
theorem dX2_odds_48 : decode cX2_odds 48 = .ok (.goto 4, 3) := dk_167 0 4 (dk_at dksX2_odds_2 0 rfl rfl)
theorem dX2_odds_51 : decode cX2_odds 51 = .ok (.iconst 0, 1) := dk_3 (dk_at dksX2_odds_2 3 rfl rfl)
theorem dX2_odds_52 : decode cX2_odds 52 = .ok (.ireturn, 1) := dk_172 (dk_at dksX2_odds_2 4 rfl rfl)
theorem dX2_odds_53 : decode cX2_odds 53 = .ok (.iload 4, 2) := dk_21 4 (dk_at dksX2_odds_2 5 rfl rfl)
theorem dX2_odds_55 : decode cX2_odds 55 = .ok (.ifCond .eq 10, 3) := dk_153 0 10 (dk_at dksX2_odds_2 7 rfl rfl)
theorem dX2_odds_58 : decode cX2_odds 58 = .ok (.aload_n 0, 1) := dk_42 (dk_at dksX2_odds_2 10 rfl rfl)
theorem dX2_odds_59 : decode cX2_odds 59 = .ok (.getfield 417, 3) := dk_180 1 161 (dk_at dksX2_odds_2 11 rfl rfl)
theorem dX2_odds_62 : decode cX2_odds 62 = .ok (.goto 9, 3) := dk_167 0 9 (dk_at dksX2_odds_2 14 rfl rfl)
theorem dX2_odds_65 : decode cX2_odds 65 = .ok (.aload_n 0, 1) := dk_42 (dk_at dksX2_odds_2 17 rfl rfl)
theorem dX2_odds_66 : decode cX2_odds 66 = .ok (.getfield 46, 3) := dk_180 0 46 (dk_at dksX2_odds_2 18 rfl rfl)
theorem dX2_odds_69 : decode cX2_odds 69 = .ok (.iload_n 3, 1) := dk_29 (dk_at dksX2_odds_2 21 rfl rfl)
theorem dX2_odds_70 : decode cX2_odds 70 = .ok (.iaload, 1) := dk_46 (dk_at dksX2_odds_2 22 rfl rfl)
theorem dX2_odds_71 : decode cX2_odds 71 = .ok (.aload_n 0, 1) := dk_42 (dk_at dksX2_odds_2 23 rfl rfl)
theorem dX2_odds_72 : decode cX2_odds 72 = .ok (.getfield 46, 3) := dk_180 0 46 (dk_at dksX2_odds_3 0 rfl rfl)
theorem dX2_odds_75 : decode cX2_odds 75 = .ok (.iload_n 3, 1) := dk_29 (dk_at dksX2_odds_3 3 rfl rfl)
theorem dX2_odds_76 : decode cX2_odds 76 = .ok (.iaload, 1) := dk_46 (dk_at dksX2_odds_3 4 rfl rfl)
theorem dX2_odds_77 : decode cX2_odds 77 = .ok (.aload_n 0, 1) := dk_42 (dk_at dksX2_odds_3 5 rfl rfl)
theorem dX2_odds_78 : decode cX2_odds 78 = .ok (.getfield 417, 3) := dk_180 1 161 (dk_at dksX2_odds_3 6 rfl rfl)
theorem dX2_odds_81 : decode cX2_odds 81 = .ok (.invokestatic 433, 3) := dk_184 1 177 (dk_at dksX2_odds_3 9 rfl rfl)
theorem dX2_odds_84 : decode cX2_odds 84 = .ok (.idiv, 1) := dk_108 (dk_at dksX2_odds_3 12 rfl rfl)
theorem dX2_odds_85 : decode cX2_odds 85 = .ok (.ireturn, 1) := dk_172 (dk_at dksX2_odds_3 13 rfl rfl)
abbrev cX2_common : ByteArray := prog_19_method_116_code
def yX2_common : MethodName := ⟨RX2, "common", "(II)I"⟩
def dkwX2_common_0 : List UInt8 := [26, 61, 27, 62, 29, 153, 0, 16, 28, 29, 112, 54, 4, 29, 61, 21, 4, 62, 167, 255, 242, 28, 172]
abbrev dktX2_common_0 : List UInt8 := dkwX2_common_0 ++ []
theorem dksX2_common_0 : cX2_common.data.toList.drop 0 = dktX2_common_0 := by decide +kernel
theorem dX2_common_0 : decode cX2_common 0 = .ok (.iload_n 0, 1) := dk_26 (dk_at dksX2_common_0 0 rfl rfl)
theorem dX2_common_1 : decode cX2_common 1 = .ok (.istore_n 2, 1) := dk_61 (dk_at dksX2_common_0 1 rfl rfl)
theorem dX2_common_2 : decode cX2_common 2 = .ok (.iload_n 1, 1) := dk_27 (dk_at dksX2_common_0 2 rfl rfl)
theorem dX2_common_3 : decode cX2_common 3 = .ok (.istore_n 3, 1) := dk_62 (dk_at dksX2_common_0 3 rfl rfl)
theorem dX2_common_4 : decode cX2_common 4 = .ok (.iload_n 3, 1) := dk_29 (dk_at dksX2_common_0 4 rfl rfl)
theorem dX2_common_5 : decode cX2_common 5 = .ok (.ifCond .eq 16, 3) := dk_153 0 16 (dk_at dksX2_common_0 5 rfl rfl)
theorem dX2_common_8 : decode cX2_common 8 = .ok (.iload_n 2, 1) := dk_28 (dk_at dksX2_common_0 8 rfl rfl)
theorem dX2_common_9 : decode cX2_common 9 = .ok (.iload_n 3, 1) := dk_29 (dk_at dksX2_common_0 9 rfl rfl)
theorem dX2_common_10 : decode cX2_common 10 = .ok (.irem, 1) := dk_112 (dk_at dksX2_common_0 10 rfl rfl)
theorem dX2_common_11 : decode cX2_common 11 = .ok (.istore 4, 2) := dk_54 4 (dk_at dksX2_common_0 11 rfl rfl)
theorem dX2_common_13 : decode cX2_common 13 = .ok (.iload_n 3, 1) := dk_29 (dk_at dksX2_common_0 13 rfl rfl)
theorem dX2_common_14 : decode cX2_common 14 = .ok (.istore_n 2, 1) := dk_61 (dk_at dksX2_common_0 14 rfl rfl)
theorem dX2_common_15 : decode cX2_common 15 = .ok (.iload 4, 2) := dk_21 4 (dk_at dksX2_common_0 15 rfl rfl)
theorem dX2_common_17 : decode cX2_common 17 = .ok (.istore_n 3, 1) := dk_62 (dk_at dksX2_common_0 17 rfl rfl)
theorem dX2_common_18 : decode cX2_common 18 = .ok (.goto (-14), 3) := dk_167 255 242 (dk_at dksX2_common_0 18 rfl rfl)
theorem dX2_common_21 : decode cX2_common 21 = .ok (.iload_n 2, 1) := dk_28 (dk_at dksX2_common_0 21 rfl rfl)
theorem dX2_common_22 : decode cX2_common 22 = .ok (.ireturn, 1) := dk_172 (dk_at dksX2_common_0 22 rfl rfl)
abbrev cX2_nextKnock : ByteArray := prog_19_method_118_code
def yX2_nextKnock : MethodName := ⟨RX2, "nextKnock", "(II)I"⟩
def dkwX2_nextKnock_6 : List UInt8 := [172]
abbrev dktX2_nextKnock_6 : List UInt8 := dkwX2_nextKnock_6 ++ []
def dkwX2_nextKnock_5 : List UInt8 := [21, 6, 21, 4, 161, 0, 6, 167, 0, 10, 21, 6, 54, 4, 21, 5, 62, 132, 5, 1, 167, 255, 156, 29]
abbrev dktX2_nextKnock_5 : List UInt8 := dkwX2_nextKnock_5 ++ dktX2_nextKnock_6
def dkwX2_nextKnock_4 : List UInt8 := [180, 0, 46, 21, 5, 46, 153, 0, 34, 42, 180, 0, 46, 21, 5, 46, 42, 180, 1, 161, 159, 0, 20]
abbrev dktX2_nextKnock_4 : List UInt8 := dkwX2_nextKnock_4 ++ dktX2_nextKnock_5
def dkwX2_nextKnock_3 : List UInt8 := [180, 1, 161, 100, 167, 0, 17, 42, 180, 1, 161, 5, 42, 180, 0, 46, 21, 5, 46, 104, 100, 54, 6, 42]
abbrev dktX2_nextKnock_3 : List UInt8 := dkwX2_nextKnock_3 ++ dktX2_nextKnock_4
def dkwX2_nextKnock_2 : List UInt8 := [180, 0, 46, 21, 5, 46, 104, 42, 180, 1, 161, 164, 0, 20, 5, 42, 180, 0, 46, 21, 5, 46, 104, 42]
abbrev dktX2_nextKnock_2 : List UInt8 := dkwX2_nextKnock_2 ++ dktX2_nextKnock_3
def dkwX2_nextKnock_1 : List UInt8 := [182, 1, 174, 2, 62, 19, 1, 180, 54, 4, 3, 54, 5, 21, 5, 16, 20, 162, 0, 99, 5, 42]
abbrev dktX2_nextKnock_1 : List UInt8 := dkwX2_nextKnock_1 ++ dktX2_nextKnock_2
def dkwX2_nextKnock_0 : List UInt8 := [42, 27, 182, 0, 69, 153, 0, 12, 28, 4, 6, 184, 0, 65, 154, 0, 5, 2, 172, 42, 27, 28]
abbrev dktX2_nextKnock_0 : List UInt8 := dkwX2_nextKnock_0 ++ dktX2_nextKnock_1
theorem dksX2_nextKnock_0 : cX2_nextKnock.data.toList.drop 0 = dktX2_nextKnock_0 := by decide +kernel
theorem dksX2_nextKnock_1 : cX2_nextKnock.data.toList.drop 22 = dktX2_nextKnock_1 := dk_seg dksX2_nextKnock_0 22 rfl rfl
theorem dksX2_nextKnock_2 : cX2_nextKnock.data.toList.drop 44 = dktX2_nextKnock_2 := dk_seg dksX2_nextKnock_1 22 rfl rfl
theorem dksX2_nextKnock_3 : cX2_nextKnock.data.toList.drop 68 = dktX2_nextKnock_3 := dk_seg dksX2_nextKnock_2 24 rfl rfl
theorem dksX2_nextKnock_4 : cX2_nextKnock.data.toList.drop 92 = dktX2_nextKnock_4 := dk_seg dksX2_nextKnock_3 24 rfl rfl
theorem dksX2_nextKnock_5 : cX2_nextKnock.data.toList.drop 115 = dktX2_nextKnock_5 := dk_seg dksX2_nextKnock_4 23 rfl rfl
theorem dksX2_nextKnock_6 : cX2_nextKnock.data.toList.drop 139 = dktX2_nextKnock_6 := dk_seg dksX2_nextKnock_5 24 rfl rfl
theorem dX2_nextKnock_0 : decode cX2_nextKnock 0 = .ok (.aload_n 0, 1) := dk_42 (dk_at dksX2_nextKnock_0 0 rfl rfl)
theorem dX2_nextKnock_1 : decode cX2_nextKnock 1 = .ok (.iload_n 1, 1) := dk_27 (dk_at dksX2_nextKnock_0 1 rfl rfl)
theorem dX2_nextKnock_2 : decode cX2_nextKnock 2 = .ok (.invokevirtual 69, 3) := dk_182 0 69 (dk_at dksX2_nextKnock_0 2 rfl rfl)
theorem dX2_nextKnock_5 : decode cX2_nextKnock 5 = .ok (.ifCond .eq 12, 3) := dk_153 0 12 (dk_at dksX2_nextKnock_0 5 rfl rfl)
theorem dX2_nextKnock_8 : decode cX2_nextKnock 8 = .ok (.iload_n 2, 1) := dk_28 (dk_at dksX2_nextKnock_0 8 rfl rfl)
theorem dX2_nextKnock_9 : decode cX2_nextKnock 9 = .ok (.iconst 1, 1) := dk_4 (dk_at dksX2_nextKnock_0 9 rfl rfl)
theorem dX2_nextKnock_10 : decode cX2_nextKnock 10 = .ok (.iconst 3, 1) := dk_6 (dk_at dksX2_nextKnock_0 10 rfl rfl)
theorem dX2_nextKnock_11 : decode cX2_nextKnock 11 = .ok (.invokestatic 65, 3) := dk_184 0 65 (dk_at dksX2_nextKnock_0 11 rfl rfl)
theorem dX2_nextKnock_14 : decode cX2_nextKnock 14 = .ok (.ifCond .ne 5, 3) := dk_154 0 5 (dk_at dksX2_nextKnock_0 14 rfl rfl)
theorem dX2_nextKnock_17 : decode cX2_nextKnock 17 = .ok (.iconst (-1), 1) := dk_2 (dk_at dksX2_nextKnock_0 17 rfl rfl)
theorem dX2_nextKnock_18 : decode cX2_nextKnock 18 = .ok (.ireturn, 1) := dk_172 (dk_at dksX2_nextKnock_0 18 rfl rfl)
theorem dX2_nextKnock_19 : decode cX2_nextKnock 19 = .ok (.aload_n 0, 1) := dk_42 (dk_at dksX2_nextKnock_0 19 rfl rfl)
theorem dX2_nextKnock_20 : decode cX2_nextKnock 20 = .ok (.iload_n 1, 1) := dk_27 (dk_at dksX2_nextKnock_0 20 rfl rfl)
theorem dX2_nextKnock_21 : decode cX2_nextKnock 21 = .ok (.iload_n 2, 1) := dk_28 (dk_at dksX2_nextKnock_0 21 rfl rfl)
theorem dX2_nextKnock_22 : decode cX2_nextKnock 22 = .ok (.invokevirtual 430, 3) := dk_182 1 174 (dk_at dksX2_nextKnock_1 0 rfl rfl)
theorem dX2_nextKnock_25 : decode cX2_nextKnock 25 = .ok (.iconst (-1), 1) := dk_2 (dk_at dksX2_nextKnock_1 3 rfl rfl)
theorem dX2_nextKnock_26 : decode cX2_nextKnock 26 = .ok (.istore_n 3, 1) := dk_62 (dk_at dksX2_nextKnock_1 4 rfl rfl)
theorem dX2_nextKnock_27 : decode cX2_nextKnock 27 = .ok (.ldc_w 436, 3) := dk_19 1 180 (dk_at dksX2_nextKnock_1 5 rfl rfl)
theorem dX2_nextKnock_30 : decode cX2_nextKnock 30 = .ok (.istore 4, 2) := dk_54 4 (dk_at dksX2_nextKnock_1 8 rfl rfl)
theorem dX2_nextKnock_32 : decode cX2_nextKnock 32 = .ok (.iconst 0, 1) := dk_3 (dk_at dksX2_nextKnock_1 10 rfl rfl)
theorem dX2_nextKnock_33 : decode cX2_nextKnock 33 = .ok (.istore 5, 2) := dk_54 5 (dk_at dksX2_nextKnock_1 11 rfl rfl)
theorem dX2_nextKnock_35 : decode cX2_nextKnock 35 = .ok (.iload 5, 2) := dk_21 5 (dk_at dksX2_nextKnock_1 13 rfl rfl)
theorem dX2_nextKnock_37 : decode cX2_nextKnock 37 = .ok (.bipush 20, 2) := dk_16 20 (dk_at dksX2_nextKnock_1 15 rfl rfl)
theorem dX2_nextKnock_39 : decode cX2_nextKnock 39 = .ok (.if_icmp .ge 99, 3) := dk_162 0 99 (dk_at dksX2_nextKnock_1 17 rfl rfl)
theorem dX2_nextKnock_42 : decode cX2_nextKnock 42 = .ok (.iconst 2, 1) := dk_5 (dk_at dksX2_nextKnock_1 20 rfl rfl)
theorem dX2_nextKnock_43 : decode cX2_nextKnock 43 = .ok (.aload_n 0, 1) := dk_42 (dk_at dksX2_nextKnock_1 21 rfl rfl)
theorem dX2_nextKnock_44 : decode cX2_nextKnock 44 = .ok (.getfield 46, 3) := dk_180 0 46 (dk_at dksX2_nextKnock_2 0 rfl rfl)
theorem dX2_nextKnock_47 : decode cX2_nextKnock 47 = .ok (.iload 5, 2) := dk_21 5 (dk_at dksX2_nextKnock_2 3 rfl rfl)
theorem dX2_nextKnock_49 : decode cX2_nextKnock 49 = .ok (.iaload, 1) := dk_46 (dk_at dksX2_nextKnock_2 5 rfl rfl)
theorem dX2_nextKnock_50 : decode cX2_nextKnock 50 = .ok (.imul, 1) := dk_104 (dk_at dksX2_nextKnock_2 6 rfl rfl)
theorem dX2_nextKnock_51 : decode cX2_nextKnock 51 = .ok (.aload_n 0, 1) := dk_42 (dk_at dksX2_nextKnock_2 7 rfl rfl)
theorem dX2_nextKnock_52 : decode cX2_nextKnock 52 = .ok (.getfield 417, 3) := dk_180 1 161 (dk_at dksX2_nextKnock_2 8 rfl rfl)
theorem dX2_nextKnock_55 : decode cX2_nextKnock 55 = .ok (.if_icmp .le 20, 3) := dk_164 0 20 (dk_at dksX2_nextKnock_2 11 rfl rfl)
theorem dX2_nextKnock_58 : decode cX2_nextKnock 58 = .ok (.iconst 2, 1) := dk_5 (dk_at dksX2_nextKnock_2 14 rfl rfl)
theorem dX2_nextKnock_59 : decode cX2_nextKnock 59 = .ok (.aload_n 0, 1) := dk_42 (dk_at dksX2_nextKnock_2 15 rfl rfl)
theorem dX2_nextKnock_60 : decode cX2_nextKnock 60 = .ok (.getfield 46, 3) := dk_180 0 46 (dk_at dksX2_nextKnock_2 16 rfl rfl)
theorem dX2_nextKnock_63 : decode cX2_nextKnock 63 = .ok (.iload 5, 2) := dk_21 5 (dk_at dksX2_nextKnock_2 19 rfl rfl)
theorem dX2_nextKnock_65 : decode cX2_nextKnock 65 = .ok (.iaload, 1) := dk_46 (dk_at dksX2_nextKnock_2 21 rfl rfl)
theorem dX2_nextKnock_66 : decode cX2_nextKnock 66 = .ok (.imul, 1) := dk_104 (dk_at dksX2_nextKnock_2 22 rfl rfl)
theorem dX2_nextKnock_67 : decode cX2_nextKnock 67 = .ok (.aload_n 0, 1) := dk_42 (dk_at dksX2_nextKnock_2 23 rfl rfl)
theorem dX2_nextKnock_68 : decode cX2_nextKnock 68 = .ok (.getfield 417, 3) := dk_180 1 161 (dk_at dksX2_nextKnock_3 0 rfl rfl)
theorem dX2_nextKnock_71 : decode cX2_nextKnock 71 = .ok (.isub, 1) := dk_100 (dk_at dksX2_nextKnock_3 3 rfl rfl)
theorem dX2_nextKnock_72 : decode cX2_nextKnock 72 = .ok (.goto 17, 3) := dk_167 0 17 (dk_at dksX2_nextKnock_3 4 rfl rfl)
theorem dX2_nextKnock_75 : decode cX2_nextKnock 75 = .ok (.aload_n 0, 1) := dk_42 (dk_at dksX2_nextKnock_3 7 rfl rfl)
theorem dX2_nextKnock_76 : decode cX2_nextKnock 76 = .ok (.getfield 417, 3) := dk_180 1 161 (dk_at dksX2_nextKnock_3 8 rfl rfl)
theorem dX2_nextKnock_79 : decode cX2_nextKnock 79 = .ok (.iconst 2, 1) := dk_5 (dk_at dksX2_nextKnock_3 11 rfl rfl)
theorem dX2_nextKnock_80 : decode cX2_nextKnock 80 = .ok (.aload_n 0, 1) := dk_42 (dk_at dksX2_nextKnock_3 12 rfl rfl)
theorem dX2_nextKnock_81 : decode cX2_nextKnock 81 = .ok (.getfield 46, 3) := dk_180 0 46 (dk_at dksX2_nextKnock_3 13 rfl rfl)
theorem dX2_nextKnock_84 : decode cX2_nextKnock 84 = .ok (.iload 5, 2) := dk_21 5 (dk_at dksX2_nextKnock_3 16 rfl rfl)
theorem dX2_nextKnock_86 : decode cX2_nextKnock 86 = .ok (.iaload, 1) := dk_46 (dk_at dksX2_nextKnock_3 18 rfl rfl)
theorem dX2_nextKnock_87 : decode cX2_nextKnock 87 = .ok (.imul, 1) := dk_104 (dk_at dksX2_nextKnock_3 19 rfl rfl)
theorem dX2_nextKnock_88 : decode cX2_nextKnock 88 = .ok (.isub, 1) := dk_100 (dk_at dksX2_nextKnock_3 20 rfl rfl)
theorem dX2_nextKnock_89 : decode cX2_nextKnock 89 = .ok (.istore 6, 2) := dk_54 6 (dk_at dksX2_nextKnock_3 21 rfl rfl)
theorem dX2_nextKnock_91 : decode cX2_nextKnock 91 = .ok (.aload_n 0, 1) := dk_42 (dk_at dksX2_nextKnock_3 23 rfl rfl)
theorem dX2_nextKnock_92 : decode cX2_nextKnock 92 = .ok (.getfield 46, 3) := dk_180 0 46 (dk_at dksX2_nextKnock_4 0 rfl rfl)
theorem dX2_nextKnock_95 : decode cX2_nextKnock 95 = .ok (.iload 5, 2) := dk_21 5 (dk_at dksX2_nextKnock_4 3 rfl rfl)
theorem dX2_nextKnock_97 : decode cX2_nextKnock 97 = .ok (.iaload, 1) := dk_46 (dk_at dksX2_nextKnock_4 5 rfl rfl)
theorem dX2_nextKnock_98 : decode cX2_nextKnock 98 = .ok (.ifCond .eq 34, 3) := dk_153 0 34 (dk_at dksX2_nextKnock_4 6 rfl rfl)
theorem dX2_nextKnock_101 : decode cX2_nextKnock 101 = .ok (.aload_n 0, 1) := dk_42 (dk_at dksX2_nextKnock_4 9 rfl rfl)
theorem dX2_nextKnock_102 : decode cX2_nextKnock 102 = .ok (.getfield 46, 3) := dk_180 0 46 (dk_at dksX2_nextKnock_4 10 rfl rfl)
theorem dX2_nextKnock_105 : decode cX2_nextKnock 105 = .ok (.iload 5, 2) := dk_21 5 (dk_at dksX2_nextKnock_4 13 rfl rfl)
theorem dX2_nextKnock_107 : decode cX2_nextKnock 107 = .ok (.iaload, 1) := dk_46 (dk_at dksX2_nextKnock_4 15 rfl rfl)
theorem dX2_nextKnock_108 : decode cX2_nextKnock 108 = .ok (.aload_n 0, 1) := dk_42 (dk_at dksX2_nextKnock_4 16 rfl rfl)
theorem dX2_nextKnock_109 : decode cX2_nextKnock 109 = .ok (.getfield 417, 3) := dk_180 1 161 (dk_at dksX2_nextKnock_4 17 rfl rfl)
theorem dX2_nextKnock_112 : decode cX2_nextKnock 112 = .ok (.if_icmp .eq 20, 3) := dk_159 0 20 (dk_at dksX2_nextKnock_4 20 rfl rfl)
theorem dX2_nextKnock_115 : decode cX2_nextKnock 115 = .ok (.iload 6, 2) := dk_21 6 (dk_at dksX2_nextKnock_5 0 rfl rfl)
theorem dX2_nextKnock_117 : decode cX2_nextKnock 117 = .ok (.iload 4, 2) := dk_21 4 (dk_at dksX2_nextKnock_5 2 rfl rfl)
theorem dX2_nextKnock_119 : decode cX2_nextKnock 119 = .ok (.if_icmp .lt 6, 3) := dk_161 0 6 (dk_at dksX2_nextKnock_5 4 rfl rfl)
theorem dX2_nextKnock_122 : decode cX2_nextKnock 122 = .ok (.goto 10, 3) := dk_167 0 10 (dk_at dksX2_nextKnock_5 7 rfl rfl)
theorem dX2_nextKnock_125 : decode cX2_nextKnock 125 = .ok (.iload 6, 2) := dk_21 6 (dk_at dksX2_nextKnock_5 10 rfl rfl)
theorem dX2_nextKnock_127 : decode cX2_nextKnock 127 = .ok (.istore 4, 2) := dk_54 4 (dk_at dksX2_nextKnock_5 12 rfl rfl)
theorem dX2_nextKnock_129 : decode cX2_nextKnock 129 = .ok (.iload 5, 2) := dk_21 5 (dk_at dksX2_nextKnock_5 14 rfl rfl)
theorem dX2_nextKnock_131 : decode cX2_nextKnock 131 = .ok (.istore_n 3, 1) := dk_62 (dk_at dksX2_nextKnock_5 16 rfl rfl)
theorem dX2_nextKnock_132 : decode cX2_nextKnock 132 = .ok (.iinc 5 1, 3) := dk_132 5 1 (dk_at dksX2_nextKnock_5 17 rfl rfl)
theorem dX2_nextKnock_135 : decode cX2_nextKnock 135 = .ok (.goto (-100), 3) := dk_167 255 156 (dk_at dksX2_nextKnock_5 20 rfl rfl)
theorem dX2_nextKnock_138 : decode cX2_nextKnock 138 = .ok (.iload_n 3, 1) := dk_29 (dk_at dksX2_nextKnock_5 23 rfl rfl)
theorem dX2_nextKnock_139 : decode cX2_nextKnock 139 = .ok (.ireturn, 1) := dk_172 (dk_at dksX2_nextKnock_6 0 rfl rfl)
abbrev cX2_thieves : ByteArray := prog_19_method_120_code
def yX2_thieves : MethodName := ⟨RX2, "thieves", "(IIZ)I"⟩
def dkwX2_thieves_1 : List UInt8 := [27, 28, 182, 1, 187, 29, 153, 0, 10, 42, 180, 1, 184, 167, 0, 7, 42, 180, 1, 181, 172]
abbrev dktX2_thieves_1 : List UInt8 := dkwX2_thieves_1 ++ []
def dkwX2_thieves_0 : List UInt8 := [27, 3, 16, 19, 184, 0, 65, 153, 0, 13, 28, 4, 16, 7, 184, 0, 65, 154, 0, 6, 16, 254, 172, 42]
abbrev dktX2_thieves_0 : List UInt8 := dkwX2_thieves_0 ++ dktX2_thieves_1
theorem dksX2_thieves_0 : cX2_thieves.data.toList.drop 0 = dktX2_thieves_0 := by decide +kernel
theorem dksX2_thieves_1 : cX2_thieves.data.toList.drop 24 = dktX2_thieves_1 := dk_seg dksX2_thieves_0 24 rfl rfl
theorem dX2_thieves_0 : decode cX2_thieves 0 = .ok (.iload_n 1, 1) := dk_27 (dk_at dksX2_thieves_0 0 rfl rfl)
theorem dX2_thieves_1 : decode cX2_thieves 1 = .ok (.iconst 0, 1) := dk_3 (dk_at dksX2_thieves_0 1 rfl rfl)
theorem dX2_thieves_2 : decode cX2_thieves 2 = .ok (.bipush 19, 2) := dk_16 19 (dk_at dksX2_thieves_0 2 rfl rfl)
theorem dX2_thieves_4 : decode cX2_thieves 4 = .ok (.invokestatic 65, 3) := dk_184 0 65 (dk_at dksX2_thieves_0 4 rfl rfl)
theorem dX2_thieves_7 : decode cX2_thieves 7 = .ok (.ifCond .eq 13, 3) := dk_153 0 13 (dk_at dksX2_thieves_0 7 rfl rfl)
theorem dX2_thieves_10 : decode cX2_thieves 10 = .ok (.iload_n 2, 1) := dk_28 (dk_at dksX2_thieves_0 10 rfl rfl)
theorem dX2_thieves_11 : decode cX2_thieves 11 = .ok (.iconst 1, 1) := dk_4 (dk_at dksX2_thieves_0 11 rfl rfl)
theorem dX2_thieves_12 : decode cX2_thieves 12 = .ok (.bipush 7, 2) := dk_16 7 (dk_at dksX2_thieves_0 12 rfl rfl)
theorem dX2_thieves_14 : decode cX2_thieves 14 = .ok (.invokestatic 65, 3) := dk_184 0 65 (dk_at dksX2_thieves_0 14 rfl rfl)
theorem dX2_thieves_17 : decode cX2_thieves 17 = .ok (.ifCond .ne 6, 3) := dk_154 0 6 (dk_at dksX2_thieves_0 17 rfl rfl)
theorem dX2_thieves_20 : decode cX2_thieves 20 = .ok (.bipush (-2), 2) := dk_16 254 (dk_at dksX2_thieves_0 20 rfl rfl)
theorem dX2_thieves_22 : decode cX2_thieves 22 = .ok (.ireturn, 1) := dk_172 (dk_at dksX2_thieves_0 22 rfl rfl)
theorem dX2_thieves_23 : decode cX2_thieves 23 = .ok (.aload_n 0, 1) := dk_42 (dk_at dksX2_thieves_0 23 rfl rfl)
theorem dX2_thieves_24 : decode cX2_thieves 24 = .ok (.iload_n 1, 1) := dk_27 (dk_at dksX2_thieves_1 0 rfl rfl)
theorem dX2_thieves_25 : decode cX2_thieves 25 = .ok (.iload_n 2, 1) := dk_28 (dk_at dksX2_thieves_1 1 rfl rfl)
theorem dX2_thieves_26 : decode cX2_thieves 26 = .ok (.invokevirtual 443, 3) := dk_182 1 187 (dk_at dksX2_thieves_1 2 rfl rfl)
theorem dX2_thieves_29 : decode cX2_thieves 29 = .ok (.iload_n 3, 1) := dk_29 (dk_at dksX2_thieves_1 5 rfl rfl)
theorem dX2_thieves_30 : decode cX2_thieves 30 = .ok (.ifCond .eq 10, 3) := dk_153 0 10 (dk_at dksX2_thieves_1 6 rfl rfl)
theorem dX2_thieves_33 : decode cX2_thieves 33 = .ok (.aload_n 0, 1) := dk_42 (dk_at dksX2_thieves_1 9 rfl rfl)
theorem dX2_thieves_34 : decode cX2_thieves 34 = .ok (.getfield 440, 3) := dk_180 1 184 (dk_at dksX2_thieves_1 10 rfl rfl)
theorem dX2_thieves_37 : decode cX2_thieves 37 = .ok (.goto 7, 3) := dk_167 0 7 (dk_at dksX2_thieves_1 13 rfl rfl)
theorem dX2_thieves_40 : decode cX2_thieves 40 = .ok (.aload_n 0, 1) := dk_42 (dk_at dksX2_thieves_1 16 rfl rfl)
theorem dX2_thieves_41 : decode cX2_thieves 41 = .ok (.getfield 437, 3) := dk_180 1 181 (dk_at dksX2_thieves_1 17 rfl rfl)
theorem dX2_thieves_44 : decode cX2_thieves 44 = .ok (.ireturn, 1) := dk_172 (dk_at dksX2_thieves_1 20 rfl rfl)
abbrev cX2_layThieves : ByteArray := prog_19_method_119_code
def yX2_layThieves : MethodName := ⟨RX2, "layThieves", "(II)V"⟩
def dkwX2_layThieves_5 : List UInt8 := [181, 1, 181, 42, 29, 181, 1, 184, 132, 6, 1, 167, 255, 160, 132, 3, 1, 167, 255, 135, 177]
abbrev dktX2_layThieves_5 : List UInt8 := dkwX2_layThieves_5 ++ []
def dkwX2_layThieves_4 : List UInt8 := [42, 180, 1, 184, 2, 159, 0, 15, 21, 4, 42, 180, 1, 181, 163, 0, 6, 167, 0, 14, 42, 21, 4]
abbrev dktX2_layThieves_4 : List UInt8 := dkwX2_layThieves_4 ++ dktX2_layThieves_5
def dkwX2_layThieves_3 : List UInt8 := [182, 0, 77, 154, 0, 6, 167, 0, 49, 132, 5, 1, 21, 4, 42, 21, 6, 4, 182, 0, 73, 96, 54, 4]
abbrev dktX2_layThieves_3 : List UInt8 := dkwX2_layThieves_3 ++ dktX2_layThieves_4
def dkwX2_layThieves_2 : List UInt8 := [162, 0, 83, 42, 21, 6, 27, 182, 1, 46, 154, 0, 73, 21, 5, 28, 162, 0, 67, 42, 21, 6]
abbrev dktX2_layThieves_2 : List UInt8 := dkwX2_layThieves_2 ++ dktX2_layThieves_3
def dkwX2_layThieves_1 : List UInt8 := [54, 4, 3, 54, 5, 29, 54, 6, 42, 29, 182, 0, 77, 153, 0, 94, 21, 6, 42, 180, 0, 7, 3, 46]
abbrev dktX2_layThieves_1 : List UInt8 := dkwX2_layThieves_1 ++ dktX2_layThieves_2
def dkwX2_layThieves_0 : List UInt8 := [42, 3, 181, 1, 181, 42, 2, 181, 1, 184, 3, 62, 29, 42, 180, 0, 7, 3, 46, 162, 0, 117, 3]
abbrev dktX2_layThieves_0 : List UInt8 := dkwX2_layThieves_0 ++ dktX2_layThieves_1
theorem dksX2_layThieves_0 : cX2_layThieves.data.toList.drop 0 = dktX2_layThieves_0 := by decide +kernel
theorem dksX2_layThieves_1 : cX2_layThieves.data.toList.drop 23 = dktX2_layThieves_1 := dk_seg dksX2_layThieves_0 23 rfl rfl
theorem dksX2_layThieves_2 : cX2_layThieves.data.toList.drop 47 = dktX2_layThieves_2 := dk_seg dksX2_layThieves_1 24 rfl rfl
theorem dksX2_layThieves_3 : cX2_layThieves.data.toList.drop 69 = dktX2_layThieves_3 := dk_seg dksX2_layThieves_2 22 rfl rfl
theorem dksX2_layThieves_4 : cX2_layThieves.data.toList.drop 93 = dktX2_layThieves_4 := dk_seg dksX2_layThieves_3 24 rfl rfl
theorem dksX2_layThieves_5 : cX2_layThieves.data.toList.drop 116 = dktX2_layThieves_5 := dk_seg dksX2_layThieves_4 23 rfl rfl
theorem dX2_layThieves_0 : decode cX2_layThieves 0 = .ok (.aload_n 0, 1) := dk_42 (dk_at dksX2_layThieves_0 0 rfl rfl)
theorem dX2_layThieves_1 : decode cX2_layThieves 1 = .ok (.iconst 0, 1) := dk_3 (dk_at dksX2_layThieves_0 1 rfl rfl)
theorem dX2_layThieves_2 : decode cX2_layThieves 2 = .ok (.putfield 437, 3) := dk_181 1 181 (dk_at dksX2_layThieves_0 2 rfl rfl)
theorem dX2_layThieves_5 : decode cX2_layThieves 5 = .ok (.aload_n 0, 1) := dk_42 (dk_at dksX2_layThieves_0 5 rfl rfl)
theorem dX2_layThieves_6 : decode cX2_layThieves 6 = .ok (.iconst (-1), 1) := dk_2 (dk_at dksX2_layThieves_0 6 rfl rfl)
theorem dX2_layThieves_7 : decode cX2_layThieves 7 = .ok (.putfield 440, 3) := dk_181 1 184 (dk_at dksX2_layThieves_0 7 rfl rfl)
theorem dX2_layThieves_10 : decode cX2_layThieves 10 = .ok (.iconst 0, 1) := dk_3 (dk_at dksX2_layThieves_0 10 rfl rfl)
theorem dX2_layThieves_11 : decode cX2_layThieves 11 = .ok (.istore_n 3, 1) := dk_62 (dk_at dksX2_layThieves_0 11 rfl rfl)
theorem dX2_layThieves_12 : decode cX2_layThieves 12 = .ok (.iload_n 3, 1) := dk_29 (dk_at dksX2_layThieves_0 12 rfl rfl)
theorem dX2_layThieves_13 : decode cX2_layThieves 13 = .ok (.aload_n 0, 1) := dk_42 (dk_at dksX2_layThieves_0 13 rfl rfl)
theorem dX2_layThieves_14 : decode cX2_layThieves 14 = .ok (.getfield 7, 3) := dk_180 0 7 (dk_at dksX2_layThieves_0 14 rfl rfl)
theorem dX2_layThieves_17 : decode cX2_layThieves 17 = .ok (.iconst 0, 1) := dk_3 (dk_at dksX2_layThieves_0 17 rfl rfl)
theorem dX2_layThieves_18 : decode cX2_layThieves 18 = .ok (.iaload, 1) := dk_46 (dk_at dksX2_layThieves_0 18 rfl rfl)
theorem dX2_layThieves_19 : decode cX2_layThieves 19 = .ok (.if_icmp .ge 117, 3) := dk_162 0 117 (dk_at dksX2_layThieves_0 19 rfl rfl)
theorem dX2_layThieves_22 : decode cX2_layThieves 22 = .ok (.iconst 0, 1) := dk_3 (dk_at dksX2_layThieves_0 22 rfl rfl)
theorem dX2_layThieves_23 : decode cX2_layThieves 23 = .ok (.istore 4, 2) := dk_54 4 (dk_at dksX2_layThieves_1 0 rfl rfl)
theorem dX2_layThieves_25 : decode cX2_layThieves 25 = .ok (.iconst 0, 1) := dk_3 (dk_at dksX2_layThieves_1 2 rfl rfl)
theorem dX2_layThieves_26 : decode cX2_layThieves 26 = .ok (.istore 5, 2) := dk_54 5 (dk_at dksX2_layThieves_1 3 rfl rfl)
theorem dX2_layThieves_28 : decode cX2_layThieves 28 = .ok (.iload_n 3, 1) := dk_29 (dk_at dksX2_layThieves_1 5 rfl rfl)
theorem dX2_layThieves_29 : decode cX2_layThieves 29 = .ok (.istore 6, 2) := dk_54 6 (dk_at dksX2_layThieves_1 6 rfl rfl)
theorem dX2_layThieves_31 : decode cX2_layThieves 31 = .ok (.aload_n 0, 1) := dk_42 (dk_at dksX2_layThieves_1 8 rfl rfl)
theorem dX2_layThieves_32 : decode cX2_layThieves 32 = .ok (.iload_n 3, 1) := dk_29 (dk_at dksX2_layThieves_1 9 rfl rfl)
theorem dX2_layThieves_33 : decode cX2_layThieves 33 = .ok (.invokevirtual 77, 3) := dk_182 0 77 (dk_at dksX2_layThieves_1 10 rfl rfl)
theorem dX2_layThieves_36 : decode cX2_layThieves 36 = .ok (.ifCond .eq 94, 3) := dk_153 0 94 (dk_at dksX2_layThieves_1 13 rfl rfl)
theorem dX2_layThieves_39 : decode cX2_layThieves 39 = .ok (.iload 6, 2) := dk_21 6 (dk_at dksX2_layThieves_1 16 rfl rfl)
theorem dX2_layThieves_41 : decode cX2_layThieves 41 = .ok (.aload_n 0, 1) := dk_42 (dk_at dksX2_layThieves_1 18 rfl rfl)
theorem dX2_layThieves_42 : decode cX2_layThieves 42 = .ok (.getfield 7, 3) := dk_180 0 7 (dk_at dksX2_layThieves_1 19 rfl rfl)
theorem dX2_layThieves_45 : decode cX2_layThieves 45 = .ok (.iconst 0, 1) := dk_3 (dk_at dksX2_layThieves_1 22 rfl rfl)
theorem dX2_layThieves_46 : decode cX2_layThieves 46 = .ok (.iaload, 1) := dk_46 (dk_at dksX2_layThieves_1 23 rfl rfl)
theorem dX2_layThieves_47 : decode cX2_layThieves 47 = .ok (.if_icmp .ge 83, 3) := dk_162 0 83 (dk_at dksX2_layThieves_2 0 rfl rfl)
theorem dX2_layThieves_50 : decode cX2_layThieves 50 = .ok (.aload_n 0, 1) := dk_42 (dk_at dksX2_layThieves_2 3 rfl rfl)
theorem dX2_layThieves_51 : decode cX2_layThieves 51 = .ok (.iload 6, 2) := dk_21 6 (dk_at dksX2_layThieves_2 4 rfl rfl)
theorem dX2_layThieves_53 : decode cX2_layThieves 53 = .ok (.iload_n 1, 1) := dk_27 (dk_at dksX2_layThieves_2 6 rfl rfl)
theorem dX2_layThieves_54 : decode cX2_layThieves 54 = .ok (.invokevirtual 302, 3) := dk_182 1 46 (dk_at dksX2_layThieves_2 7 rfl rfl)
theorem dX2_layThieves_57 : decode cX2_layThieves 57 = .ok (.ifCond .ne 73, 3) := dk_154 0 73 (dk_at dksX2_layThieves_2 10 rfl rfl)
theorem dX2_layThieves_60 : decode cX2_layThieves 60 = .ok (.iload 5, 2) := dk_21 5 (dk_at dksX2_layThieves_2 13 rfl rfl)
theorem dX2_layThieves_62 : decode cX2_layThieves 62 = .ok (.iload_n 2, 1) := dk_28 (dk_at dksX2_layThieves_2 15 rfl rfl)
theorem dX2_layThieves_63 : decode cX2_layThieves 63 = .ok (.if_icmp .ge 67, 3) := dk_162 0 67 (dk_at dksX2_layThieves_2 16 rfl rfl)
theorem dX2_layThieves_66 : decode cX2_layThieves 66 = .ok (.aload_n 0, 1) := dk_42 (dk_at dksX2_layThieves_2 19 rfl rfl)
theorem dX2_layThieves_67 : decode cX2_layThieves 67 = .ok (.iload 6, 2) := dk_21 6 (dk_at dksX2_layThieves_2 20 rfl rfl)
theorem dX2_layThieves_69 : decode cX2_layThieves 69 = .ok (.invokevirtual 77, 3) := dk_182 0 77 (dk_at dksX2_layThieves_3 0 rfl rfl)
theorem dX2_layThieves_72 : decode cX2_layThieves 72 = .ok (.ifCond .ne 6, 3) := dk_154 0 6 (dk_at dksX2_layThieves_3 3 rfl rfl)
theorem dX2_layThieves_75 : decode cX2_layThieves 75 = .ok (.goto 49, 3) := dk_167 0 49 (dk_at dksX2_layThieves_3 6 rfl rfl)
theorem dX2_layThieves_78 : decode cX2_layThieves 78 = .ok (.iinc 5 1, 3) := dk_132 5 1 (dk_at dksX2_layThieves_3 9 rfl rfl)
theorem dX2_layThieves_81 : decode cX2_layThieves 81 = .ok (.iload 4, 2) := dk_21 4 (dk_at dksX2_layThieves_3 12 rfl rfl)
theorem dX2_layThieves_83 : decode cX2_layThieves 83 = .ok (.aload_n 0, 1) := dk_42 (dk_at dksX2_layThieves_3 14 rfl rfl)
theorem dX2_layThieves_84 : decode cX2_layThieves 84 = .ok (.iload 6, 2) := dk_21 6 (dk_at dksX2_layThieves_3 15 rfl rfl)
theorem dX2_layThieves_86 : decode cX2_layThieves 86 = .ok (.iconst 1, 1) := dk_4 (dk_at dksX2_layThieves_3 17 rfl rfl)
theorem dX2_layThieves_87 : decode cX2_layThieves 87 = .ok (.invokevirtual 73, 3) := dk_182 0 73 (dk_at dksX2_layThieves_3 18 rfl rfl)
theorem dX2_layThieves_90 : decode cX2_layThieves 90 = .ok (.iadd, 1) := dk_96 (dk_at dksX2_layThieves_3 21 rfl rfl)
theorem dX2_layThieves_91 : decode cX2_layThieves 91 = .ok (.istore 4, 2) := dk_54 4 (dk_at dksX2_layThieves_3 22 rfl rfl)
theorem dX2_layThieves_93 : decode cX2_layThieves 93 = .ok (.aload_n 0, 1) := dk_42 (dk_at dksX2_layThieves_4 0 rfl rfl)
theorem dX2_layThieves_94 : decode cX2_layThieves 94 = .ok (.getfield 440, 3) := dk_180 1 184 (dk_at dksX2_layThieves_4 1 rfl rfl)
theorem dX2_layThieves_97 : decode cX2_layThieves 97 = .ok (.iconst (-1), 1) := dk_2 (dk_at dksX2_layThieves_4 4 rfl rfl)
theorem dX2_layThieves_98 : decode cX2_layThieves 98 = .ok (.if_icmp .eq 15, 3) := dk_159 0 15 (dk_at dksX2_layThieves_4 5 rfl rfl)
theorem dX2_layThieves_101 : decode cX2_layThieves 101 = .ok (.iload 4, 2) := dk_21 4 (dk_at dksX2_layThieves_4 8 rfl rfl)
theorem dX2_layThieves_103 : decode cX2_layThieves 103 = .ok (.aload_n 0, 1) := dk_42 (dk_at dksX2_layThieves_4 10 rfl rfl)
theorem dX2_layThieves_104 : decode cX2_layThieves 104 = .ok (.getfield 437, 3) := dk_180 1 181 (dk_at dksX2_layThieves_4 11 rfl rfl)
theorem dX2_layThieves_107 : decode cX2_layThieves 107 = .ok (.if_icmp .gt 6, 3) := dk_163 0 6 (dk_at dksX2_layThieves_4 14 rfl rfl)
theorem dX2_layThieves_110 : decode cX2_layThieves 110 = .ok (.goto 14, 3) := dk_167 0 14 (dk_at dksX2_layThieves_4 17 rfl rfl)
theorem dX2_layThieves_113 : decode cX2_layThieves 113 = .ok (.aload_n 0, 1) := dk_42 (dk_at dksX2_layThieves_4 20 rfl rfl)
theorem dX2_layThieves_114 : decode cX2_layThieves 114 = .ok (.iload 4, 2) := dk_21 4 (dk_at dksX2_layThieves_4 21 rfl rfl)
theorem dX2_layThieves_116 : decode cX2_layThieves 116 = .ok (.putfield 437, 3) := dk_181 1 181 (dk_at dksX2_layThieves_5 0 rfl rfl)
theorem dX2_layThieves_119 : decode cX2_layThieves 119 = .ok (.aload_n 0, 1) := dk_42 (dk_at dksX2_layThieves_5 3 rfl rfl)
theorem dX2_layThieves_120 : decode cX2_layThieves 120 = .ok (.iload_n 3, 1) := dk_29 (dk_at dksX2_layThieves_5 4 rfl rfl)
theorem dX2_layThieves_121 : decode cX2_layThieves 121 = .ok (.putfield 440, 3) := dk_181 1 184 (dk_at dksX2_layThieves_5 5 rfl rfl)
theorem dX2_layThieves_124 : decode cX2_layThieves 124 = .ok (.iinc 6 1, 3) := dk_132 6 1 (dk_at dksX2_layThieves_5 8 rfl rfl)
theorem dX2_layThieves_127 : decode cX2_layThieves 127 = .ok (.goto (-96), 3) := dk_167 255 160 (dk_at dksX2_layThieves_5 11 rfl rfl)
theorem dX2_layThieves_130 : decode cX2_layThieves 130 = .ok (.iinc 3 1, 3) := dk_132 3 1 (dk_at dksX2_layThieves_5 14 rfl rfl)
theorem dX2_layThieves_133 : decode cX2_layThieves 133 = .ok (.goto (-121), 3) := dk_167 255 135 (dk_at dksX2_layThieves_5 17 rfl rfl)
theorem dX2_layThieves_136 : decode cX2_layThieves 136 = .ok (.return_, 1) := dk_177 (dk_at dksX2_layThieves_5 20 rfl rfl)
abbrev cX2_night : ByteArray := prog_19_method_121_code
def yX2_night : MethodName := ⟨RX2, "night", "(I)I"⟩
def dkwX2_night_2 : List UInt8 := [180, 1, 181, 62, 21, 4, 61, 132, 4, 1, 167, 255, 220, 28, 172]
abbrev dktX2_night_2 : List UInt8 := dkwX2_night_2 ++ []
def dkwX2_night_1 : List UInt8 := [162, 0, 35, 42, 21, 4, 27, 182, 1, 187, 42, 180, 1, 181, 29, 163, 0, 6, 167, 0, 11, 42]
abbrev dktX2_night_1 : List UInt8 := dkwX2_night_1 ++ dktX2_night_2
def dkwX2_night_0 : List UInt8 := [27, 4, 16, 7, 184, 0, 65, 154, 0, 5, 2, 172, 3, 61, 3, 62, 3, 54, 4, 21, 4, 16, 20]
abbrev dktX2_night_0 : List UInt8 := dkwX2_night_0 ++ dktX2_night_1
theorem dksX2_night_0 : cX2_night.data.toList.drop 0 = dktX2_night_0 := by decide +kernel
theorem dksX2_night_1 : cX2_night.data.toList.drop 23 = dktX2_night_1 := dk_seg dksX2_night_0 23 rfl rfl
theorem dksX2_night_2 : cX2_night.data.toList.drop 45 = dktX2_night_2 := dk_seg dksX2_night_1 22 rfl rfl
theorem dX2_night_0 : decode cX2_night 0 = .ok (.iload_n 1, 1) := dk_27 (dk_at dksX2_night_0 0 rfl rfl)
theorem dX2_night_1 : decode cX2_night 1 = .ok (.iconst 1, 1) := dk_4 (dk_at dksX2_night_0 1 rfl rfl)
theorem dX2_night_2 : decode cX2_night 2 = .ok (.bipush 7, 2) := dk_16 7 (dk_at dksX2_night_0 2 rfl rfl)
theorem dX2_night_4 : decode cX2_night 4 = .ok (.invokestatic 65, 3) := dk_184 0 65 (dk_at dksX2_night_0 4 rfl rfl)
theorem dX2_night_7 : decode cX2_night 7 = .ok (.ifCond .ne 5, 3) := dk_154 0 5 (dk_at dksX2_night_0 7 rfl rfl)
theorem dX2_night_10 : decode cX2_night 10 = .ok (.iconst (-1), 1) := dk_2 (dk_at dksX2_night_0 10 rfl rfl)
theorem dX2_night_11 : decode cX2_night 11 = .ok (.ireturn, 1) := dk_172 (dk_at dksX2_night_0 11 rfl rfl)
theorem dX2_night_12 : decode cX2_night 12 = .ok (.iconst 0, 1) := dk_3 (dk_at dksX2_night_0 12 rfl rfl)
theorem dX2_night_13 : decode cX2_night 13 = .ok (.istore_n 2, 1) := dk_61 (dk_at dksX2_night_0 13 rfl rfl)
theorem dX2_night_14 : decode cX2_night 14 = .ok (.iconst 0, 1) := dk_3 (dk_at dksX2_night_0 14 rfl rfl)
theorem dX2_night_15 : decode cX2_night 15 = .ok (.istore_n 3, 1) := dk_62 (dk_at dksX2_night_0 15 rfl rfl)
theorem dX2_night_16 : decode cX2_night 16 = .ok (.iconst 0, 1) := dk_3 (dk_at dksX2_night_0 16 rfl rfl)
theorem dX2_night_17 : decode cX2_night 17 = .ok (.istore 4, 2) := dk_54 4 (dk_at dksX2_night_0 17 rfl rfl)
theorem dX2_night_19 : decode cX2_night 19 = .ok (.iload 4, 2) := dk_21 4 (dk_at dksX2_night_0 19 rfl rfl)
theorem dX2_night_21 : decode cX2_night 21 = .ok (.bipush 20, 2) := dk_16 20 (dk_at dksX2_night_0 21 rfl rfl)
theorem dX2_night_23 : decode cX2_night 23 = .ok (.if_icmp .ge 35, 3) := dk_162 0 35 (dk_at dksX2_night_1 0 rfl rfl)
theorem dX2_night_26 : decode cX2_night 26 = .ok (.aload_n 0, 1) := dk_42 (dk_at dksX2_night_1 3 rfl rfl)
theorem dX2_night_27 : decode cX2_night 27 = .ok (.iload 4, 2) := dk_21 4 (dk_at dksX2_night_1 4 rfl rfl)
theorem dX2_night_29 : decode cX2_night 29 = .ok (.iload_n 1, 1) := dk_27 (dk_at dksX2_night_1 6 rfl rfl)
theorem dX2_night_30 : decode cX2_night 30 = .ok (.invokevirtual 443, 3) := dk_182 1 187 (dk_at dksX2_night_1 7 rfl rfl)
theorem dX2_night_33 : decode cX2_night 33 = .ok (.aload_n 0, 1) := dk_42 (dk_at dksX2_night_1 10 rfl rfl)
theorem dX2_night_34 : decode cX2_night 34 = .ok (.getfield 437, 3) := dk_180 1 181 (dk_at dksX2_night_1 11 rfl rfl)
theorem dX2_night_37 : decode cX2_night 37 = .ok (.iload_n 3, 1) := dk_29 (dk_at dksX2_night_1 14 rfl rfl)
theorem dX2_night_38 : decode cX2_night 38 = .ok (.if_icmp .gt 6, 3) := dk_163 0 6 (dk_at dksX2_night_1 15 rfl rfl)
theorem dX2_night_41 : decode cX2_night 41 = .ok (.goto 11, 3) := dk_167 0 11 (dk_at dksX2_night_1 18 rfl rfl)
theorem dX2_night_44 : decode cX2_night 44 = .ok (.aload_n 0, 1) := dk_42 (dk_at dksX2_night_1 21 rfl rfl)
theorem dX2_night_45 : decode cX2_night 45 = .ok (.getfield 437, 3) := dk_180 1 181 (dk_at dksX2_night_2 0 rfl rfl)
theorem dX2_night_48 : decode cX2_night 48 = .ok (.istore_n 3, 1) := dk_62 (dk_at dksX2_night_2 3 rfl rfl)
theorem dX2_night_49 : decode cX2_night 49 = .ok (.iload 4, 2) := dk_21 4 (dk_at dksX2_night_2 4 rfl rfl)
theorem dX2_night_51 : decode cX2_night 51 = .ok (.istore_n 2, 1) := dk_61 (dk_at dksX2_night_2 6 rfl rfl)
theorem dX2_night_52 : decode cX2_night 52 = .ok (.iinc 4 1, 3) := dk_132 4 1 (dk_at dksX2_night_2 7 rfl rfl)
theorem dX2_night_55 : decode cX2_night 55 = .ok (.goto (-36), 3) := dk_167 255 220 (dk_at dksX2_night_2 10 rfl rfl)
theorem dX2_night_58 : decode cX2_night 58 = .ok (.iload_n 2, 1) := dk_28 (dk_at dksX2_night_2 13 rfl rfl)
theorem dX2_night_59 : decode cX2_night 59 = .ok (.ireturn, 1) := dk_172 (dk_at dksX2_night_2 14 rfl rfl)
abbrev cX2_appointments : ByteArray := prog_19_method_125_code
def yX2_appointments : MethodName := ⟨RX2, "appointments", "(II)I"⟩
def dkwX2_appointments_5 : List UInt8 := [167, 0, 9, 42, 180, 0, 52, 28, 46, 172, 132, 6, 1, 167, 255, 217, 132, 4, 1, 167, 255, 181]
abbrev dktX2_appointments_5 : List UInt8 := dkwX2_appointments_5 ++ []
def dkwX2_appointments_4 : List UInt8 := [162, 0, 38, 42, 21, 6, 29, 21, 4, 182, 1, 196, 153, 0, 20, 28, 2, 160, 0, 8, 21, 4]
abbrev dktX2_appointments_4 : List UInt8 := dkwX2_appointments_4 ++ dktX2_appointments_5
def dkwX2_appointments_3 : List UInt8 := [162, 0, 17, 21, 5, 29, 4, 96, 104, 54, 5, 132, 6, 1, 167, 255, 238, 3, 54, 6, 21, 6, 21, 5]
abbrev dktX2_appointments_3 : List UInt8 := dkwX2_appointments_3 ++ dktX2_appointments_4
def dkwX2_appointments_2 : List UInt8 := [16, 254, 172, 42, 27, 182, 1, 193, 62, 29, 54, 4, 4, 54, 5, 3, 54, 6, 21, 6, 21, 4]
abbrev dktX2_appointments_2 : List UInt8 := dkwX2_appointments_2 ++ dktX2_appointments_3
def dkwX2_appointments_1 : List UInt8 := [153, 0, 24, 28, 2, 159, 0, 22, 42, 28, 182, 0, 69, 153, 0, 11, 27, 28, 184, 0, 80, 154, 0, 6]
abbrev dktX2_appointments_1 : List UInt8 := dkwX2_appointments_1 ++ dktX2_appointments_2
def dkwX2_appointments_0 : List UInt8 := [27, 4, 16, 127, 184, 0, 65, 153, 0, 40, 27, 184, 1, 49, 8, 163, 0, 32, 42, 27, 182, 1, 190]
abbrev dktX2_appointments_0 : List UInt8 := dkwX2_appointments_0 ++ dktX2_appointments_1
theorem dksX2_appointments_0 : cX2_appointments.data.toList.drop 0 = dktX2_appointments_0 := by decide +kernel
theorem dksX2_appointments_1 : cX2_appointments.data.toList.drop 23 = dktX2_appointments_1 := dk_seg dksX2_appointments_0 23 rfl rfl
theorem dksX2_appointments_2 : cX2_appointments.data.toList.drop 47 = dktX2_appointments_2 := dk_seg dksX2_appointments_1 24 rfl rfl
theorem dksX2_appointments_3 : cX2_appointments.data.toList.drop 69 = dktX2_appointments_3 := dk_seg dksX2_appointments_2 22 rfl rfl
theorem dksX2_appointments_4 : cX2_appointments.data.toList.drop 93 = dktX2_appointments_4 := dk_seg dksX2_appointments_3 24 rfl rfl
theorem dksX2_appointments_5 : cX2_appointments.data.toList.drop 115 = dktX2_appointments_5 := dk_seg dksX2_appointments_4 22 rfl rfl
theorem dX2_appointments_0 : decode cX2_appointments 0 = .ok (.iload_n 1, 1) := dk_27 (dk_at dksX2_appointments_0 0 rfl rfl)
theorem dX2_appointments_1 : decode cX2_appointments 1 = .ok (.iconst 1, 1) := dk_4 (dk_at dksX2_appointments_0 1 rfl rfl)
theorem dX2_appointments_2 : decode cX2_appointments 2 = .ok (.bipush 127, 2) := dk_16 127 (dk_at dksX2_appointments_0 2 rfl rfl)
theorem dX2_appointments_4 : decode cX2_appointments 4 = .ok (.invokestatic 65, 3) := dk_184 0 65 (dk_at dksX2_appointments_0 4 rfl rfl)
theorem dX2_appointments_7 : decode cX2_appointments 7 = .ok (.ifCond .eq 40, 3) := dk_153 0 40 (dk_at dksX2_appointments_0 7 rfl rfl)
theorem dX2_appointments_10 : decode cX2_appointments 10 = .ok (.iload_n 1, 1) := dk_27 (dk_at dksX2_appointments_0 10 rfl rfl)
theorem dX2_appointments_11 : decode cX2_appointments 11 = .ok (.invokestatic 305, 3) := dk_184 1 49 (dk_at dksX2_appointments_0 11 rfl rfl)
theorem dX2_appointments_14 : decode cX2_appointments 14 = .ok (.iconst 5, 1) := dk_8 (dk_at dksX2_appointments_0 14 rfl rfl)
theorem dX2_appointments_15 : decode cX2_appointments 15 = .ok (.if_icmp .gt 32, 3) := dk_163 0 32 (dk_at dksX2_appointments_0 15 rfl rfl)
theorem dX2_appointments_18 : decode cX2_appointments 18 = .ok (.aload_n 0, 1) := dk_42 (dk_at dksX2_appointments_0 18 rfl rfl)
theorem dX2_appointments_19 : decode cX2_appointments 19 = .ok (.iload_n 1, 1) := dk_27 (dk_at dksX2_appointments_0 19 rfl rfl)
theorem dX2_appointments_20 : decode cX2_appointments 20 = .ok (.invokevirtual 446, 3) := dk_182 1 190 (dk_at dksX2_appointments_0 20 rfl rfl)
theorem dX2_appointments_23 : decode cX2_appointments 23 = .ok (.ifCond .eq 24, 3) := dk_153 0 24 (dk_at dksX2_appointments_1 0 rfl rfl)
theorem dX2_appointments_26 : decode cX2_appointments 26 = .ok (.iload_n 2, 1) := dk_28 (dk_at dksX2_appointments_1 3 rfl rfl)
theorem dX2_appointments_27 : decode cX2_appointments 27 = .ok (.iconst (-1), 1) := dk_2 (dk_at dksX2_appointments_1 4 rfl rfl)
theorem dX2_appointments_28 : decode cX2_appointments 28 = .ok (.if_icmp .eq 22, 3) := dk_159 0 22 (dk_at dksX2_appointments_1 5 rfl rfl)
theorem dX2_appointments_31 : decode cX2_appointments 31 = .ok (.aload_n 0, 1) := dk_42 (dk_at dksX2_appointments_1 8 rfl rfl)
theorem dX2_appointments_32 : decode cX2_appointments 32 = .ok (.iload_n 2, 1) := dk_28 (dk_at dksX2_appointments_1 9 rfl rfl)
theorem dX2_appointments_33 : decode cX2_appointments 33 = .ok (.invokevirtual 69, 3) := dk_182 0 69 (dk_at dksX2_appointments_1 10 rfl rfl)
theorem dX2_appointments_36 : decode cX2_appointments 36 = .ok (.ifCond .eq 11, 3) := dk_153 0 11 (dk_at dksX2_appointments_1 13 rfl rfl)
theorem dX2_appointments_39 : decode cX2_appointments 39 = .ok (.iload_n 1, 1) := dk_27 (dk_at dksX2_appointments_1 16 rfl rfl)
theorem dX2_appointments_40 : decode cX2_appointments 40 = .ok (.iload_n 2, 1) := dk_28 (dk_at dksX2_appointments_1 17 rfl rfl)
theorem dX2_appointments_41 : decode cX2_appointments 41 = .ok (.invokestatic 80, 3) := dk_184 0 80 (dk_at dksX2_appointments_1 18 rfl rfl)
theorem dX2_appointments_44 : decode cX2_appointments 44 = .ok (.ifCond .ne 6, 3) := dk_154 0 6 (dk_at dksX2_appointments_1 21 rfl rfl)
theorem dX2_appointments_47 : decode cX2_appointments 47 = .ok (.bipush (-2), 2) := dk_16 254 (dk_at dksX2_appointments_2 0 rfl rfl)
theorem dX2_appointments_49 : decode cX2_appointments 49 = .ok (.ireturn, 1) := dk_172 (dk_at dksX2_appointments_2 2 rfl rfl)
theorem dX2_appointments_50 : decode cX2_appointments 50 = .ok (.aload_n 0, 1) := dk_42 (dk_at dksX2_appointments_2 3 rfl rfl)
theorem dX2_appointments_51 : decode cX2_appointments 51 = .ok (.iload_n 1, 1) := dk_27 (dk_at dksX2_appointments_2 4 rfl rfl)
theorem dX2_appointments_52 : decode cX2_appointments 52 = .ok (.invokevirtual 449, 3) := dk_182 1 193 (dk_at dksX2_appointments_2 5 rfl rfl)
theorem dX2_appointments_55 : decode cX2_appointments 55 = .ok (.istore_n 3, 1) := dk_62 (dk_at dksX2_appointments_2 8 rfl rfl)
theorem dX2_appointments_56 : decode cX2_appointments 56 = .ok (.iload_n 3, 1) := dk_29 (dk_at dksX2_appointments_2 9 rfl rfl)
theorem dX2_appointments_57 : decode cX2_appointments 57 = .ok (.istore 4, 2) := dk_54 4 (dk_at dksX2_appointments_2 10 rfl rfl)
theorem dX2_appointments_59 : decode cX2_appointments 59 = .ok (.iconst 1, 1) := dk_4 (dk_at dksX2_appointments_2 12 rfl rfl)
theorem dX2_appointments_60 : decode cX2_appointments 60 = .ok (.istore 5, 2) := dk_54 5 (dk_at dksX2_appointments_2 13 rfl rfl)
theorem dX2_appointments_62 : decode cX2_appointments 62 = .ok (.iconst 0, 1) := dk_3 (dk_at dksX2_appointments_2 15 rfl rfl)
theorem dX2_appointments_63 : decode cX2_appointments 63 = .ok (.istore 6, 2) := dk_54 6 (dk_at dksX2_appointments_2 16 rfl rfl)
theorem dX2_appointments_65 : decode cX2_appointments 65 = .ok (.iload 6, 2) := dk_21 6 (dk_at dksX2_appointments_2 18 rfl rfl)
theorem dX2_appointments_67 : decode cX2_appointments 67 = .ok (.iload 4, 2) := dk_21 4 (dk_at dksX2_appointments_2 20 rfl rfl)
theorem dX2_appointments_69 : decode cX2_appointments 69 = .ok (.if_icmp .ge 17, 3) := dk_162 0 17 (dk_at dksX2_appointments_3 0 rfl rfl)
theorem dX2_appointments_72 : decode cX2_appointments 72 = .ok (.iload 5, 2) := dk_21 5 (dk_at dksX2_appointments_3 3 rfl rfl)
theorem dX2_appointments_74 : decode cX2_appointments 74 = .ok (.iload_n 3, 1) := dk_29 (dk_at dksX2_appointments_3 5 rfl rfl)
theorem dX2_appointments_75 : decode cX2_appointments 75 = .ok (.iconst 1, 1) := dk_4 (dk_at dksX2_appointments_3 6 rfl rfl)
theorem dX2_appointments_76 : decode cX2_appointments 76 = .ok (.iadd, 1) := dk_96 (dk_at dksX2_appointments_3 7 rfl rfl)
theorem dX2_appointments_77 : decode cX2_appointments 77 = .ok (.imul, 1) := dk_104 (dk_at dksX2_appointments_3 8 rfl rfl)
theorem dX2_appointments_78 : decode cX2_appointments 78 = .ok (.istore 5, 2) := dk_54 5 (dk_at dksX2_appointments_3 9 rfl rfl)
theorem dX2_appointments_80 : decode cX2_appointments 80 = .ok (.iinc 6 1, 3) := dk_132 6 1 (dk_at dksX2_appointments_3 11 rfl rfl)
theorem dX2_appointments_83 : decode cX2_appointments 83 = .ok (.goto (-18), 3) := dk_167 255 238 (dk_at dksX2_appointments_3 14 rfl rfl)
theorem dX2_appointments_86 : decode cX2_appointments 86 = .ok (.iconst 0, 1) := dk_3 (dk_at dksX2_appointments_3 17 rfl rfl)
theorem dX2_appointments_87 : decode cX2_appointments 87 = .ok (.istore 6, 2) := dk_54 6 (dk_at dksX2_appointments_3 18 rfl rfl)
theorem dX2_appointments_89 : decode cX2_appointments 89 = .ok (.iload 6, 2) := dk_21 6 (dk_at dksX2_appointments_3 20 rfl rfl)
theorem dX2_appointments_91 : decode cX2_appointments 91 = .ok (.iload 5, 2) := dk_21 5 (dk_at dksX2_appointments_3 22 rfl rfl)
theorem dX2_appointments_93 : decode cX2_appointments 93 = .ok (.if_icmp .ge 38, 3) := dk_162 0 38 (dk_at dksX2_appointments_4 0 rfl rfl)
theorem dX2_appointments_96 : decode cX2_appointments 96 = .ok (.aload_n 0, 1) := dk_42 (dk_at dksX2_appointments_4 3 rfl rfl)
theorem dX2_appointments_97 : decode cX2_appointments 97 = .ok (.iload 6, 2) := dk_21 6 (dk_at dksX2_appointments_4 4 rfl rfl)
theorem dX2_appointments_99 : decode cX2_appointments 99 = .ok (.iload_n 3, 1) := dk_29 (dk_at dksX2_appointments_4 6 rfl rfl)
theorem dX2_appointments_100 : decode cX2_appointments 100 = .ok (.iload 4, 2) := dk_21 4 (dk_at dksX2_appointments_4 7 rfl rfl)
theorem dX2_appointments_102 : decode cX2_appointments 102 = .ok (.invokevirtual 452, 3) := dk_182 1 196 (dk_at dksX2_appointments_4 9 rfl rfl)
theorem dX2_appointments_105 : decode cX2_appointments 105 = .ok (.ifCond .eq 20, 3) := dk_153 0 20 (dk_at dksX2_appointments_4 12 rfl rfl)
theorem dX2_appointments_108 : decode cX2_appointments 108 = .ok (.iload_n 2, 1) := dk_28 (dk_at dksX2_appointments_4 15 rfl rfl)
theorem dX2_appointments_109 : decode cX2_appointments 109 = .ok (.iconst (-1), 1) := dk_2 (dk_at dksX2_appointments_4 16 rfl rfl)
theorem dX2_appointments_110 : decode cX2_appointments 110 = .ok (.if_icmp .ne 8, 3) := dk_160 0 8 (dk_at dksX2_appointments_4 17 rfl rfl)
theorem dX2_appointments_113 : decode cX2_appointments 113 = .ok (.iload 4, 2) := dk_21 4 (dk_at dksX2_appointments_4 20 rfl rfl)
theorem dX2_appointments_115 : decode cX2_appointments 115 = .ok (.goto 9, 3) := dk_167 0 9 (dk_at dksX2_appointments_5 0 rfl rfl)
theorem dX2_appointments_118 : decode cX2_appointments 118 = .ok (.aload_n 0, 1) := dk_42 (dk_at dksX2_appointments_5 3 rfl rfl)
theorem dX2_appointments_119 : decode cX2_appointments 119 = .ok (.getfield 52, 3) := dk_180 0 52 (dk_at dksX2_appointments_5 4 rfl rfl)
theorem dX2_appointments_122 : decode cX2_appointments 122 = .ok (.iload_n 2, 1) := dk_28 (dk_at dksX2_appointments_5 7 rfl rfl)
theorem dX2_appointments_123 : decode cX2_appointments 123 = .ok (.iaload, 1) := dk_46 (dk_at dksX2_appointments_5 8 rfl rfl)
theorem dX2_appointments_124 : decode cX2_appointments 124 = .ok (.ireturn, 1) := dk_172 (dk_at dksX2_appointments_5 9 rfl rfl)
theorem dX2_appointments_125 : decode cX2_appointments 125 = .ok (.iinc 6 1, 3) := dk_132 6 1 (dk_at dksX2_appointments_5 10 rfl rfl)
theorem dX2_appointments_128 : decode cX2_appointments 128 = .ok (.goto (-39), 3) := dk_167 255 217 (dk_at dksX2_appointments_5 13 rfl rfl)
theorem dX2_appointments_131 : decode cX2_appointments 131 = .ok (.iinc 4 1, 3) := dk_132 4 1 (dk_at dksX2_appointments_5 16 rfl rfl)
theorem dX2_appointments_134 : decode cX2_appointments 134 = .ok (.goto (-75), 3) := dk_167 255 181 (dk_at dksX2_appointments_5 19 rfl rfl)
abbrev cX2_areHere : ByteArray := prog_19_method_124_code
def yX2_areHere : MethodName := ⟨RX2, "areHere", "(I)Z"⟩
def dkwX2_areHere_1 : List UInt8 := [3, 172, 132, 2, 1, 167, 255, 229, 4, 172]
abbrev dktX2_areHere_1 : List UInt8 := dkwX2_areHere_1 ++ []
def dkwX2_areHere_0 : List UInt8 := [3, 61, 28, 16, 7, 162, 0, 27, 27, 28, 184, 0, 80, 153, 0, 13, 42, 28, 182, 0, 77, 154, 0, 5]
abbrev dktX2_areHere_0 : List UInt8 := dkwX2_areHere_0 ++ dktX2_areHere_1
theorem dksX2_areHere_0 : cX2_areHere.data.toList.drop 0 = dktX2_areHere_0 := by decide +kernel
theorem dksX2_areHere_1 : cX2_areHere.data.toList.drop 24 = dktX2_areHere_1 := dk_seg dksX2_areHere_0 24 rfl rfl
theorem dX2_areHere_0 : decode cX2_areHere 0 = .ok (.iconst 0, 1) := dk_3 (dk_at dksX2_areHere_0 0 rfl rfl)
theorem dX2_areHere_1 : decode cX2_areHere 1 = .ok (.istore_n 2, 1) := dk_61 (dk_at dksX2_areHere_0 1 rfl rfl)
theorem dX2_areHere_2 : decode cX2_areHere 2 = .ok (.iload_n 2, 1) := dk_28 (dk_at dksX2_areHere_0 2 rfl rfl)
theorem dX2_areHere_3 : decode cX2_areHere 3 = .ok (.bipush 7, 2) := dk_16 7 (dk_at dksX2_areHere_0 3 rfl rfl)
theorem dX2_areHere_5 : decode cX2_areHere 5 = .ok (.if_icmp .ge 27, 3) := dk_162 0 27 (dk_at dksX2_areHere_0 5 rfl rfl)
theorem dX2_areHere_8 : decode cX2_areHere 8 = .ok (.iload_n 1, 1) := dk_27 (dk_at dksX2_areHere_0 8 rfl rfl)
theorem dX2_areHere_9 : decode cX2_areHere 9 = .ok (.iload_n 2, 1) := dk_28 (dk_at dksX2_areHere_0 9 rfl rfl)
theorem dX2_areHere_10 : decode cX2_areHere 10 = .ok (.invokestatic 80, 3) := dk_184 0 80 (dk_at dksX2_areHere_0 10 rfl rfl)
theorem dX2_areHere_13 : decode cX2_areHere 13 = .ok (.ifCond .eq 13, 3) := dk_153 0 13 (dk_at dksX2_areHere_0 13 rfl rfl)
theorem dX2_areHere_16 : decode cX2_areHere 16 = .ok (.aload_n 0, 1) := dk_42 (dk_at dksX2_areHere_0 16 rfl rfl)
theorem dX2_areHere_17 : decode cX2_areHere 17 = .ok (.iload_n 2, 1) := dk_28 (dk_at dksX2_areHere_0 17 rfl rfl)
theorem dX2_areHere_18 : decode cX2_areHere 18 = .ok (.invokevirtual 77, 3) := dk_182 0 77 (dk_at dksX2_areHere_0 18 rfl rfl)
theorem dX2_areHere_21 : decode cX2_areHere 21 = .ok (.ifCond .ne 5, 3) := dk_154 0 5 (dk_at dksX2_areHere_0 21 rfl rfl)
theorem dX2_areHere_24 : decode cX2_areHere 24 = .ok (.iconst 0, 1) := dk_3 (dk_at dksX2_areHere_1 0 rfl rfl)
theorem dX2_areHere_25 : decode cX2_areHere 25 = .ok (.ireturn, 1) := dk_172 (dk_at dksX2_areHere_1 1 rfl rfl)
theorem dX2_areHere_26 : decode cX2_areHere 26 = .ok (.iinc 2 1, 3) := dk_132 2 1 (dk_at dksX2_areHere_1 2 rfl rfl)
theorem dX2_areHere_29 : decode cX2_areHere 29 = .ok (.goto (-27), 3) := dk_167 255 229 (dk_at dksX2_areHere_1 5 rfl rfl)
theorem dX2_areHere_32 : decode cX2_areHere 32 = .ok (.iconst 1, 1) := dk_4 (dk_at dksX2_areHere_1 8 rfl rfl)
theorem dX2_areHere_33 : decode cX2_areHere 33 = .ok (.ireturn, 1) := dk_172 (dk_at dksX2_areHere_1 9 rfl rfl)
abbrev cX2_layMembers : ByteArray := prog_19_method_123_code
def yX2_layMembers : MethodName := ⟨RX2, "layMembers", "(I)I"⟩
def dkwX2_layMembers_1 : List UInt8 := [167, 0, 13, 42, 180, 0, 49, 28, 29, 79, 132, 2, 1, 132, 3, 1, 167, 255, 222, 28, 172]
abbrev dktX2_layMembers_1 : List UInt8 := dkwX2_layMembers_1 ++ []
def dkwX2_layMembers_0 : List UInt8 := [3, 61, 3, 62, 29, 42, 180, 0, 7, 3, 46, 162, 0, 30, 27, 29, 184, 0, 80, 154, 0, 6]
abbrev dktX2_layMembers_0 : List UInt8 := dkwX2_layMembers_0 ++ dktX2_layMembers_1
theorem dksX2_layMembers_0 : cX2_layMembers.data.toList.drop 0 = dktX2_layMembers_0 := by decide +kernel
theorem dksX2_layMembers_1 : cX2_layMembers.data.toList.drop 22 = dktX2_layMembers_1 := dk_seg dksX2_layMembers_0 22 rfl rfl
theorem dX2_layMembers_0 : decode cX2_layMembers 0 = .ok (.iconst 0, 1) := dk_3 (dk_at dksX2_layMembers_0 0 rfl rfl)
theorem dX2_layMembers_1 : decode cX2_layMembers 1 = .ok (.istore_n 2, 1) := dk_61 (dk_at dksX2_layMembers_0 1 rfl rfl)
theorem dX2_layMembers_2 : decode cX2_layMembers 2 = .ok (.iconst 0, 1) := dk_3 (dk_at dksX2_layMembers_0 2 rfl rfl)
theorem dX2_layMembers_3 : decode cX2_layMembers 3 = .ok (.istore_n 3, 1) := dk_62 (dk_at dksX2_layMembers_0 3 rfl rfl)
theorem dX2_layMembers_4 : decode cX2_layMembers 4 = .ok (.iload_n 3, 1) := dk_29 (dk_at dksX2_layMembers_0 4 rfl rfl)
theorem dX2_layMembers_5 : decode cX2_layMembers 5 = .ok (.aload_n 0, 1) := dk_42 (dk_at dksX2_layMembers_0 5 rfl rfl)
theorem dX2_layMembers_6 : decode cX2_layMembers 6 = .ok (.getfield 7, 3) := dk_180 0 7 (dk_at dksX2_layMembers_0 6 rfl rfl)
theorem dX2_layMembers_9 : decode cX2_layMembers 9 = .ok (.iconst 0, 1) := dk_3 (dk_at dksX2_layMembers_0 9 rfl rfl)
theorem dX2_layMembers_10 : decode cX2_layMembers 10 = .ok (.iaload, 1) := dk_46 (dk_at dksX2_layMembers_0 10 rfl rfl)
theorem dX2_layMembers_11 : decode cX2_layMembers 11 = .ok (.if_icmp .ge 30, 3) := dk_162 0 30 (dk_at dksX2_layMembers_0 11 rfl rfl)
theorem dX2_layMembers_14 : decode cX2_layMembers 14 = .ok (.iload_n 1, 1) := dk_27 (dk_at dksX2_layMembers_0 14 rfl rfl)
theorem dX2_layMembers_15 : decode cX2_layMembers 15 = .ok (.iload_n 3, 1) := dk_29 (dk_at dksX2_layMembers_0 15 rfl rfl)
theorem dX2_layMembers_16 : decode cX2_layMembers 16 = .ok (.invokestatic 80, 3) := dk_184 0 80 (dk_at dksX2_layMembers_0 16 rfl rfl)
theorem dX2_layMembers_19 : decode cX2_layMembers 19 = .ok (.ifCond .ne 6, 3) := dk_154 0 6 (dk_at dksX2_layMembers_0 19 rfl rfl)
theorem dX2_layMembers_22 : decode cX2_layMembers 22 = .ok (.goto 13, 3) := dk_167 0 13 (dk_at dksX2_layMembers_1 0 rfl rfl)
theorem dX2_layMembers_25 : decode cX2_layMembers 25 = .ok (.aload_n 0, 1) := dk_42 (dk_at dksX2_layMembers_1 3 rfl rfl)
theorem dX2_layMembers_26 : decode cX2_layMembers 26 = .ok (.getfield 49, 3) := dk_180 0 49 (dk_at dksX2_layMembers_1 4 rfl rfl)
theorem dX2_layMembers_29 : decode cX2_layMembers 29 = .ok (.iload_n 2, 1) := dk_28 (dk_at dksX2_layMembers_1 7 rfl rfl)
theorem dX2_layMembers_30 : decode cX2_layMembers 30 = .ok (.iload_n 3, 1) := dk_29 (dk_at dksX2_layMembers_1 8 rfl rfl)
theorem dX2_layMembers_31 : decode cX2_layMembers 31 = .ok (.iastore, 1) := dk_79 (dk_at dksX2_layMembers_1 9 rfl rfl)
theorem dX2_layMembers_32 : decode cX2_layMembers 32 = .ok (.iinc 2 1, 3) := dk_132 2 1 (dk_at dksX2_layMembers_1 10 rfl rfl)
theorem dX2_layMembers_35 : decode cX2_layMembers 35 = .ok (.iinc 3 1, 3) := dk_132 3 1 (dk_at dksX2_layMembers_1 13 rfl rfl)
theorem dX2_layMembers_38 : decode cX2_layMembers 38 = .ok (.goto (-34), 3) := dk_167 255 222 (dk_at dksX2_layMembers_1 16 rfl rfl)
theorem dX2_layMembers_41 : decode cX2_layMembers 41 = .ok (.iload_n 2, 1) := dk_28 (dk_at dksX2_layMembers_1 19 rfl rfl)
theorem dX2_layMembers_42 : decode cX2_layMembers 42 = .ok (.ireturn, 1) := dk_172 (dk_at dksX2_layMembers_1 20 rfl rfl)
abbrev cX2_isLaid : ByteArray := prog_19_method_122_code
def yX2_isLaid : MethodName := ⟨RX2, "isLaid", "(III)Z"⟩
def dkwX2_isLaid_5 : List UInt8 := [4, 100, 160, 0, 7, 4, 167, 0, 4, 3, 172]
abbrev dktX2_isLaid_5 : List UInt8 := dkwX2_isLaid_5 ++ []
def dkwX2_isLaid_4 : List UInt8 := [180, 0, 52, 42, 180, 0, 49, 21, 7, 46, 21, 6, 79, 132, 6, 255, 167, 255, 157, 21, 5, 4, 28, 120]
abbrev dktX2_isLaid_4 : List UInt8 := dkwX2_isLaid_4 ++ dktX2_isLaid_5
def dkwX2_isLaid_3 : List UInt8 := [96, 16, 20, 112, 184, 0, 80, 153, 0, 5, 3, 172, 21, 5, 4, 21, 7, 120, 128, 54, 5, 42]
abbrev dktX2_isLaid_3 : List UInt8 := dkwX2_isLaid_3 ++ dktX2_isLaid_4
def dkwX2_isLaid_2 : List UInt8 := [154, 0, 34, 42, 42, 180, 0, 49, 21, 7, 46, 3, 182, 0, 73, 42, 180, 0, 7, 16, 8, 46, 21, 6]
abbrev dktX2_isLaid_2 : List UInt8 := dkwX2_isLaid_2 ++ dktX2_isLaid_3
def dkwX2_isLaid_1 : List UInt8 := [21, 4, 28, 4, 96, 108, 54, 4, 21, 7, 28, 160, 0, 6, 167, 0, 69, 21, 5, 21, 7, 184, 0, 80]
abbrev dktX2_isLaid_1 : List UInt8 := dkwX2_isLaid_1 ++ dktX2_isLaid_2
def dkwX2_isLaid_0 : List UInt8 := [27, 54, 4, 3, 54, 5, 29, 4, 100, 54, 6, 21, 6, 155, 0, 100, 21, 4, 28, 4, 96, 112, 54, 7]
abbrev dktX2_isLaid_0 : List UInt8 := dkwX2_isLaid_0 ++ dktX2_isLaid_1
theorem dksX2_isLaid_0 : cX2_isLaid.data.toList.drop 0 = dktX2_isLaid_0 := by decide +kernel
theorem dksX2_isLaid_1 : cX2_isLaid.data.toList.drop 24 = dktX2_isLaid_1 := dk_seg dksX2_isLaid_0 24 rfl rfl
theorem dksX2_isLaid_2 : cX2_isLaid.data.toList.drop 48 = dktX2_isLaid_2 := dk_seg dksX2_isLaid_1 24 rfl rfl
theorem dksX2_isLaid_3 : cX2_isLaid.data.toList.drop 72 = dktX2_isLaid_3 := dk_seg dksX2_isLaid_2 24 rfl rfl
theorem dksX2_isLaid_4 : cX2_isLaid.data.toList.drop 94 = dktX2_isLaid_4 := dk_seg dksX2_isLaid_3 22 rfl rfl
theorem dksX2_isLaid_5 : cX2_isLaid.data.toList.drop 118 = dktX2_isLaid_5 := dk_seg dksX2_isLaid_4 24 rfl rfl
theorem dX2_isLaid_0 : decode cX2_isLaid 0 = .ok (.iload_n 1, 1) := dk_27 (dk_at dksX2_isLaid_0 0 rfl rfl)
theorem dX2_isLaid_1 : decode cX2_isLaid 1 = .ok (.istore 4, 2) := dk_54 4 (dk_at dksX2_isLaid_0 1 rfl rfl)
theorem dX2_isLaid_3 : decode cX2_isLaid 3 = .ok (.iconst 0, 1) := dk_3 (dk_at dksX2_isLaid_0 3 rfl rfl)
theorem dX2_isLaid_4 : decode cX2_isLaid 4 = .ok (.istore 5, 2) := dk_54 5 (dk_at dksX2_isLaid_0 4 rfl rfl)
theorem dX2_isLaid_6 : decode cX2_isLaid 6 = .ok (.iload_n 3, 1) := dk_29 (dk_at dksX2_isLaid_0 6 rfl rfl)
theorem dX2_isLaid_7 : decode cX2_isLaid 7 = .ok (.iconst 1, 1) := dk_4 (dk_at dksX2_isLaid_0 7 rfl rfl)
theorem dX2_isLaid_8 : decode cX2_isLaid 8 = .ok (.isub, 1) := dk_100 (dk_at dksX2_isLaid_0 8 rfl rfl)
theorem dX2_isLaid_9 : decode cX2_isLaid 9 = .ok (.istore 6, 2) := dk_54 6 (dk_at dksX2_isLaid_0 9 rfl rfl)
theorem dX2_isLaid_11 : decode cX2_isLaid 11 = .ok (.iload 6, 2) := dk_21 6 (dk_at dksX2_isLaid_0 11 rfl rfl)
theorem dX2_isLaid_13 : decode cX2_isLaid 13 = .ok (.ifCond .lt 100, 3) := dk_155 0 100 (dk_at dksX2_isLaid_0 13 rfl rfl)
theorem dX2_isLaid_16 : decode cX2_isLaid 16 = .ok (.iload 4, 2) := dk_21 4 (dk_at dksX2_isLaid_0 16 rfl rfl)
theorem dX2_isLaid_18 : decode cX2_isLaid 18 = .ok (.iload_n 2, 1) := dk_28 (dk_at dksX2_isLaid_0 18 rfl rfl)
theorem dX2_isLaid_19 : decode cX2_isLaid 19 = .ok (.iconst 1, 1) := dk_4 (dk_at dksX2_isLaid_0 19 rfl rfl)
theorem dX2_isLaid_20 : decode cX2_isLaid 20 = .ok (.iadd, 1) := dk_96 (dk_at dksX2_isLaid_0 20 rfl rfl)
theorem dX2_isLaid_21 : decode cX2_isLaid 21 = .ok (.irem, 1) := dk_112 (dk_at dksX2_isLaid_0 21 rfl rfl)
theorem dX2_isLaid_22 : decode cX2_isLaid 22 = .ok (.istore 7, 2) := dk_54 7 (dk_at dksX2_isLaid_0 22 rfl rfl)
theorem dX2_isLaid_24 : decode cX2_isLaid 24 = .ok (.iload 4, 2) := dk_21 4 (dk_at dksX2_isLaid_1 0 rfl rfl)
theorem dX2_isLaid_26 : decode cX2_isLaid 26 = .ok (.iload_n 2, 1) := dk_28 (dk_at dksX2_isLaid_1 2 rfl rfl)
theorem dX2_isLaid_27 : decode cX2_isLaid 27 = .ok (.iconst 1, 1) := dk_4 (dk_at dksX2_isLaid_1 3 rfl rfl)
theorem dX2_isLaid_28 : decode cX2_isLaid 28 = .ok (.iadd, 1) := dk_96 (dk_at dksX2_isLaid_1 4 rfl rfl)
theorem dX2_isLaid_29 : decode cX2_isLaid 29 = .ok (.idiv, 1) := dk_108 (dk_at dksX2_isLaid_1 5 rfl rfl)
theorem dX2_isLaid_30 : decode cX2_isLaid 30 = .ok (.istore 4, 2) := dk_54 4 (dk_at dksX2_isLaid_1 6 rfl rfl)
theorem dX2_isLaid_32 : decode cX2_isLaid 32 = .ok (.iload 7, 2) := dk_21 7 (dk_at dksX2_isLaid_1 8 rfl rfl)
theorem dX2_isLaid_34 : decode cX2_isLaid 34 = .ok (.iload_n 2, 1) := dk_28 (dk_at dksX2_isLaid_1 10 rfl rfl)
theorem dX2_isLaid_35 : decode cX2_isLaid 35 = .ok (.if_icmp .ne 6, 3) := dk_160 0 6 (dk_at dksX2_isLaid_1 11 rfl rfl)
theorem dX2_isLaid_38 : decode cX2_isLaid 38 = .ok (.goto 69, 3) := dk_167 0 69 (dk_at dksX2_isLaid_1 14 rfl rfl)
theorem dX2_isLaid_41 : decode cX2_isLaid 41 = .ok (.iload 5, 2) := dk_21 5 (dk_at dksX2_isLaid_1 17 rfl rfl)
theorem dX2_isLaid_43 : decode cX2_isLaid 43 = .ok (.iload 7, 2) := dk_21 7 (dk_at dksX2_isLaid_1 19 rfl rfl)
theorem dX2_isLaid_45 : decode cX2_isLaid 45 = .ok (.invokestatic 80, 3) := dk_184 0 80 (dk_at dksX2_isLaid_1 21 rfl rfl)
theorem dX2_isLaid_48 : decode cX2_isLaid 48 = .ok (.ifCond .ne 34, 3) := dk_154 0 34 (dk_at dksX2_isLaid_2 0 rfl rfl)
theorem dX2_isLaid_51 : decode cX2_isLaid 51 = .ok (.aload_n 0, 1) := dk_42 (dk_at dksX2_isLaid_2 3 rfl rfl)
theorem dX2_isLaid_52 : decode cX2_isLaid 52 = .ok (.aload_n 0, 1) := dk_42 (dk_at dksX2_isLaid_2 4 rfl rfl)
theorem dX2_isLaid_53 : decode cX2_isLaid 53 = .ok (.getfield 49, 3) := dk_180 0 49 (dk_at dksX2_isLaid_2 5 rfl rfl)
theorem dX2_isLaid_56 : decode cX2_isLaid 56 = .ok (.iload 7, 2) := dk_21 7 (dk_at dksX2_isLaid_2 8 rfl rfl)
theorem dX2_isLaid_58 : decode cX2_isLaid 58 = .ok (.iaload, 1) := dk_46 (dk_at dksX2_isLaid_2 10 rfl rfl)
theorem dX2_isLaid_59 : decode cX2_isLaid 59 = .ok (.iconst 0, 1) := dk_3 (dk_at dksX2_isLaid_2 11 rfl rfl)
theorem dX2_isLaid_60 : decode cX2_isLaid 60 = .ok (.invokevirtual 73, 3) := dk_182 0 73 (dk_at dksX2_isLaid_2 12 rfl rfl)
theorem dX2_isLaid_63 : decode cX2_isLaid 63 = .ok (.aload_n 0, 1) := dk_42 (dk_at dksX2_isLaid_2 15 rfl rfl)
theorem dX2_isLaid_64 : decode cX2_isLaid 64 = .ok (.getfield 7, 3) := dk_180 0 7 (dk_at dksX2_isLaid_2 16 rfl rfl)
theorem dX2_isLaid_67 : decode cX2_isLaid 67 = .ok (.bipush 8, 2) := dk_16 8 (dk_at dksX2_isLaid_2 19 rfl rfl)
theorem dX2_isLaid_69 : decode cX2_isLaid 69 = .ok (.iaload, 1) := dk_46 (dk_at dksX2_isLaid_2 21 rfl rfl)
theorem dX2_isLaid_70 : decode cX2_isLaid 70 = .ok (.iload 6, 2) := dk_21 6 (dk_at dksX2_isLaid_2 22 rfl rfl)
theorem dX2_isLaid_72 : decode cX2_isLaid 72 = .ok (.iadd, 1) := dk_96 (dk_at dksX2_isLaid_3 0 rfl rfl)
theorem dX2_isLaid_73 : decode cX2_isLaid 73 = .ok (.bipush 20, 2) := dk_16 20 (dk_at dksX2_isLaid_3 1 rfl rfl)
theorem dX2_isLaid_75 : decode cX2_isLaid 75 = .ok (.irem, 1) := dk_112 (dk_at dksX2_isLaid_3 3 rfl rfl)
theorem dX2_isLaid_76 : decode cX2_isLaid 76 = .ok (.invokestatic 80, 3) := dk_184 0 80 (dk_at dksX2_isLaid_3 4 rfl rfl)
theorem dX2_isLaid_79 : decode cX2_isLaid 79 = .ok (.ifCond .eq 5, 3) := dk_153 0 5 (dk_at dksX2_isLaid_3 7 rfl rfl)
theorem dX2_isLaid_82 : decode cX2_isLaid 82 = .ok (.iconst 0, 1) := dk_3 (dk_at dksX2_isLaid_3 10 rfl rfl)
theorem dX2_isLaid_83 : decode cX2_isLaid 83 = .ok (.ireturn, 1) := dk_172 (dk_at dksX2_isLaid_3 11 rfl rfl)
theorem dX2_isLaid_84 : decode cX2_isLaid 84 = .ok (.iload 5, 2) := dk_21 5 (dk_at dksX2_isLaid_3 12 rfl rfl)
theorem dX2_isLaid_86 : decode cX2_isLaid 86 = .ok (.iconst 1, 1) := dk_4 (dk_at dksX2_isLaid_3 14 rfl rfl)
theorem dX2_isLaid_87 : decode cX2_isLaid 87 = .ok (.iload 7, 2) := dk_21 7 (dk_at dksX2_isLaid_3 15 rfl rfl)
theorem dX2_isLaid_89 : decode cX2_isLaid 89 = .ok (.ishl, 1) := dk_120 (dk_at dksX2_isLaid_3 17 rfl rfl)
theorem dX2_isLaid_90 : decode cX2_isLaid 90 = .ok (.ior, 1) := dk_128 (dk_at dksX2_isLaid_3 18 rfl rfl)
theorem dX2_isLaid_91 : decode cX2_isLaid 91 = .ok (.istore 5, 2) := dk_54 5 (dk_at dksX2_isLaid_3 19 rfl rfl)
theorem dX2_isLaid_93 : decode cX2_isLaid 93 = .ok (.aload_n 0, 1) := dk_42 (dk_at dksX2_isLaid_3 21 rfl rfl)
theorem dX2_isLaid_94 : decode cX2_isLaid 94 = .ok (.getfield 52, 3) := dk_180 0 52 (dk_at dksX2_isLaid_4 0 rfl rfl)
theorem dX2_isLaid_97 : decode cX2_isLaid 97 = .ok (.aload_n 0, 1) := dk_42 (dk_at dksX2_isLaid_4 3 rfl rfl)
theorem dX2_isLaid_98 : decode cX2_isLaid 98 = .ok (.getfield 49, 3) := dk_180 0 49 (dk_at dksX2_isLaid_4 4 rfl rfl)
theorem dX2_isLaid_101 : decode cX2_isLaid 101 = .ok (.iload 7, 2) := dk_21 7 (dk_at dksX2_isLaid_4 7 rfl rfl)
theorem dX2_isLaid_103 : decode cX2_isLaid 103 = .ok (.iaload, 1) := dk_46 (dk_at dksX2_isLaid_4 9 rfl rfl)
theorem dX2_isLaid_104 : decode cX2_isLaid 104 = .ok (.iload 6, 2) := dk_21 6 (dk_at dksX2_isLaid_4 10 rfl rfl)
theorem dX2_isLaid_106 : decode cX2_isLaid 106 = .ok (.iastore, 1) := dk_79 (dk_at dksX2_isLaid_4 12 rfl rfl)
theorem dX2_isLaid_107 : decode cX2_isLaid 107 = .ok (.iinc 6 (-1), 3) := dk_132 6 255 (dk_at dksX2_isLaid_4 13 rfl rfl)
theorem dX2_isLaid_110 : decode cX2_isLaid 110 = .ok (.goto (-99), 3) := dk_167 255 157 (dk_at dksX2_isLaid_4 16 rfl rfl)
theorem dX2_isLaid_113 : decode cX2_isLaid 113 = .ok (.iload 5, 2) := dk_21 5 (dk_at dksX2_isLaid_4 19 rfl rfl)
theorem dX2_isLaid_115 : decode cX2_isLaid 115 = .ok (.iconst 1, 1) := dk_4 (dk_at dksX2_isLaid_4 21 rfl rfl)
theorem dX2_isLaid_116 : decode cX2_isLaid 116 = .ok (.iload_n 2, 1) := dk_28 (dk_at dksX2_isLaid_4 22 rfl rfl)
theorem dX2_isLaid_117 : decode cX2_isLaid 117 = .ok (.ishl, 1) := dk_120 (dk_at dksX2_isLaid_4 23 rfl rfl)
theorem dX2_isLaid_118 : decode cX2_isLaid 118 = .ok (.iconst 1, 1) := dk_4 (dk_at dksX2_isLaid_5 0 rfl rfl)
theorem dX2_isLaid_119 : decode cX2_isLaid 119 = .ok (.isub, 1) := dk_100 (dk_at dksX2_isLaid_5 1 rfl rfl)
theorem dX2_isLaid_120 : decode cX2_isLaid 120 = .ok (.if_icmp .ne 7, 3) := dk_160 0 7 (dk_at dksX2_isLaid_5 2 rfl rfl)
theorem dX2_isLaid_123 : decode cX2_isLaid 123 = .ok (.iconst 1, 1) := dk_4 (dk_at dksX2_isLaid_5 5 rfl rfl)
theorem dX2_isLaid_124 : decode cX2_isLaid 124 = .ok (.goto 4, 3) := dk_167 0 4 (dk_at dksX2_isLaid_5 6 rfl rfl)
theorem dX2_isLaid_127 : decode cX2_isLaid 127 = .ok (.iconst 0, 1) := dk_3 (dk_at dksX2_isLaid_5 9 rfl rfl)
theorem dX2_isLaid_128 : decode cX2_isLaid 128 = .ok (.ireturn, 1) := dk_172 (dk_at dksX2_isLaid_5 10 rfl rfl)
abbrev cX2_rounds : ByteArray := prog_19_method_127_code
def yX2_rounds : MethodName := ⟨RX2, "rounds", "()I"⟩
def dkwX2_rounds_6 : List UInt8 := [132, 3, 1, 167, 255, 218, 132, 2, 1, 167, 255, 205, 132, 1, 1, 167, 255, 191, 16, 15, 172]
abbrev dktX2_rounds_6 : List UInt8 := dkwX2_rounds_6 ++ []
def dkwX2_rounds_5 : List UInt8 := [128, 4, 27, 120, 128, 182, 1, 199, 153, 0, 15, 4, 29, 120, 4, 28, 120, 128, 4, 27, 120, 128, 172]
abbrev dktX2_rounds_5 : List UInt8 := dkwX2_rounds_5 ++ dktX2_rounds_6
def dkwX2_rounds_4 : List UInt8 := [162, 0, 65, 3, 61, 28, 27, 162, 0, 52, 3, 62, 29, 28, 162, 0, 39, 42, 4, 29, 120, 4, 28, 120]
abbrev dktX2_rounds_4 : List UInt8 := dkwX2_rounds_4 ++ dktX2_rounds_5
def dkwX2_rounds_3 : List UInt8 := [4, 27, 120, 128, 172, 132, 2, 1, 167, 255, 226, 132, 1, 1, 167, 255, 212, 3, 60, 27, 16, 20]
abbrev dktX2_rounds_3 : List UInt8 := dkwX2_rounds_3 ++ dktX2_rounds_4
def dkwX2_rounds_2 : List UInt8 := [3, 61, 28, 27, 162, 0, 31, 42, 4, 28, 120, 4, 27, 120, 128, 182, 1, 199, 153, 0, 11, 4, 28, 120]
abbrev dktX2_rounds_2 : List UInt8 := dkwX2_rounds_2 ++ dktX2_rounds_3
def dkwX2_rounds_1 : List UInt8 := [182, 1, 199, 153, 0, 7, 4, 27, 120, 172, 132, 1, 1, 167, 255, 233, 3, 60, 27, 16, 20, 162, 0, 44]
abbrev dktX2_rounds_1 : List UInt8 := dkwX2_rounds_1 ++ dktX2_rounds_2
def dkwX2_rounds_0 : List UInt8 := [42, 3, 182, 1, 199, 153, 0, 5, 3, 172, 3, 60, 27, 16, 20, 162, 0, 23, 42, 4, 27, 120]
abbrev dktX2_rounds_0 : List UInt8 := dkwX2_rounds_0 ++ dktX2_rounds_1
theorem dksX2_rounds_0 : cX2_rounds.data.toList.drop 0 = dktX2_rounds_0 := by decide +kernel
theorem dksX2_rounds_1 : cX2_rounds.data.toList.drop 22 = dktX2_rounds_1 := dk_seg dksX2_rounds_0 22 rfl rfl
theorem dksX2_rounds_2 : cX2_rounds.data.toList.drop 46 = dktX2_rounds_2 := dk_seg dksX2_rounds_1 24 rfl rfl
theorem dksX2_rounds_3 : cX2_rounds.data.toList.drop 70 = dktX2_rounds_3 := dk_seg dksX2_rounds_2 24 rfl rfl
theorem dksX2_rounds_4 : cX2_rounds.data.toList.drop 92 = dktX2_rounds_4 := dk_seg dksX2_rounds_3 22 rfl rfl
theorem dksX2_rounds_5 : cX2_rounds.data.toList.drop 116 = dktX2_rounds_5 := dk_seg dksX2_rounds_4 24 rfl rfl
theorem dksX2_rounds_6 : cX2_rounds.data.toList.drop 139 = dktX2_rounds_6 := dk_seg dksX2_rounds_5 23 rfl rfl
theorem dX2_rounds_0 : decode cX2_rounds 0 = .ok (.aload_n 0, 1) := dk_42 (dk_at dksX2_rounds_0 0 rfl rfl)
theorem dX2_rounds_1 : decode cX2_rounds 1 = .ok (.iconst 0, 1) := dk_3 (dk_at dksX2_rounds_0 1 rfl rfl)
theorem dX2_rounds_2 : decode cX2_rounds 2 = .ok (.invokevirtual 455, 3) := dk_182 1 199 (dk_at dksX2_rounds_0 2 rfl rfl)
theorem dX2_rounds_5 : decode cX2_rounds 5 = .ok (.ifCond .eq 5, 3) := dk_153 0 5 (dk_at dksX2_rounds_0 5 rfl rfl)
theorem dX2_rounds_8 : decode cX2_rounds 8 = .ok (.iconst 0, 1) := dk_3 (dk_at dksX2_rounds_0 8 rfl rfl)
theorem dX2_rounds_9 : decode cX2_rounds 9 = .ok (.ireturn, 1) := dk_172 (dk_at dksX2_rounds_0 9 rfl rfl)
theorem dX2_rounds_10 : decode cX2_rounds 10 = .ok (.iconst 0, 1) := dk_3 (dk_at dksX2_rounds_0 10 rfl rfl)
theorem dX2_rounds_11 : decode cX2_rounds 11 = .ok (.istore_n 1, 1) := dk_60 (dk_at dksX2_rounds_0 11 rfl rfl)
theorem dX2_rounds_12 : decode cX2_rounds 12 = .ok (.iload_n 1, 1) := dk_27 (dk_at dksX2_rounds_0 12 rfl rfl)
theorem dX2_rounds_13 : decode cX2_rounds 13 = .ok (.bipush 20, 2) := dk_16 20 (dk_at dksX2_rounds_0 13 rfl rfl)
theorem dX2_rounds_15 : decode cX2_rounds 15 = .ok (.if_icmp .ge 23, 3) := dk_162 0 23 (dk_at dksX2_rounds_0 15 rfl rfl)
theorem dX2_rounds_18 : decode cX2_rounds 18 = .ok (.aload_n 0, 1) := dk_42 (dk_at dksX2_rounds_0 18 rfl rfl)
theorem dX2_rounds_19 : decode cX2_rounds 19 = .ok (.iconst 1, 1) := dk_4 (dk_at dksX2_rounds_0 19 rfl rfl)
theorem dX2_rounds_20 : decode cX2_rounds 20 = .ok (.iload_n 1, 1) := dk_27 (dk_at dksX2_rounds_0 20 rfl rfl)
theorem dX2_rounds_21 : decode cX2_rounds 21 = .ok (.ishl, 1) := dk_120 (dk_at dksX2_rounds_0 21 rfl rfl)
theorem dX2_rounds_22 : decode cX2_rounds 22 = .ok (.invokevirtual 455, 3) := dk_182 1 199 (dk_at dksX2_rounds_1 0 rfl rfl)
theorem dX2_rounds_25 : decode cX2_rounds 25 = .ok (.ifCond .eq 7, 3) := dk_153 0 7 (dk_at dksX2_rounds_1 3 rfl rfl)
theorem dX2_rounds_28 : decode cX2_rounds 28 = .ok (.iconst 1, 1) := dk_4 (dk_at dksX2_rounds_1 6 rfl rfl)
theorem dX2_rounds_29 : decode cX2_rounds 29 = .ok (.iload_n 1, 1) := dk_27 (dk_at dksX2_rounds_1 7 rfl rfl)
theorem dX2_rounds_30 : decode cX2_rounds 30 = .ok (.ishl, 1) := dk_120 (dk_at dksX2_rounds_1 8 rfl rfl)
theorem dX2_rounds_31 : decode cX2_rounds 31 = .ok (.ireturn, 1) := dk_172 (dk_at dksX2_rounds_1 9 rfl rfl)
theorem dX2_rounds_32 : decode cX2_rounds 32 = .ok (.iinc 1 1, 3) := dk_132 1 1 (dk_at dksX2_rounds_1 10 rfl rfl)
theorem dX2_rounds_35 : decode cX2_rounds 35 = .ok (.goto (-23), 3) := dk_167 255 233 (dk_at dksX2_rounds_1 13 rfl rfl)
theorem dX2_rounds_38 : decode cX2_rounds 38 = .ok (.iconst 0, 1) := dk_3 (dk_at dksX2_rounds_1 16 rfl rfl)
theorem dX2_rounds_39 : decode cX2_rounds 39 = .ok (.istore_n 1, 1) := dk_60 (dk_at dksX2_rounds_1 17 rfl rfl)
theorem dX2_rounds_40 : decode cX2_rounds 40 = .ok (.iload_n 1, 1) := dk_27 (dk_at dksX2_rounds_1 18 rfl rfl)
theorem dX2_rounds_41 : decode cX2_rounds 41 = .ok (.bipush 20, 2) := dk_16 20 (dk_at dksX2_rounds_1 19 rfl rfl)
theorem dX2_rounds_43 : decode cX2_rounds 43 = .ok (.if_icmp .ge 44, 3) := dk_162 0 44 (dk_at dksX2_rounds_1 21 rfl rfl)
theorem dX2_rounds_46 : decode cX2_rounds 46 = .ok (.iconst 0, 1) := dk_3 (dk_at dksX2_rounds_2 0 rfl rfl)
theorem dX2_rounds_47 : decode cX2_rounds 47 = .ok (.istore_n 2, 1) := dk_61 (dk_at dksX2_rounds_2 1 rfl rfl)
theorem dX2_rounds_48 : decode cX2_rounds 48 = .ok (.iload_n 2, 1) := dk_28 (dk_at dksX2_rounds_2 2 rfl rfl)
theorem dX2_rounds_49 : decode cX2_rounds 49 = .ok (.iload_n 1, 1) := dk_27 (dk_at dksX2_rounds_2 3 rfl rfl)
theorem dX2_rounds_50 : decode cX2_rounds 50 = .ok (.if_icmp .ge 31, 3) := dk_162 0 31 (dk_at dksX2_rounds_2 4 rfl rfl)
theorem dX2_rounds_53 : decode cX2_rounds 53 = .ok (.aload_n 0, 1) := dk_42 (dk_at dksX2_rounds_2 7 rfl rfl)
theorem dX2_rounds_54 : decode cX2_rounds 54 = .ok (.iconst 1, 1) := dk_4 (dk_at dksX2_rounds_2 8 rfl rfl)
theorem dX2_rounds_55 : decode cX2_rounds 55 = .ok (.iload_n 2, 1) := dk_28 (dk_at dksX2_rounds_2 9 rfl rfl)
theorem dX2_rounds_56 : decode cX2_rounds 56 = .ok (.ishl, 1) := dk_120 (dk_at dksX2_rounds_2 10 rfl rfl)
theorem dX2_rounds_57 : decode cX2_rounds 57 = .ok (.iconst 1, 1) := dk_4 (dk_at dksX2_rounds_2 11 rfl rfl)
theorem dX2_rounds_58 : decode cX2_rounds 58 = .ok (.iload_n 1, 1) := dk_27 (dk_at dksX2_rounds_2 12 rfl rfl)
theorem dX2_rounds_59 : decode cX2_rounds 59 = .ok (.ishl, 1) := dk_120 (dk_at dksX2_rounds_2 13 rfl rfl)
theorem dX2_rounds_60 : decode cX2_rounds 60 = .ok (.ior, 1) := dk_128 (dk_at dksX2_rounds_2 14 rfl rfl)
theorem dX2_rounds_61 : decode cX2_rounds 61 = .ok (.invokevirtual 455, 3) := dk_182 1 199 (dk_at dksX2_rounds_2 15 rfl rfl)
theorem dX2_rounds_64 : decode cX2_rounds 64 = .ok (.ifCond .eq 11, 3) := dk_153 0 11 (dk_at dksX2_rounds_2 18 rfl rfl)
theorem dX2_rounds_67 : decode cX2_rounds 67 = .ok (.iconst 1, 1) := dk_4 (dk_at dksX2_rounds_2 21 rfl rfl)
theorem dX2_rounds_68 : decode cX2_rounds 68 = .ok (.iload_n 2, 1) := dk_28 (dk_at dksX2_rounds_2 22 rfl rfl)
theorem dX2_rounds_69 : decode cX2_rounds 69 = .ok (.ishl, 1) := dk_120 (dk_at dksX2_rounds_2 23 rfl rfl)
theorem dX2_rounds_70 : decode cX2_rounds 70 = .ok (.iconst 1, 1) := dk_4 (dk_at dksX2_rounds_3 0 rfl rfl)
theorem dX2_rounds_71 : decode cX2_rounds 71 = .ok (.iload_n 1, 1) := dk_27 (dk_at dksX2_rounds_3 1 rfl rfl)
theorem dX2_rounds_72 : decode cX2_rounds 72 = .ok (.ishl, 1) := dk_120 (dk_at dksX2_rounds_3 2 rfl rfl)
theorem dX2_rounds_73 : decode cX2_rounds 73 = .ok (.ior, 1) := dk_128 (dk_at dksX2_rounds_3 3 rfl rfl)
theorem dX2_rounds_74 : decode cX2_rounds 74 = .ok (.ireturn, 1) := dk_172 (dk_at dksX2_rounds_3 4 rfl rfl)
theorem dX2_rounds_75 : decode cX2_rounds 75 = .ok (.iinc 2 1, 3) := dk_132 2 1 (dk_at dksX2_rounds_3 5 rfl rfl)
theorem dX2_rounds_78 : decode cX2_rounds 78 = .ok (.goto (-30), 3) := dk_167 255 226 (dk_at dksX2_rounds_3 8 rfl rfl)
theorem dX2_rounds_81 : decode cX2_rounds 81 = .ok (.iinc 1 1, 3) := dk_132 1 1 (dk_at dksX2_rounds_3 11 rfl rfl)
theorem dX2_rounds_84 : decode cX2_rounds 84 = .ok (.goto (-44), 3) := dk_167 255 212 (dk_at dksX2_rounds_3 14 rfl rfl)
theorem dX2_rounds_87 : decode cX2_rounds 87 = .ok (.iconst 0, 1) := dk_3 (dk_at dksX2_rounds_3 17 rfl rfl)
theorem dX2_rounds_88 : decode cX2_rounds 88 = .ok (.istore_n 1, 1) := dk_60 (dk_at dksX2_rounds_3 18 rfl rfl)
theorem dX2_rounds_89 : decode cX2_rounds 89 = .ok (.iload_n 1, 1) := dk_27 (dk_at dksX2_rounds_3 19 rfl rfl)
theorem dX2_rounds_90 : decode cX2_rounds 90 = .ok (.bipush 20, 2) := dk_16 20 (dk_at dksX2_rounds_3 20 rfl rfl)
theorem dX2_rounds_92 : decode cX2_rounds 92 = .ok (.if_icmp .ge 65, 3) := dk_162 0 65 (dk_at dksX2_rounds_4 0 rfl rfl)
theorem dX2_rounds_95 : decode cX2_rounds 95 = .ok (.iconst 0, 1) := dk_3 (dk_at dksX2_rounds_4 3 rfl rfl)
theorem dX2_rounds_96 : decode cX2_rounds 96 = .ok (.istore_n 2, 1) := dk_61 (dk_at dksX2_rounds_4 4 rfl rfl)
theorem dX2_rounds_97 : decode cX2_rounds 97 = .ok (.iload_n 2, 1) := dk_28 (dk_at dksX2_rounds_4 5 rfl rfl)
theorem dX2_rounds_98 : decode cX2_rounds 98 = .ok (.iload_n 1, 1) := dk_27 (dk_at dksX2_rounds_4 6 rfl rfl)
theorem dX2_rounds_99 : decode cX2_rounds 99 = .ok (.if_icmp .ge 52, 3) := dk_162 0 52 (dk_at dksX2_rounds_4 7 rfl rfl)
theorem dX2_rounds_102 : decode cX2_rounds 102 = .ok (.iconst 0, 1) := dk_3 (dk_at dksX2_rounds_4 10 rfl rfl)
theorem dX2_rounds_103 : decode cX2_rounds 103 = .ok (.istore_n 3, 1) := dk_62 (dk_at dksX2_rounds_4 11 rfl rfl)
theorem dX2_rounds_104 : decode cX2_rounds 104 = .ok (.iload_n 3, 1) := dk_29 (dk_at dksX2_rounds_4 12 rfl rfl)
theorem dX2_rounds_105 : decode cX2_rounds 105 = .ok (.iload_n 2, 1) := dk_28 (dk_at dksX2_rounds_4 13 rfl rfl)
theorem dX2_rounds_106 : decode cX2_rounds 106 = .ok (.if_icmp .ge 39, 3) := dk_162 0 39 (dk_at dksX2_rounds_4 14 rfl rfl)
theorem dX2_rounds_109 : decode cX2_rounds 109 = .ok (.aload_n 0, 1) := dk_42 (dk_at dksX2_rounds_4 17 rfl rfl)
theorem dX2_rounds_110 : decode cX2_rounds 110 = .ok (.iconst 1, 1) := dk_4 (dk_at dksX2_rounds_4 18 rfl rfl)
theorem dX2_rounds_111 : decode cX2_rounds 111 = .ok (.iload_n 3, 1) := dk_29 (dk_at dksX2_rounds_4 19 rfl rfl)
theorem dX2_rounds_112 : decode cX2_rounds 112 = .ok (.ishl, 1) := dk_120 (dk_at dksX2_rounds_4 20 rfl rfl)
theorem dX2_rounds_113 : decode cX2_rounds 113 = .ok (.iconst 1, 1) := dk_4 (dk_at dksX2_rounds_4 21 rfl rfl)
theorem dX2_rounds_114 : decode cX2_rounds 114 = .ok (.iload_n 2, 1) := dk_28 (dk_at dksX2_rounds_4 22 rfl rfl)
theorem dX2_rounds_115 : decode cX2_rounds 115 = .ok (.ishl, 1) := dk_120 (dk_at dksX2_rounds_4 23 rfl rfl)
theorem dX2_rounds_116 : decode cX2_rounds 116 = .ok (.ior, 1) := dk_128 (dk_at dksX2_rounds_5 0 rfl rfl)
theorem dX2_rounds_117 : decode cX2_rounds 117 = .ok (.iconst 1, 1) := dk_4 (dk_at dksX2_rounds_5 1 rfl rfl)
theorem dX2_rounds_118 : decode cX2_rounds 118 = .ok (.iload_n 1, 1) := dk_27 (dk_at dksX2_rounds_5 2 rfl rfl)
theorem dX2_rounds_119 : decode cX2_rounds 119 = .ok (.ishl, 1) := dk_120 (dk_at dksX2_rounds_5 3 rfl rfl)
theorem dX2_rounds_120 : decode cX2_rounds 120 = .ok (.ior, 1) := dk_128 (dk_at dksX2_rounds_5 4 rfl rfl)
theorem dX2_rounds_121 : decode cX2_rounds 121 = .ok (.invokevirtual 455, 3) := dk_182 1 199 (dk_at dksX2_rounds_5 5 rfl rfl)
theorem dX2_rounds_124 : decode cX2_rounds 124 = .ok (.ifCond .eq 15, 3) := dk_153 0 15 (dk_at dksX2_rounds_5 8 rfl rfl)
theorem dX2_rounds_127 : decode cX2_rounds 127 = .ok (.iconst 1, 1) := dk_4 (dk_at dksX2_rounds_5 11 rfl rfl)
theorem dX2_rounds_128 : decode cX2_rounds 128 = .ok (.iload_n 3, 1) := dk_29 (dk_at dksX2_rounds_5 12 rfl rfl)
theorem dX2_rounds_129 : decode cX2_rounds 129 = .ok (.ishl, 1) := dk_120 (dk_at dksX2_rounds_5 13 rfl rfl)
theorem dX2_rounds_130 : decode cX2_rounds 130 = .ok (.iconst 1, 1) := dk_4 (dk_at dksX2_rounds_5 14 rfl rfl)
theorem dX2_rounds_131 : decode cX2_rounds 131 = .ok (.iload_n 2, 1) := dk_28 (dk_at dksX2_rounds_5 15 rfl rfl)
theorem dX2_rounds_132 : decode cX2_rounds 132 = .ok (.ishl, 1) := dk_120 (dk_at dksX2_rounds_5 16 rfl rfl)
theorem dX2_rounds_133 : decode cX2_rounds 133 = .ok (.ior, 1) := dk_128 (dk_at dksX2_rounds_5 17 rfl rfl)
theorem dX2_rounds_134 : decode cX2_rounds 134 = .ok (.iconst 1, 1) := dk_4 (dk_at dksX2_rounds_5 18 rfl rfl)
theorem dX2_rounds_135 : decode cX2_rounds 135 = .ok (.iload_n 1, 1) := dk_27 (dk_at dksX2_rounds_5 19 rfl rfl)
theorem dX2_rounds_136 : decode cX2_rounds 136 = .ok (.ishl, 1) := dk_120 (dk_at dksX2_rounds_5 20 rfl rfl)
theorem dX2_rounds_137 : decode cX2_rounds 137 = .ok (.ior, 1) := dk_128 (dk_at dksX2_rounds_5 21 rfl rfl)
theorem dX2_rounds_138 : decode cX2_rounds 138 = .ok (.ireturn, 1) := dk_172 (dk_at dksX2_rounds_5 22 rfl rfl)
theorem dX2_rounds_139 : decode cX2_rounds 139 = .ok (.iinc 3 1, 3) := dk_132 3 1 (dk_at dksX2_rounds_6 0 rfl rfl)
theorem dX2_rounds_142 : decode cX2_rounds 142 = .ok (.goto (-38), 3) := dk_167 255 218 (dk_at dksX2_rounds_6 3 rfl rfl)
theorem dX2_rounds_145 : decode cX2_rounds 145 = .ok (.iinc 2 1, 3) := dk_132 2 1 (dk_at dksX2_rounds_6 6 rfl rfl)
theorem dX2_rounds_148 : decode cX2_rounds 148 = .ok (.goto (-51), 3) := dk_167 255 205 (dk_at dksX2_rounds_6 9 rfl rfl)
theorem dX2_rounds_151 : decode cX2_rounds 151 = .ok (.iinc 1 1, 3) := dk_132 1 1 (dk_at dksX2_rounds_6 12 rfl rfl)
theorem dX2_rounds_154 : decode cX2_rounds 154 = .ok (.goto (-65), 3) := dk_167 255 191 (dk_at dksX2_rounds_6 15 rfl rfl)
theorem dX2_rounds_157 : decode cX2_rounds 157 = .ok (.bipush 15, 2) := dk_16 15 (dk_at dksX2_rounds_6 18 rfl rfl)
theorem dX2_rounds_159 : decode cX2_rounds 159 = .ok (.ireturn, 1) := dk_172 (dk_at dksX2_rounds_6 20 rfl rfl)
abbrev cX2_isRound : ByteArray := prog_19_method_126_code
def yX2_isRound : MethodName := ⟨RX2, "isRound", "(I)Z"⟩
def dkwX2_isRound_1 : List UInt8 := [182, 0, 73, 2, 130, 126, 154, 0, 5, 3, 172, 132, 2, 1, 167, 255, 220, 4, 172]
abbrev dktX2_isRound_1 : List UInt8 := dkwX2_isRound_1 ++ []
def dkwX2_isRound_0 : List UInt8 := [3, 61, 28, 42, 180, 0, 7, 3, 46, 162, 0, 32, 42, 28, 182, 0, 77, 153, 0, 18, 27, 42, 28, 3]
abbrev dktX2_isRound_0 : List UInt8 := dkwX2_isRound_0 ++ dktX2_isRound_1
theorem dksX2_isRound_0 : cX2_isRound.data.toList.drop 0 = dktX2_isRound_0 := by decide +kernel
theorem dksX2_isRound_1 : cX2_isRound.data.toList.drop 24 = dktX2_isRound_1 := dk_seg dksX2_isRound_0 24 rfl rfl
theorem dX2_isRound_0 : decode cX2_isRound 0 = .ok (.iconst 0, 1) := dk_3 (dk_at dksX2_isRound_0 0 rfl rfl)
theorem dX2_isRound_1 : decode cX2_isRound 1 = .ok (.istore_n 2, 1) := dk_61 (dk_at dksX2_isRound_0 1 rfl rfl)
theorem dX2_isRound_2 : decode cX2_isRound 2 = .ok (.iload_n 2, 1) := dk_28 (dk_at dksX2_isRound_0 2 rfl rfl)
theorem dX2_isRound_3 : decode cX2_isRound 3 = .ok (.aload_n 0, 1) := dk_42 (dk_at dksX2_isRound_0 3 rfl rfl)
theorem dX2_isRound_4 : decode cX2_isRound 4 = .ok (.getfield 7, 3) := dk_180 0 7 (dk_at dksX2_isRound_0 4 rfl rfl)
theorem dX2_isRound_7 : decode cX2_isRound 7 = .ok (.iconst 0, 1) := dk_3 (dk_at dksX2_isRound_0 7 rfl rfl)
theorem dX2_isRound_8 : decode cX2_isRound 8 = .ok (.iaload, 1) := dk_46 (dk_at dksX2_isRound_0 8 rfl rfl)
theorem dX2_isRound_9 : decode cX2_isRound 9 = .ok (.if_icmp .ge 32, 3) := dk_162 0 32 (dk_at dksX2_isRound_0 9 rfl rfl)
theorem dX2_isRound_12 : decode cX2_isRound 12 = .ok (.aload_n 0, 1) := dk_42 (dk_at dksX2_isRound_0 12 rfl rfl)
theorem dX2_isRound_13 : decode cX2_isRound 13 = .ok (.iload_n 2, 1) := dk_28 (dk_at dksX2_isRound_0 13 rfl rfl)
theorem dX2_isRound_14 : decode cX2_isRound 14 = .ok (.invokevirtual 77, 3) := dk_182 0 77 (dk_at dksX2_isRound_0 14 rfl rfl)
theorem dX2_isRound_17 : decode cX2_isRound 17 = .ok (.ifCond .eq 18, 3) := dk_153 0 18 (dk_at dksX2_isRound_0 17 rfl rfl)
theorem dX2_isRound_20 : decode cX2_isRound 20 = .ok (.iload_n 1, 1) := dk_27 (dk_at dksX2_isRound_0 20 rfl rfl)
theorem dX2_isRound_21 : decode cX2_isRound 21 = .ok (.aload_n 0, 1) := dk_42 (dk_at dksX2_isRound_0 21 rfl rfl)
theorem dX2_isRound_22 : decode cX2_isRound 22 = .ok (.iload_n 2, 1) := dk_28 (dk_at dksX2_isRound_0 22 rfl rfl)
theorem dX2_isRound_23 : decode cX2_isRound 23 = .ok (.iconst 0, 1) := dk_3 (dk_at dksX2_isRound_0 23 rfl rfl)
theorem dX2_isRound_24 : decode cX2_isRound 24 = .ok (.invokevirtual 73, 3) := dk_182 0 73 (dk_at dksX2_isRound_1 0 rfl rfl)
theorem dX2_isRound_27 : decode cX2_isRound 27 = .ok (.iconst (-1), 1) := dk_2 (dk_at dksX2_isRound_1 3 rfl rfl)
theorem dX2_isRound_28 : decode cX2_isRound 28 = .ok (.ixor, 1) := dk_130 (dk_at dksX2_isRound_1 4 rfl rfl)
theorem dX2_isRound_29 : decode cX2_isRound 29 = .ok (.iand, 1) := dk_126 (dk_at dksX2_isRound_1 5 rfl rfl)
theorem dX2_isRound_30 : decode cX2_isRound 30 = .ok (.ifCond .ne 5, 3) := dk_154 0 5 (dk_at dksX2_isRound_1 6 rfl rfl)
theorem dX2_isRound_33 : decode cX2_isRound 33 = .ok (.iconst 0, 1) := dk_3 (dk_at dksX2_isRound_1 9 rfl rfl)
theorem dX2_isRound_34 : decode cX2_isRound 34 = .ok (.ireturn, 1) := dk_172 (dk_at dksX2_isRound_1 10 rfl rfl)
theorem dX2_isRound_35 : decode cX2_isRound 35 = .ok (.iinc 2 1, 3) := dk_132 2 1 (dk_at dksX2_isRound_1 11 rfl rfl)
theorem dX2_isRound_38 : decode cX2_isRound 38 = .ok (.goto (-36), 3) := dk_167 255 220 (dk_at dksX2_isRound_1 14 rfl rfl)
theorem dX2_isRound_41 : decode cX2_isRound 41 = .ok (.iconst 1, 1) := dk_4 (dk_at dksX2_isRound_1 17 rfl rfl)
theorem dX2_isRound_42 : decode cX2_isRound 42 = .ok (.ireturn, 1) := dk_172 (dk_at dksX2_isRound_1 18 rfl rfl)
abbrev cX2_weddings : ByteArray := prog_19_method_132_code
def yX2_weddings : MethodName := ⟨RX2, "weddings", "(I)I"⟩
def dkwX2_weddings_1 : List UInt8 := [160, 0, 7, 28, 167, 0, 9, 42, 180, 0, 58, 27, 46, 172]
abbrev dktX2_weddings_1 : List UInt8 := dkwX2_weddings_1 ++ []
def dkwX2_weddings_0 : List UInt8 := [27, 2, 159, 0, 14, 42, 27, 182, 0, 69, 154, 0, 6, 16, 254, 172, 42, 182, 1, 211, 61, 27, 2]
abbrev dktX2_weddings_0 : List UInt8 := dkwX2_weddings_0 ++ dktX2_weddings_1
theorem dksX2_weddings_0 : cX2_weddings.data.toList.drop 0 = dktX2_weddings_0 := by decide +kernel
theorem dksX2_weddings_1 : cX2_weddings.data.toList.drop 23 = dktX2_weddings_1 := dk_seg dksX2_weddings_0 23 rfl rfl
theorem dX2_weddings_0 : decode cX2_weddings 0 = .ok (.iload_n 1, 1) := dk_27 (dk_at dksX2_weddings_0 0 rfl rfl)
theorem dX2_weddings_1 : decode cX2_weddings 1 = .ok (.iconst (-1), 1) := dk_2 (dk_at dksX2_weddings_0 1 rfl rfl)
theorem dX2_weddings_2 : decode cX2_weddings 2 = .ok (.if_icmp .eq 14, 3) := dk_159 0 14 (dk_at dksX2_weddings_0 2 rfl rfl)
theorem dX2_weddings_5 : decode cX2_weddings 5 = .ok (.aload_n 0, 1) := dk_42 (dk_at dksX2_weddings_0 5 rfl rfl)
theorem dX2_weddings_6 : decode cX2_weddings 6 = .ok (.iload_n 1, 1) := dk_27 (dk_at dksX2_weddings_0 6 rfl rfl)
theorem dX2_weddings_7 : decode cX2_weddings 7 = .ok (.invokevirtual 69, 3) := dk_182 0 69 (dk_at dksX2_weddings_0 7 rfl rfl)
theorem dX2_weddings_10 : decode cX2_weddings 10 = .ok (.ifCond .ne 6, 3) := dk_154 0 6 (dk_at dksX2_weddings_0 10 rfl rfl)
theorem dX2_weddings_13 : decode cX2_weddings 13 = .ok (.bipush (-2), 2) := dk_16 254 (dk_at dksX2_weddings_0 13 rfl rfl)
theorem dX2_weddings_15 : decode cX2_weddings 15 = .ok (.ireturn, 1) := dk_172 (dk_at dksX2_weddings_0 15 rfl rfl)
theorem dX2_weddings_16 : decode cX2_weddings 16 = .ok (.aload_n 0, 1) := dk_42 (dk_at dksX2_weddings_0 16 rfl rfl)
theorem dX2_weddings_17 : decode cX2_weddings 17 = .ok (.invokevirtual 467, 3) := dk_182 1 211 (dk_at dksX2_weddings_0 17 rfl rfl)
theorem dX2_weddings_20 : decode cX2_weddings 20 = .ok (.istore_n 2, 1) := dk_61 (dk_at dksX2_weddings_0 20 rfl rfl)
theorem dX2_weddings_21 : decode cX2_weddings 21 = .ok (.iload_n 1, 1) := dk_27 (dk_at dksX2_weddings_0 21 rfl rfl)
theorem dX2_weddings_22 : decode cX2_weddings 22 = .ok (.iconst (-1), 1) := dk_2 (dk_at dksX2_weddings_0 22 rfl rfl)
theorem dX2_weddings_23 : decode cX2_weddings 23 = .ok (.if_icmp .ne 7, 3) := dk_160 0 7 (dk_at dksX2_weddings_1 0 rfl rfl)
theorem dX2_weddings_26 : decode cX2_weddings 26 = .ok (.iload_n 2, 1) := dk_28 (dk_at dksX2_weddings_1 3 rfl rfl)
theorem dX2_weddings_27 : decode cX2_weddings 27 = .ok (.goto 9, 3) := dk_167 0 9 (dk_at dksX2_weddings_1 4 rfl rfl)
theorem dX2_weddings_30 : decode cX2_weddings 30 = .ok (.aload_n 0, 1) := dk_42 (dk_at dksX2_weddings_1 7 rfl rfl)
theorem dX2_weddings_31 : decode cX2_weddings 31 = .ok (.getfield 58, 3) := dk_180 0 58 (dk_at dksX2_weddings_1 8 rfl rfl)
theorem dX2_weddings_34 : decode cX2_weddings 34 = .ok (.iload_n 1, 1) := dk_27 (dk_at dksX2_weddings_1 11 rfl rfl)
theorem dX2_weddings_35 : decode cX2_weddings 35 = .ok (.iaload, 1) := dk_46 (dk_at dksX2_weddings_1 12 rfl rfl)
theorem dX2_weddings_36 : decode cX2_weddings 36 = .ok (.ireturn, 1) := dk_172 (dk_at dksX2_weddings_1 13 rfl rfl)
abbrev cX2_wed : ByteArray := prog_19_method_131_code
def yX2_wed : MethodName := ⟨RX2, "wed", "()I"⟩
def dkwX2_wed_3 : List UInt8 := [46, 79, 132, 4, 1, 167, 255, 232, 42, 182, 1, 208, 61, 167, 255, 205, 27, 172]
abbrev dktX2_wed_3 : List UInt8 := dkwX2_wed_3 ++ []
def dkwX2_wed_2 : List UInt8 := [29, 60, 3, 54, 4, 21, 4, 16, 7, 162, 0, 23, 42, 180, 0, 58, 21, 4, 42, 180, 0, 55, 21, 4]
abbrev dktX2_wed_2 : List UInt8 := dkwX2_wed_2 ++ dktX2_wed_3
def dkwX2_wed_1 : List UInt8 := [132, 1, 1, 167, 255, 233, 2, 60, 4, 61, 28, 153, 0, 53, 42, 182, 1, 205, 62, 29, 27, 164, 0, 35]
abbrev dktX2_wed_1 : List UInt8 := dkwX2_wed_1 ++ dktX2_wed_2
def dkwX2_wed_0 : List UInt8 := [3, 60, 27, 16, 7, 162, 0, 23, 42, 180, 0, 55, 27, 2, 79, 42, 180, 0, 58, 27, 2, 79]
abbrev dktX2_wed_0 : List UInt8 := dkwX2_wed_0 ++ dktX2_wed_1
theorem dksX2_wed_0 : cX2_wed.data.toList.drop 0 = dktX2_wed_0 := by decide +kernel
theorem dksX2_wed_1 : cX2_wed.data.toList.drop 22 = dktX2_wed_1 := dk_seg dksX2_wed_0 22 rfl rfl
theorem dksX2_wed_2 : cX2_wed.data.toList.drop 46 = dktX2_wed_2 := dk_seg dksX2_wed_1 24 rfl rfl
theorem dksX2_wed_3 : cX2_wed.data.toList.drop 70 = dktX2_wed_3 := dk_seg dksX2_wed_2 24 rfl rfl
theorem dX2_wed_0 : decode cX2_wed 0 = .ok (.iconst 0, 1) := dk_3 (dk_at dksX2_wed_0 0 rfl rfl)
theorem dX2_wed_1 : decode cX2_wed 1 = .ok (.istore_n 1, 1) := dk_60 (dk_at dksX2_wed_0 1 rfl rfl)
theorem dX2_wed_2 : decode cX2_wed 2 = .ok (.iload_n 1, 1) := dk_27 (dk_at dksX2_wed_0 2 rfl rfl)
theorem dX2_wed_3 : decode cX2_wed 3 = .ok (.bipush 7, 2) := dk_16 7 (dk_at dksX2_wed_0 3 rfl rfl)
theorem dX2_wed_5 : decode cX2_wed 5 = .ok (.if_icmp .ge 23, 3) := dk_162 0 23 (dk_at dksX2_wed_0 5 rfl rfl)
theorem dX2_wed_8 : decode cX2_wed 8 = .ok (.aload_n 0, 1) := dk_42 (dk_at dksX2_wed_0 8 rfl rfl)
theorem dX2_wed_9 : decode cX2_wed 9 = .ok (.getfield 55, 3) := dk_180 0 55 (dk_at dksX2_wed_0 9 rfl rfl)
theorem dX2_wed_12 : decode cX2_wed 12 = .ok (.iload_n 1, 1) := dk_27 (dk_at dksX2_wed_0 12 rfl rfl)
theorem dX2_wed_13 : decode cX2_wed 13 = .ok (.iconst (-1), 1) := dk_2 (dk_at dksX2_wed_0 13 rfl rfl)
theorem dX2_wed_14 : decode cX2_wed 14 = .ok (.iastore, 1) := dk_79 (dk_at dksX2_wed_0 14 rfl rfl)
theorem dX2_wed_15 : decode cX2_wed 15 = .ok (.aload_n 0, 1) := dk_42 (dk_at dksX2_wed_0 15 rfl rfl)
theorem dX2_wed_16 : decode cX2_wed 16 = .ok (.getfield 58, 3) := dk_180 0 58 (dk_at dksX2_wed_0 16 rfl rfl)
theorem dX2_wed_19 : decode cX2_wed 19 = .ok (.iload_n 1, 1) := dk_27 (dk_at dksX2_wed_0 19 rfl rfl)
theorem dX2_wed_20 : decode cX2_wed 20 = .ok (.iconst (-1), 1) := dk_2 (dk_at dksX2_wed_0 20 rfl rfl)
theorem dX2_wed_21 : decode cX2_wed 21 = .ok (.iastore, 1) := dk_79 (dk_at dksX2_wed_0 21 rfl rfl)
theorem dX2_wed_22 : decode cX2_wed 22 = .ok (.iinc 1 1, 3) := dk_132 1 1 (dk_at dksX2_wed_1 0 rfl rfl)
theorem dX2_wed_25 : decode cX2_wed 25 = .ok (.goto (-23), 3) := dk_167 255 233 (dk_at dksX2_wed_1 3 rfl rfl)
theorem dX2_wed_28 : decode cX2_wed 28 = .ok (.iconst (-1), 1) := dk_2 (dk_at dksX2_wed_1 6 rfl rfl)
theorem dX2_wed_29 : decode cX2_wed 29 = .ok (.istore_n 1, 1) := dk_60 (dk_at dksX2_wed_1 7 rfl rfl)
theorem dX2_wed_30 : decode cX2_wed 30 = .ok (.iconst 1, 1) := dk_4 (dk_at dksX2_wed_1 8 rfl rfl)
theorem dX2_wed_31 : decode cX2_wed 31 = .ok (.istore_n 2, 1) := dk_61 (dk_at dksX2_wed_1 9 rfl rfl)
theorem dX2_wed_32 : decode cX2_wed 32 = .ok (.iload_n 2, 1) := dk_28 (dk_at dksX2_wed_1 10 rfl rfl)
theorem dX2_wed_33 : decode cX2_wed 33 = .ok (.ifCond .eq 53, 3) := dk_153 0 53 (dk_at dksX2_wed_1 11 rfl rfl)
theorem dX2_wed_36 : decode cX2_wed 36 = .ok (.aload_n 0, 1) := dk_42 (dk_at dksX2_wed_1 14 rfl rfl)
theorem dX2_wed_37 : decode cX2_wed 37 = .ok (.invokevirtual 461, 3) := dk_182 1 205 (dk_at dksX2_wed_1 15 rfl rfl)
theorem dX2_wed_40 : decode cX2_wed 40 = .ok (.istore_n 3, 1) := dk_62 (dk_at dksX2_wed_1 18 rfl rfl)
theorem dX2_wed_41 : decode cX2_wed 41 = .ok (.iload_n 3, 1) := dk_29 (dk_at dksX2_wed_1 19 rfl rfl)
theorem dX2_wed_42 : decode cX2_wed 42 = .ok (.iload_n 1, 1) := dk_27 (dk_at dksX2_wed_1 20 rfl rfl)
theorem dX2_wed_43 : decode cX2_wed 43 = .ok (.if_icmp .le 35, 3) := dk_164 0 35 (dk_at dksX2_wed_1 21 rfl rfl)
theorem dX2_wed_46 : decode cX2_wed 46 = .ok (.iload_n 3, 1) := dk_29 (dk_at dksX2_wed_2 0 rfl rfl)
theorem dX2_wed_47 : decode cX2_wed 47 = .ok (.istore_n 1, 1) := dk_60 (dk_at dksX2_wed_2 1 rfl rfl)
theorem dX2_wed_48 : decode cX2_wed 48 = .ok (.iconst 0, 1) := dk_3 (dk_at dksX2_wed_2 2 rfl rfl)
theorem dX2_wed_49 : decode cX2_wed 49 = .ok (.istore 4, 2) := dk_54 4 (dk_at dksX2_wed_2 3 rfl rfl)
theorem dX2_wed_51 : decode cX2_wed 51 = .ok (.iload 4, 2) := dk_21 4 (dk_at dksX2_wed_2 5 rfl rfl)
theorem dX2_wed_53 : decode cX2_wed 53 = .ok (.bipush 7, 2) := dk_16 7 (dk_at dksX2_wed_2 7 rfl rfl)
theorem dX2_wed_55 : decode cX2_wed 55 = .ok (.if_icmp .ge 23, 3) := dk_162 0 23 (dk_at dksX2_wed_2 9 rfl rfl)
theorem dX2_wed_58 : decode cX2_wed 58 = .ok (.aload_n 0, 1) := dk_42 (dk_at dksX2_wed_2 12 rfl rfl)
theorem dX2_wed_59 : decode cX2_wed 59 = .ok (.getfield 58, 3) := dk_180 0 58 (dk_at dksX2_wed_2 13 rfl rfl)
theorem dX2_wed_62 : decode cX2_wed 62 = .ok (.iload 4, 2) := dk_21 4 (dk_at dksX2_wed_2 16 rfl rfl)
theorem dX2_wed_64 : decode cX2_wed 64 = .ok (.aload_n 0, 1) := dk_42 (dk_at dksX2_wed_2 18 rfl rfl)
theorem dX2_wed_65 : decode cX2_wed 65 = .ok (.getfield 55, 3) := dk_180 0 55 (dk_at dksX2_wed_2 19 rfl rfl)
theorem dX2_wed_68 : decode cX2_wed 68 = .ok (.iload 4, 2) := dk_21 4 (dk_at dksX2_wed_2 22 rfl rfl)
theorem dX2_wed_70 : decode cX2_wed 70 = .ok (.iaload, 1) := dk_46 (dk_at dksX2_wed_3 0 rfl rfl)
theorem dX2_wed_71 : decode cX2_wed 71 = .ok (.iastore, 1) := dk_79 (dk_at dksX2_wed_3 1 rfl rfl)
theorem dX2_wed_72 : decode cX2_wed 72 = .ok (.iinc 4 1, 3) := dk_132 4 1 (dk_at dksX2_wed_3 2 rfl rfl)
theorem dX2_wed_75 : decode cX2_wed 75 = .ok (.goto (-24), 3) := dk_167 255 232 (dk_at dksX2_wed_3 5 rfl rfl)
theorem dX2_wed_78 : decode cX2_wed 78 = .ok (.aload_n 0, 1) := dk_42 (dk_at dksX2_wed_3 8 rfl rfl)
theorem dX2_wed_79 : decode cX2_wed 79 = .ok (.invokevirtual 464, 3) := dk_182 1 208 (dk_at dksX2_wed_3 9 rfl rfl)
theorem dX2_wed_82 : decode cX2_wed 82 = .ok (.istore_n 2, 1) := dk_61 (dk_at dksX2_wed_3 12 rfl rfl)
theorem dX2_wed_83 : decode cX2_wed 83 = .ok (.goto (-51), 3) := dk_167 255 205 (dk_at dksX2_wed_3 13 rfl rfl)
theorem dX2_wed_86 : decode cX2_wed 86 = .ok (.iload_n 1, 1) := dk_27 (dk_at dksX2_wed_3 16 rfl rfl)
theorem dX2_wed_87 : decode cX2_wed 87 = .ok (.ireturn, 1) := dk_172 (dk_at dksX2_wed_3 17 rfl rfl)
abbrev cX2_sharedNow : ByteArray := prog_19_method_128_code
def yX2_sharedNow : MethodName := ⟨RX2, "sharedNow", "()I"⟩
def dkwX2_sharedNow_2 : List UInt8 := [167, 0, 4, 3, 96, 60, 132, 2, 1, 167, 255, 205, 27, 172]
abbrev dktX2_sharedNow_2 : List UInt8 := dkwX2_sharedNow_2 ++ []
def dkwX2_sharedNow_1 : List UInt8 := [164, 0, 27, 42, 28, 3, 182, 0, 73, 42, 42, 180, 0, 55, 28, 46, 3, 182, 0, 73, 126, 184, 1, 49]
abbrev dktX2_sharedNow_1 : List UInt8 := dkwX2_sharedNow_1 ++ dktX2_sharedNow_2
def dkwX2_sharedNow_0 : List UInt8 := [3, 60, 3, 61, 28, 42, 180, 0, 7, 3, 46, 162, 0, 47, 27, 42, 180, 0, 55, 28, 46, 28]
abbrev dktX2_sharedNow_0 : List UInt8 := dkwX2_sharedNow_0 ++ dktX2_sharedNow_1
theorem dksX2_sharedNow_0 : cX2_sharedNow.data.toList.drop 0 = dktX2_sharedNow_0 := by decide +kernel
theorem dksX2_sharedNow_1 : cX2_sharedNow.data.toList.drop 22 = dktX2_sharedNow_1 := dk_seg dksX2_sharedNow_0 22 rfl rfl
theorem dksX2_sharedNow_2 : cX2_sharedNow.data.toList.drop 46 = dktX2_sharedNow_2 := dk_seg dksX2_sharedNow_1 24 rfl rfl
theorem dX2_sharedNow_0 : decode cX2_sharedNow 0 = .ok (.iconst 0, 1) := dk_3 (dk_at dksX2_sharedNow_0 0 rfl rfl)
theorem dX2_sharedNow_1 : decode cX2_sharedNow 1 = .ok (.istore_n 1, 1) := dk_60 (dk_at dksX2_sharedNow_0 1 rfl rfl)
theorem dX2_sharedNow_2 : decode cX2_sharedNow 2 = .ok (.iconst 0, 1) := dk_3 (dk_at dksX2_sharedNow_0 2 rfl rfl)
theorem dX2_sharedNow_3 : decode cX2_sharedNow 3 = .ok (.istore_n 2, 1) := dk_61 (dk_at dksX2_sharedNow_0 3 rfl rfl)
theorem dX2_sharedNow_4 : decode cX2_sharedNow 4 = .ok (.iload_n 2, 1) := dk_28 (dk_at dksX2_sharedNow_0 4 rfl rfl)
theorem dX2_sharedNow_5 : decode cX2_sharedNow 5 = .ok (.aload_n 0, 1) := dk_42 (dk_at dksX2_sharedNow_0 5 rfl rfl)
theorem dX2_sharedNow_6 : decode cX2_sharedNow 6 = .ok (.getfield 7, 3) := dk_180 0 7 (dk_at dksX2_sharedNow_0 6 rfl rfl)
theorem dX2_sharedNow_9 : decode cX2_sharedNow 9 = .ok (.iconst 0, 1) := dk_3 (dk_at dksX2_sharedNow_0 9 rfl rfl)
theorem dX2_sharedNow_10 : decode cX2_sharedNow 10 = .ok (.iaload, 1) := dk_46 (dk_at dksX2_sharedNow_0 10 rfl rfl)
theorem dX2_sharedNow_11 : decode cX2_sharedNow 11 = .ok (.if_icmp .ge 47, 3) := dk_162 0 47 (dk_at dksX2_sharedNow_0 11 rfl rfl)
theorem dX2_sharedNow_14 : decode cX2_sharedNow 14 = .ok (.iload_n 1, 1) := dk_27 (dk_at dksX2_sharedNow_0 14 rfl rfl)
theorem dX2_sharedNow_15 : decode cX2_sharedNow 15 = .ok (.aload_n 0, 1) := dk_42 (dk_at dksX2_sharedNow_0 15 rfl rfl)
theorem dX2_sharedNow_16 : decode cX2_sharedNow 16 = .ok (.getfield 55, 3) := dk_180 0 55 (dk_at dksX2_sharedNow_0 16 rfl rfl)
theorem dX2_sharedNow_19 : decode cX2_sharedNow 19 = .ok (.iload_n 2, 1) := dk_28 (dk_at dksX2_sharedNow_0 19 rfl rfl)
theorem dX2_sharedNow_20 : decode cX2_sharedNow 20 = .ok (.iaload, 1) := dk_46 (dk_at dksX2_sharedNow_0 20 rfl rfl)
theorem dX2_sharedNow_21 : decode cX2_sharedNow 21 = .ok (.iload_n 2, 1) := dk_28 (dk_at dksX2_sharedNow_0 21 rfl rfl)
theorem dX2_sharedNow_22 : decode cX2_sharedNow 22 = .ok (.if_icmp .le 27, 3) := dk_164 0 27 (dk_at dksX2_sharedNow_1 0 rfl rfl)
theorem dX2_sharedNow_25 : decode cX2_sharedNow 25 = .ok (.aload_n 0, 1) := dk_42 (dk_at dksX2_sharedNow_1 3 rfl rfl)
theorem dX2_sharedNow_26 : decode cX2_sharedNow 26 = .ok (.iload_n 2, 1) := dk_28 (dk_at dksX2_sharedNow_1 4 rfl rfl)
theorem dX2_sharedNow_27 : decode cX2_sharedNow 27 = .ok (.iconst 0, 1) := dk_3 (dk_at dksX2_sharedNow_1 5 rfl rfl)
theorem dX2_sharedNow_28 : decode cX2_sharedNow 28 = .ok (.invokevirtual 73, 3) := dk_182 0 73 (dk_at dksX2_sharedNow_1 6 rfl rfl)
theorem dX2_sharedNow_31 : decode cX2_sharedNow 31 = .ok (.aload_n 0, 1) := dk_42 (dk_at dksX2_sharedNow_1 9 rfl rfl)
theorem dX2_sharedNow_32 : decode cX2_sharedNow 32 = .ok (.aload_n 0, 1) := dk_42 (dk_at dksX2_sharedNow_1 10 rfl rfl)
theorem dX2_sharedNow_33 : decode cX2_sharedNow 33 = .ok (.getfield 55, 3) := dk_180 0 55 (dk_at dksX2_sharedNow_1 11 rfl rfl)
theorem dX2_sharedNow_36 : decode cX2_sharedNow 36 = .ok (.iload_n 2, 1) := dk_28 (dk_at dksX2_sharedNow_1 14 rfl rfl)
theorem dX2_sharedNow_37 : decode cX2_sharedNow 37 = .ok (.iaload, 1) := dk_46 (dk_at dksX2_sharedNow_1 15 rfl rfl)
theorem dX2_sharedNow_38 : decode cX2_sharedNow 38 = .ok (.iconst 0, 1) := dk_3 (dk_at dksX2_sharedNow_1 16 rfl rfl)
theorem dX2_sharedNow_39 : decode cX2_sharedNow 39 = .ok (.invokevirtual 73, 3) := dk_182 0 73 (dk_at dksX2_sharedNow_1 17 rfl rfl)
theorem dX2_sharedNow_42 : decode cX2_sharedNow 42 = .ok (.iand, 1) := dk_126 (dk_at dksX2_sharedNow_1 20 rfl rfl)
theorem dX2_sharedNow_43 : decode cX2_sharedNow 43 = .ok (.invokestatic 305, 3) := dk_184 1 49 (dk_at dksX2_sharedNow_1 21 rfl rfl)
theorem dX2_sharedNow_46 : decode cX2_sharedNow 46 = .ok (.goto 4, 3) := dk_167 0 4 (dk_at dksX2_sharedNow_2 0 rfl rfl)
theorem dX2_sharedNow_49 : decode cX2_sharedNow 49 = .ok (.iconst 0, 1) := dk_3 (dk_at dksX2_sharedNow_2 3 rfl rfl)
theorem dX2_sharedNow_50 : decode cX2_sharedNow 50 = .ok (.iadd, 1) := dk_96 (dk_at dksX2_sharedNow_2 4 rfl rfl)
theorem dX2_sharedNow_51 : decode cX2_sharedNow 51 = .ok (.istore_n 1, 1) := dk_60 (dk_at dksX2_sharedNow_2 5 rfl rfl)
theorem dX2_sharedNow_52 : decode cX2_sharedNow 52 = .ok (.iinc 2 1, 3) := dk_132 2 1 (dk_at dksX2_sharedNow_2 6 rfl rfl)
theorem dX2_sharedNow_55 : decode cX2_sharedNow 55 = .ok (.goto (-51), 3) := dk_167 255 205 (dk_at dksX2_sharedNow_2 9 rfl rfl)
theorem dX2_sharedNow_58 : decode cX2_sharedNow 58 = .ok (.iload_n 1, 1) := dk_27 (dk_at dksX2_sharedNow_2 12 rfl rfl)
theorem dX2_sharedNow_59 : decode cX2_sharedNow 59 = .ok (.ireturn, 1) := dk_172 (dk_at dksX2_sharedNow_2 13 rfl rfl)
abbrev cX2_nextRow : ByteArray := prog_19_method_130_code
def yX2_nextRow : MethodName := ⟨RX2, "nextRow", "()Z"⟩
def dkwX2_nextRow_4 : List UInt8 := [180, 0, 55, 29, 27, 79, 4, 172, 132, 1, 255, 167, 255, 161, 3, 172]
abbrev dktX2_nextRow_4 : List UInt8 := dkwX2_nextRow_4 ++ []
def dkwX2_nextRow_3 : List UInt8 := [79, 42, 27, 28, 182, 1, 202, 62, 29, 2, 160, 0, 6, 167, 0, 19, 42, 180, 0, 55, 27, 29, 79, 42]
abbrev dktX2_nextRow_3 : List UInt8 := dkwX2_nextRow_3 ++ dktX2_nextRow_4
def dkwX2_nextRow_2 : List UInt8 := [180, 0, 55, 27, 46, 61, 28, 2, 159, 0, 10, 42, 180, 0, 55, 28, 2, 79, 42, 180, 0, 55, 27, 2]
abbrev dktX2_nextRow_2 : List UInt8 := dkwX2_nextRow_2 ++ dktX2_nextRow_3
def dkwX2_nextRow_1 : List UInt8 := [180, 0, 55, 27, 46, 2, 159, 0, 16, 42, 180, 0, 55, 27, 46, 27, 162, 0, 6, 167, 0, 60, 42]
abbrev dktX2_nextRow_1 : List UInt8 := dkwX2_nextRow_1 ++ dktX2_nextRow_2
def dkwX2_nextRow_0 : List UInt8 := [42, 180, 0, 7, 3, 46, 4, 100, 60, 27, 155, 0, 97, 42, 27, 182, 0, 77, 153, 0, 83, 42]
abbrev dktX2_nextRow_0 : List UInt8 := dkwX2_nextRow_0 ++ dktX2_nextRow_1
theorem dksX2_nextRow_0 : cX2_nextRow.data.toList.drop 0 = dktX2_nextRow_0 := by decide +kernel
theorem dksX2_nextRow_1 : cX2_nextRow.data.toList.drop 22 = dktX2_nextRow_1 := dk_seg dksX2_nextRow_0 22 rfl rfl
theorem dksX2_nextRow_2 : cX2_nextRow.data.toList.drop 45 = dktX2_nextRow_2 := dk_seg dksX2_nextRow_1 23 rfl rfl
theorem dksX2_nextRow_3 : cX2_nextRow.data.toList.drop 69 = dktX2_nextRow_3 := dk_seg dksX2_nextRow_2 24 rfl rfl
theorem dksX2_nextRow_4 : cX2_nextRow.data.toList.drop 93 = dktX2_nextRow_4 := dk_seg dksX2_nextRow_3 24 rfl rfl
theorem dX2_nextRow_0 : decode cX2_nextRow 0 = .ok (.aload_n 0, 1) := dk_42 (dk_at dksX2_nextRow_0 0 rfl rfl)
theorem dX2_nextRow_1 : decode cX2_nextRow 1 = .ok (.getfield 7, 3) := dk_180 0 7 (dk_at dksX2_nextRow_0 1 rfl rfl)
theorem dX2_nextRow_4 : decode cX2_nextRow 4 = .ok (.iconst 0, 1) := dk_3 (dk_at dksX2_nextRow_0 4 rfl rfl)
theorem dX2_nextRow_5 : decode cX2_nextRow 5 = .ok (.iaload, 1) := dk_46 (dk_at dksX2_nextRow_0 5 rfl rfl)
theorem dX2_nextRow_6 : decode cX2_nextRow 6 = .ok (.iconst 1, 1) := dk_4 (dk_at dksX2_nextRow_0 6 rfl rfl)
theorem dX2_nextRow_7 : decode cX2_nextRow 7 = .ok (.isub, 1) := dk_100 (dk_at dksX2_nextRow_0 7 rfl rfl)
theorem dX2_nextRow_8 : decode cX2_nextRow 8 = .ok (.istore_n 1, 1) := dk_60 (dk_at dksX2_nextRow_0 8 rfl rfl)
theorem dX2_nextRow_9 : decode cX2_nextRow 9 = .ok (.iload_n 1, 1) := dk_27 (dk_at dksX2_nextRow_0 9 rfl rfl)
theorem dX2_nextRow_10 : decode cX2_nextRow 10 = .ok (.ifCond .lt 97, 3) := dk_155 0 97 (dk_at dksX2_nextRow_0 10 rfl rfl)
theorem dX2_nextRow_13 : decode cX2_nextRow 13 = .ok (.aload_n 0, 1) := dk_42 (dk_at dksX2_nextRow_0 13 rfl rfl)
theorem dX2_nextRow_14 : decode cX2_nextRow 14 = .ok (.iload_n 1, 1) := dk_27 (dk_at dksX2_nextRow_0 14 rfl rfl)
theorem dX2_nextRow_15 : decode cX2_nextRow 15 = .ok (.invokevirtual 77, 3) := dk_182 0 77 (dk_at dksX2_nextRow_0 15 rfl rfl)
theorem dX2_nextRow_18 : decode cX2_nextRow 18 = .ok (.ifCond .eq 83, 3) := dk_153 0 83 (dk_at dksX2_nextRow_0 18 rfl rfl)
theorem dX2_nextRow_21 : decode cX2_nextRow 21 = .ok (.aload_n 0, 1) := dk_42 (dk_at dksX2_nextRow_0 21 rfl rfl)
theorem dX2_nextRow_22 : decode cX2_nextRow 22 = .ok (.getfield 55, 3) := dk_180 0 55 (dk_at dksX2_nextRow_1 0 rfl rfl)
theorem dX2_nextRow_25 : decode cX2_nextRow 25 = .ok (.iload_n 1, 1) := dk_27 (dk_at dksX2_nextRow_1 3 rfl rfl)
theorem dX2_nextRow_26 : decode cX2_nextRow 26 = .ok (.iaload, 1) := dk_46 (dk_at dksX2_nextRow_1 4 rfl rfl)
theorem dX2_nextRow_27 : decode cX2_nextRow 27 = .ok (.iconst (-1), 1) := dk_2 (dk_at dksX2_nextRow_1 5 rfl rfl)
theorem dX2_nextRow_28 : decode cX2_nextRow 28 = .ok (.if_icmp .eq 16, 3) := dk_159 0 16 (dk_at dksX2_nextRow_1 6 rfl rfl)
theorem dX2_nextRow_31 : decode cX2_nextRow 31 = .ok (.aload_n 0, 1) := dk_42 (dk_at dksX2_nextRow_1 9 rfl rfl)
theorem dX2_nextRow_32 : decode cX2_nextRow 32 = .ok (.getfield 55, 3) := dk_180 0 55 (dk_at dksX2_nextRow_1 10 rfl rfl)
theorem dX2_nextRow_35 : decode cX2_nextRow 35 = .ok (.iload_n 1, 1) := dk_27 (dk_at dksX2_nextRow_1 13 rfl rfl)
theorem dX2_nextRow_36 : decode cX2_nextRow 36 = .ok (.iaload, 1) := dk_46 (dk_at dksX2_nextRow_1 14 rfl rfl)
theorem dX2_nextRow_37 : decode cX2_nextRow 37 = .ok (.iload_n 1, 1) := dk_27 (dk_at dksX2_nextRow_1 15 rfl rfl)
theorem dX2_nextRow_38 : decode cX2_nextRow 38 = .ok (.if_icmp .ge 6, 3) := dk_162 0 6 (dk_at dksX2_nextRow_1 16 rfl rfl)
theorem dX2_nextRow_41 : decode cX2_nextRow 41 = .ok (.goto 60, 3) := dk_167 0 60 (dk_at dksX2_nextRow_1 19 rfl rfl)
theorem dX2_nextRow_44 : decode cX2_nextRow 44 = .ok (.aload_n 0, 1) := dk_42 (dk_at dksX2_nextRow_1 22 rfl rfl)
theorem dX2_nextRow_45 : decode cX2_nextRow 45 = .ok (.getfield 55, 3) := dk_180 0 55 (dk_at dksX2_nextRow_2 0 rfl rfl)
theorem dX2_nextRow_48 : decode cX2_nextRow 48 = .ok (.iload_n 1, 1) := dk_27 (dk_at dksX2_nextRow_2 3 rfl rfl)
theorem dX2_nextRow_49 : decode cX2_nextRow 49 = .ok (.iaload, 1) := dk_46 (dk_at dksX2_nextRow_2 4 rfl rfl)
theorem dX2_nextRow_50 : decode cX2_nextRow 50 = .ok (.istore_n 2, 1) := dk_61 (dk_at dksX2_nextRow_2 5 rfl rfl)
theorem dX2_nextRow_51 : decode cX2_nextRow 51 = .ok (.iload_n 2, 1) := dk_28 (dk_at dksX2_nextRow_2 6 rfl rfl)
theorem dX2_nextRow_52 : decode cX2_nextRow 52 = .ok (.iconst (-1), 1) := dk_2 (dk_at dksX2_nextRow_2 7 rfl rfl)
theorem dX2_nextRow_53 : decode cX2_nextRow 53 = .ok (.if_icmp .eq 10, 3) := dk_159 0 10 (dk_at dksX2_nextRow_2 8 rfl rfl)
theorem dX2_nextRow_56 : decode cX2_nextRow 56 = .ok (.aload_n 0, 1) := dk_42 (dk_at dksX2_nextRow_2 11 rfl rfl)
theorem dX2_nextRow_57 : decode cX2_nextRow 57 = .ok (.getfield 55, 3) := dk_180 0 55 (dk_at dksX2_nextRow_2 12 rfl rfl)
theorem dX2_nextRow_60 : decode cX2_nextRow 60 = .ok (.iload_n 2, 1) := dk_28 (dk_at dksX2_nextRow_2 15 rfl rfl)
theorem dX2_nextRow_61 : decode cX2_nextRow 61 = .ok (.iconst (-1), 1) := dk_2 (dk_at dksX2_nextRow_2 16 rfl rfl)
theorem dX2_nextRow_62 : decode cX2_nextRow 62 = .ok (.iastore, 1) := dk_79 (dk_at dksX2_nextRow_2 17 rfl rfl)
theorem dX2_nextRow_63 : decode cX2_nextRow 63 = .ok (.aload_n 0, 1) := dk_42 (dk_at dksX2_nextRow_2 18 rfl rfl)
theorem dX2_nextRow_64 : decode cX2_nextRow 64 = .ok (.getfield 55, 3) := dk_180 0 55 (dk_at dksX2_nextRow_2 19 rfl rfl)
theorem dX2_nextRow_67 : decode cX2_nextRow 67 = .ok (.iload_n 1, 1) := dk_27 (dk_at dksX2_nextRow_2 22 rfl rfl)
theorem dX2_nextRow_68 : decode cX2_nextRow 68 = .ok (.iconst (-1), 1) := dk_2 (dk_at dksX2_nextRow_2 23 rfl rfl)
theorem dX2_nextRow_69 : decode cX2_nextRow 69 = .ok (.iastore, 1) := dk_79 (dk_at dksX2_nextRow_3 0 rfl rfl)
theorem dX2_nextRow_70 : decode cX2_nextRow 70 = .ok (.aload_n 0, 1) := dk_42 (dk_at dksX2_nextRow_3 1 rfl rfl)
theorem dX2_nextRow_71 : decode cX2_nextRow 71 = .ok (.iload_n 1, 1) := dk_27 (dk_at dksX2_nextRow_3 2 rfl rfl)
theorem dX2_nextRow_72 : decode cX2_nextRow 72 = .ok (.iload_n 2, 1) := dk_28 (dk_at dksX2_nextRow_3 3 rfl rfl)
theorem dX2_nextRow_73 : decode cX2_nextRow 73 = .ok (.invokevirtual 458, 3) := dk_182 1 202 (dk_at dksX2_nextRow_3 4 rfl rfl)
theorem dX2_nextRow_76 : decode cX2_nextRow 76 = .ok (.istore_n 3, 1) := dk_62 (dk_at dksX2_nextRow_3 7 rfl rfl)
theorem dX2_nextRow_77 : decode cX2_nextRow 77 = .ok (.iload_n 3, 1) := dk_29 (dk_at dksX2_nextRow_3 8 rfl rfl)
theorem dX2_nextRow_78 : decode cX2_nextRow 78 = .ok (.iconst (-1), 1) := dk_2 (dk_at dksX2_nextRow_3 9 rfl rfl)
theorem dX2_nextRow_79 : decode cX2_nextRow 79 = .ok (.if_icmp .ne 6, 3) := dk_160 0 6 (dk_at dksX2_nextRow_3 10 rfl rfl)
theorem dX2_nextRow_82 : decode cX2_nextRow 82 = .ok (.goto 19, 3) := dk_167 0 19 (dk_at dksX2_nextRow_3 13 rfl rfl)
theorem dX2_nextRow_85 : decode cX2_nextRow 85 = .ok (.aload_n 0, 1) := dk_42 (dk_at dksX2_nextRow_3 16 rfl rfl)
theorem dX2_nextRow_86 : decode cX2_nextRow 86 = .ok (.getfield 55, 3) := dk_180 0 55 (dk_at dksX2_nextRow_3 17 rfl rfl)
theorem dX2_nextRow_89 : decode cX2_nextRow 89 = .ok (.iload_n 1, 1) := dk_27 (dk_at dksX2_nextRow_3 20 rfl rfl)
theorem dX2_nextRow_90 : decode cX2_nextRow 90 = .ok (.iload_n 3, 1) := dk_29 (dk_at dksX2_nextRow_3 21 rfl rfl)
theorem dX2_nextRow_91 : decode cX2_nextRow 91 = .ok (.iastore, 1) := dk_79 (dk_at dksX2_nextRow_3 22 rfl rfl)
theorem dX2_nextRow_92 : decode cX2_nextRow 92 = .ok (.aload_n 0, 1) := dk_42 (dk_at dksX2_nextRow_3 23 rfl rfl)
theorem dX2_nextRow_93 : decode cX2_nextRow 93 = .ok (.getfield 55, 3) := dk_180 0 55 (dk_at dksX2_nextRow_4 0 rfl rfl)
theorem dX2_nextRow_96 : decode cX2_nextRow 96 = .ok (.iload_n 3, 1) := dk_29 (dk_at dksX2_nextRow_4 3 rfl rfl)
theorem dX2_nextRow_97 : decode cX2_nextRow 97 = .ok (.iload_n 1, 1) := dk_27 (dk_at dksX2_nextRow_4 4 rfl rfl)
theorem dX2_nextRow_98 : decode cX2_nextRow 98 = .ok (.iastore, 1) := dk_79 (dk_at dksX2_nextRow_4 5 rfl rfl)
theorem dX2_nextRow_99 : decode cX2_nextRow 99 = .ok (.iconst 1, 1) := dk_4 (dk_at dksX2_nextRow_4 6 rfl rfl)
theorem dX2_nextRow_100 : decode cX2_nextRow 100 = .ok (.ireturn, 1) := dk_172 (dk_at dksX2_nextRow_4 7 rfl rfl)
theorem dX2_nextRow_101 : decode cX2_nextRow 101 = .ok (.iinc 1 (-1), 3) := dk_132 1 255 (dk_at dksX2_nextRow_4 8 rfl rfl)
theorem dX2_nextRow_104 : decode cX2_nextRow 104 = .ok (.goto (-95), 3) := dk_167 255 161 (dk_at dksX2_nextRow_4 11 rfl rfl)
theorem dX2_nextRow_107 : decode cX2_nextRow 107 = .ok (.iconst 0, 1) := dk_3 (dk_at dksX2_nextRow_4 14 rfl rfl)
theorem dX2_nextRow_108 : decode cX2_nextRow 108 = .ok (.ireturn, 1) := dk_172 (dk_at dksX2_nextRow_4 15 rfl rfl)
abbrev cX2_nextMate : ByteArray := prog_19_method_129_code
def yX2_nextMate : MethodName := ⟨RX2, "nextMate", "(II)I"⟩
def dkwX2_nextMate_2 : List UInt8 := [167, 255, 225, 29, 42, 180, 0, 7, 3, 46, 162, 0, 7, 29, 167, 0, 4, 2, 172]
abbrev dktX2_nextMate_2 : List UInt8 := dkwX2_nextMate_2 ++ []
def dkwX2_nextMate_1 : List UInt8 := [162, 0, 27, 42, 29, 182, 0, 77, 153, 0, 13, 42, 180, 0, 55, 29, 46, 2, 159, 0, 9, 132, 3, 1]
abbrev dktX2_nextMate_1 : List UInt8 := dkwX2_nextMate_1 ++ dktX2_nextMate_2
def dkwX2_nextMate_0 : List UInt8 := [28, 2, 160, 0, 9, 27, 4, 96, 167, 0, 6, 28, 4, 96, 62, 29, 42, 180, 0, 7, 3, 46]
abbrev dktX2_nextMate_0 : List UInt8 := dkwX2_nextMate_0 ++ dktX2_nextMate_1
theorem dksX2_nextMate_0 : cX2_nextMate.data.toList.drop 0 = dktX2_nextMate_0 := by decide +kernel
theorem dksX2_nextMate_1 : cX2_nextMate.data.toList.drop 22 = dktX2_nextMate_1 := dk_seg dksX2_nextMate_0 22 rfl rfl
theorem dksX2_nextMate_2 : cX2_nextMate.data.toList.drop 46 = dktX2_nextMate_2 := dk_seg dksX2_nextMate_1 24 rfl rfl
theorem dX2_nextMate_0 : decode cX2_nextMate 0 = .ok (.iload_n 2, 1) := dk_28 (dk_at dksX2_nextMate_0 0 rfl rfl)
theorem dX2_nextMate_1 : decode cX2_nextMate 1 = .ok (.iconst (-1), 1) := dk_2 (dk_at dksX2_nextMate_0 1 rfl rfl)
theorem dX2_nextMate_2 : decode cX2_nextMate 2 = .ok (.if_icmp .ne 9, 3) := dk_160 0 9 (dk_at dksX2_nextMate_0 2 rfl rfl)
theorem dX2_nextMate_5 : decode cX2_nextMate 5 = .ok (.iload_n 1, 1) := dk_27 (dk_at dksX2_nextMate_0 5 rfl rfl)
theorem dX2_nextMate_6 : decode cX2_nextMate 6 = .ok (.iconst 1, 1) := dk_4 (dk_at dksX2_nextMate_0 6 rfl rfl)
theorem dX2_nextMate_7 : decode cX2_nextMate 7 = .ok (.iadd, 1) := dk_96 (dk_at dksX2_nextMate_0 7 rfl rfl)
theorem dX2_nextMate_8 : decode cX2_nextMate 8 = .ok (.goto 6, 3) := dk_167 0 6 (dk_at dksX2_nextMate_0 8 rfl rfl)
theorem dX2_nextMate_11 : decode cX2_nextMate 11 = .ok (.iload_n 2, 1) := dk_28 (dk_at dksX2_nextMate_0 11 rfl rfl)
theorem dX2_nextMate_12 : decode cX2_nextMate 12 = .ok (.iconst 1, 1) := dk_4 (dk_at dksX2_nextMate_0 12 rfl rfl)
theorem dX2_nextMate_13 : decode cX2_nextMate 13 = .ok (.iadd, 1) := dk_96 (dk_at dksX2_nextMate_0 13 rfl rfl)
theorem dX2_nextMate_14 : decode cX2_nextMate 14 = .ok (.istore_n 3, 1) := dk_62 (dk_at dksX2_nextMate_0 14 rfl rfl)
theorem dX2_nextMate_15 : decode cX2_nextMate 15 = .ok (.iload_n 3, 1) := dk_29 (dk_at dksX2_nextMate_0 15 rfl rfl)
theorem dX2_nextMate_16 : decode cX2_nextMate 16 = .ok (.aload_n 0, 1) := dk_42 (dk_at dksX2_nextMate_0 16 rfl rfl)
theorem dX2_nextMate_17 : decode cX2_nextMate 17 = .ok (.getfield 7, 3) := dk_180 0 7 (dk_at dksX2_nextMate_0 17 rfl rfl)
theorem dX2_nextMate_20 : decode cX2_nextMate 20 = .ok (.iconst 0, 1) := dk_3 (dk_at dksX2_nextMate_0 20 rfl rfl)
theorem dX2_nextMate_21 : decode cX2_nextMate 21 = .ok (.iaload, 1) := dk_46 (dk_at dksX2_nextMate_0 21 rfl rfl)
theorem dX2_nextMate_22 : decode cX2_nextMate 22 = .ok (.if_icmp .ge 27, 3) := dk_162 0 27 (dk_at dksX2_nextMate_1 0 rfl rfl)
theorem dX2_nextMate_25 : decode cX2_nextMate 25 = .ok (.aload_n 0, 1) := dk_42 (dk_at dksX2_nextMate_1 3 rfl rfl)
theorem dX2_nextMate_26 : decode cX2_nextMate 26 = .ok (.iload_n 3, 1) := dk_29 (dk_at dksX2_nextMate_1 4 rfl rfl)
theorem dX2_nextMate_27 : decode cX2_nextMate 27 = .ok (.invokevirtual 77, 3) := dk_182 0 77 (dk_at dksX2_nextMate_1 5 rfl rfl)
theorem dX2_nextMate_30 : decode cX2_nextMate 30 = .ok (.ifCond .eq 13, 3) := dk_153 0 13 (dk_at dksX2_nextMate_1 8 rfl rfl)
theorem dX2_nextMate_33 : decode cX2_nextMate 33 = .ok (.aload_n 0, 1) := dk_42 (dk_at dksX2_nextMate_1 11 rfl rfl)
theorem dX2_nextMate_34 : decode cX2_nextMate 34 = .ok (.getfield 55, 3) := dk_180 0 55 (dk_at dksX2_nextMate_1 12 rfl rfl)
theorem dX2_nextMate_37 : decode cX2_nextMate 37 = .ok (.iload_n 3, 1) := dk_29 (dk_at dksX2_nextMate_1 15 rfl rfl)
theorem dX2_nextMate_38 : decode cX2_nextMate 38 = .ok (.iaload, 1) := dk_46 (dk_at dksX2_nextMate_1 16 rfl rfl)
theorem dX2_nextMate_39 : decode cX2_nextMate 39 = .ok (.iconst (-1), 1) := dk_2 (dk_at dksX2_nextMate_1 17 rfl rfl)
theorem dX2_nextMate_40 : decode cX2_nextMate 40 = .ok (.if_icmp .eq 9, 3) := dk_159 0 9 (dk_at dksX2_nextMate_1 18 rfl rfl)
theorem dX2_nextMate_43 : decode cX2_nextMate 43 = .ok (.iinc 3 1, 3) := dk_132 3 1 (dk_at dksX2_nextMate_1 21 rfl rfl)
theorem dX2_nextMate_46 : decode cX2_nextMate 46 = .ok (.goto (-31), 3) := dk_167 255 225 (dk_at dksX2_nextMate_2 0 rfl rfl)
theorem dX2_nextMate_49 : decode cX2_nextMate 49 = .ok (.iload_n 3, 1) := dk_29 (dk_at dksX2_nextMate_2 3 rfl rfl)
theorem dX2_nextMate_50 : decode cX2_nextMate 50 = .ok (.aload_n 0, 1) := dk_42 (dk_at dksX2_nextMate_2 4 rfl rfl)
theorem dX2_nextMate_51 : decode cX2_nextMate 51 = .ok (.getfield 7, 3) := dk_180 0 7 (dk_at dksX2_nextMate_2 5 rfl rfl)
theorem dX2_nextMate_54 : decode cX2_nextMate 54 = .ok (.iconst 0, 1) := dk_3 (dk_at dksX2_nextMate_2 8 rfl rfl)
theorem dX2_nextMate_55 : decode cX2_nextMate 55 = .ok (.iaload, 1) := dk_46 (dk_at dksX2_nextMate_2 9 rfl rfl)
theorem dX2_nextMate_56 : decode cX2_nextMate 56 = .ok (.if_icmp .ge 7, 3) := dk_162 0 7 (dk_at dksX2_nextMate_2 10 rfl rfl)
theorem dX2_nextMate_59 : decode cX2_nextMate 59 = .ok (.iload_n 3, 1) := dk_29 (dk_at dksX2_nextMate_2 13 rfl rfl)
theorem dX2_nextMate_60 : decode cX2_nextMate 60 = .ok (.goto 4, 3) := dk_167 0 4 (dk_at dksX2_nextMate_2 14 rfl rfl)
theorem dX2_nextMate_63 : decode cX2_nextMate 63 = .ok (.iconst (-1), 1) := dk_2 (dk_at dksX2_nextMate_2 17 rfl rfl)
theorem dX2_nextMate_64 : decode cX2_nextMate 64 = .ok (.ireturn, 1) := dk_172 (dk_at dksX2_nextMate_2 18 rfl rfl)
abbrev cX2_twins : ByteArray := prog_19_method_133_code
def yX2_twins : MethodName := ⟨RX2, "twins", "()I"⟩
def dkwX2_twins_3 : List UInt8 := [167, 255, 191, 27, 172]
abbrev dktX2_twins_3 : List UInt8 := dkwX2_twins_3 ++ []
def dkwX2_twins_2 : List UInt8 := [182, 0, 73, 160, 0, 7, 4, 167, 0, 4, 3, 96, 60, 132, 3, 1, 167, 255, 209, 132, 2, 1]
abbrev dktX2_twins_2 : List UInt8 := dkwX2_twins_2 ++ dktX2_twins_3
def dkwX2_twins_1 : List UInt8 := [182, 0, 77, 153, 0, 30, 42, 29, 182, 0, 77, 153, 0, 22, 42, 28, 3, 182, 0, 73, 42, 29, 3]
abbrev dktX2_twins_1 : List UInt8 := dkwX2_twins_1 ++ dktX2_twins_2
def dkwX2_twins_0 : List UInt8 := [3, 60, 3, 61, 28, 42, 180, 0, 7, 3, 46, 162, 0, 61, 3, 62, 29, 28, 162, 0, 48, 27, 42, 28]
abbrev dktX2_twins_0 : List UInt8 := dkwX2_twins_0 ++ dktX2_twins_1
theorem dksX2_twins_0 : cX2_twins.data.toList.drop 0 = dktX2_twins_0 := by decide +kernel
theorem dksX2_twins_1 : cX2_twins.data.toList.drop 24 = dktX2_twins_1 := dk_seg dksX2_twins_0 24 rfl rfl
theorem dksX2_twins_2 : cX2_twins.data.toList.drop 47 = dktX2_twins_2 := dk_seg dksX2_twins_1 23 rfl rfl
theorem dksX2_twins_3 : cX2_twins.data.toList.drop 69 = dktX2_twins_3 := dk_seg dksX2_twins_2 22 rfl rfl
theorem dX2_twins_0 : decode cX2_twins 0 = .ok (.iconst 0, 1) := dk_3 (dk_at dksX2_twins_0 0 rfl rfl)
theorem dX2_twins_1 : decode cX2_twins 1 = .ok (.istore_n 1, 1) := dk_60 (dk_at dksX2_twins_0 1 rfl rfl)
theorem dX2_twins_2 : decode cX2_twins 2 = .ok (.iconst 0, 1) := dk_3 (dk_at dksX2_twins_0 2 rfl rfl)
theorem dX2_twins_3 : decode cX2_twins 3 = .ok (.istore_n 2, 1) := dk_61 (dk_at dksX2_twins_0 3 rfl rfl)
theorem dX2_twins_4 : decode cX2_twins 4 = .ok (.iload_n 2, 1) := dk_28 (dk_at dksX2_twins_0 4 rfl rfl)
theorem dX2_twins_5 : decode cX2_twins 5 = .ok (.aload_n 0, 1) := dk_42 (dk_at dksX2_twins_0 5 rfl rfl)
theorem dX2_twins_6 : decode cX2_twins 6 = .ok (.getfield 7, 3) := dk_180 0 7 (dk_at dksX2_twins_0 6 rfl rfl)
theorem dX2_twins_9 : decode cX2_twins 9 = .ok (.iconst 0, 1) := dk_3 (dk_at dksX2_twins_0 9 rfl rfl)
theorem dX2_twins_10 : decode cX2_twins 10 = .ok (.iaload, 1) := dk_46 (dk_at dksX2_twins_0 10 rfl rfl)
theorem dX2_twins_11 : decode cX2_twins 11 = .ok (.if_icmp .ge 61, 3) := dk_162 0 61 (dk_at dksX2_twins_0 11 rfl rfl)
theorem dX2_twins_14 : decode cX2_twins 14 = .ok (.iconst 0, 1) := dk_3 (dk_at dksX2_twins_0 14 rfl rfl)
theorem dX2_twins_15 : decode cX2_twins 15 = .ok (.istore_n 3, 1) := dk_62 (dk_at dksX2_twins_0 15 rfl rfl)
theorem dX2_twins_16 : decode cX2_twins 16 = .ok (.iload_n 3, 1) := dk_29 (dk_at dksX2_twins_0 16 rfl rfl)
theorem dX2_twins_17 : decode cX2_twins 17 = .ok (.iload_n 2, 1) := dk_28 (dk_at dksX2_twins_0 17 rfl rfl)
theorem dX2_twins_18 : decode cX2_twins 18 = .ok (.if_icmp .ge 48, 3) := dk_162 0 48 (dk_at dksX2_twins_0 18 rfl rfl)
theorem dX2_twins_21 : decode cX2_twins 21 = .ok (.iload_n 1, 1) := dk_27 (dk_at dksX2_twins_0 21 rfl rfl)
theorem dX2_twins_22 : decode cX2_twins 22 = .ok (.aload_n 0, 1) := dk_42 (dk_at dksX2_twins_0 22 rfl rfl)
theorem dX2_twins_23 : decode cX2_twins 23 = .ok (.iload_n 2, 1) := dk_28 (dk_at dksX2_twins_0 23 rfl rfl)
theorem dX2_twins_24 : decode cX2_twins 24 = .ok (.invokevirtual 77, 3) := dk_182 0 77 (dk_at dksX2_twins_1 0 rfl rfl)
theorem dX2_twins_27 : decode cX2_twins 27 = .ok (.ifCond .eq 30, 3) := dk_153 0 30 (dk_at dksX2_twins_1 3 rfl rfl)
theorem dX2_twins_30 : decode cX2_twins 30 = .ok (.aload_n 0, 1) := dk_42 (dk_at dksX2_twins_1 6 rfl rfl)
theorem dX2_twins_31 : decode cX2_twins 31 = .ok (.iload_n 3, 1) := dk_29 (dk_at dksX2_twins_1 7 rfl rfl)
theorem dX2_twins_32 : decode cX2_twins 32 = .ok (.invokevirtual 77, 3) := dk_182 0 77 (dk_at dksX2_twins_1 8 rfl rfl)
theorem dX2_twins_35 : decode cX2_twins 35 = .ok (.ifCond .eq 22, 3) := dk_153 0 22 (dk_at dksX2_twins_1 11 rfl rfl)
theorem dX2_twins_38 : decode cX2_twins 38 = .ok (.aload_n 0, 1) := dk_42 (dk_at dksX2_twins_1 14 rfl rfl)
theorem dX2_twins_39 : decode cX2_twins 39 = .ok (.iload_n 2, 1) := dk_28 (dk_at dksX2_twins_1 15 rfl rfl)
theorem dX2_twins_40 : decode cX2_twins 40 = .ok (.iconst 0, 1) := dk_3 (dk_at dksX2_twins_1 16 rfl rfl)
theorem dX2_twins_41 : decode cX2_twins 41 = .ok (.invokevirtual 73, 3) := dk_182 0 73 (dk_at dksX2_twins_1 17 rfl rfl)
theorem dX2_twins_44 : decode cX2_twins 44 = .ok (.aload_n 0, 1) := dk_42 (dk_at dksX2_twins_1 20 rfl rfl)
theorem dX2_twins_45 : decode cX2_twins 45 = .ok (.iload_n 3, 1) := dk_29 (dk_at dksX2_twins_1 21 rfl rfl)
theorem dX2_twins_46 : decode cX2_twins 46 = .ok (.iconst 0, 1) := dk_3 (dk_at dksX2_twins_1 22 rfl rfl)
theorem dX2_twins_47 : decode cX2_twins 47 = .ok (.invokevirtual 73, 3) := dk_182 0 73 (dk_at dksX2_twins_2 0 rfl rfl)
theorem dX2_twins_50 : decode cX2_twins 50 = .ok (.if_icmp .ne 7, 3) := dk_160 0 7 (dk_at dksX2_twins_2 3 rfl rfl)
theorem dX2_twins_53 : decode cX2_twins 53 = .ok (.iconst 1, 1) := dk_4 (dk_at dksX2_twins_2 6 rfl rfl)
theorem dX2_twins_54 : decode cX2_twins 54 = .ok (.goto 4, 3) := dk_167 0 4 (dk_at dksX2_twins_2 7 rfl rfl)
theorem dX2_twins_57 : decode cX2_twins 57 = .ok (.iconst 0, 1) := dk_3 (dk_at dksX2_twins_2 10 rfl rfl)
theorem dX2_twins_58 : decode cX2_twins 58 = .ok (.iadd, 1) := dk_96 (dk_at dksX2_twins_2 11 rfl rfl)
theorem dX2_twins_59 : decode cX2_twins 59 = .ok (.istore_n 1, 1) := dk_60 (dk_at dksX2_twins_2 12 rfl rfl)
theorem dX2_twins_60 : decode cX2_twins 60 = .ok (.iinc 3 1, 3) := dk_132 3 1 (dk_at dksX2_twins_2 13 rfl rfl)
theorem dX2_twins_63 : decode cX2_twins 63 = .ok (.goto (-47), 3) := dk_167 255 209 (dk_at dksX2_twins_2 16 rfl rfl)
theorem dX2_twins_66 : decode cX2_twins 66 = .ok (.iinc 2 1, 3) := dk_132 2 1 (dk_at dksX2_twins_2 19 rfl rfl)
theorem dX2_twins_69 : decode cX2_twins 69 = .ok (.goto (-65), 3) := dk_167 255 191 (dk_at dksX2_twins_3 0 rfl rfl)
theorem dX2_twins_72 : decode cX2_twins 72 = .ok (.iload_n 1, 1) := dk_27 (dk_at dksX2_twins_3 3 rfl rfl)
theorem dX2_twins_73 : decode cX2_twins 73 = .ok (.ireturn, 1) := dk_172 (dk_at dksX2_twins_3 4 rfl rfl)
abbrev cX2_gossip : ByteArray := prog_19_method_134_code
def yX2_gossip : MethodName := ⟨RX2, "gossip", "(II)I"⟩
def dkwX2_gossip_4 : List UInt8 := [180, 0, 7, 8, 46, 172]
abbrev dktX2_gossip_4 : List UInt8 := dkwX2_gossip_4 ++ []
def dkwX2_gossip_3 : List UInt8 := [5, 42, 180, 0, 7, 8, 46, 104, 96, 4, 96, 28, 79, 42, 180, 0, 7, 8, 92, 46, 4, 96, 79, 42]
abbrev dktX2_gossip_3 : List UInt8 := dkwX2_gossip_3 ++ dktX2_gossip_4
def dkwX2_gossip_2 : List UInt8 := [172, 42, 180, 0, 7, 16, 92, 5, 42, 180, 0, 7, 8, 46, 104, 96, 27, 79, 42, 180, 0, 7, 16, 92]
abbrev dktX2_gossip_2 : List UInt8 := dkwX2_gossip_2 ++ dktX2_gossip_3
def dkwX2_gossip_1 : List UInt8 := [182, 0, 69, 153, 0, 19, 27, 28, 159, 0, 14, 42, 180, 0, 7, 8, 46, 16, 8, 160, 0, 6, 16, 254]
abbrev dktX2_gossip_1 : List UInt8 := dkwX2_gossip_1 ++ dktX2_gossip_2
def dkwX2_gossip_0 : List UInt8 := [27, 2, 160, 0, 12, 42, 180, 0, 7, 8, 3, 79, 3, 172, 42, 27, 182, 0, 69, 153, 0, 27, 42, 28]
abbrev dktX2_gossip_0 : List UInt8 := dkwX2_gossip_0 ++ dktX2_gossip_1
theorem dksX2_gossip_0 : cX2_gossip.data.toList.drop 0 = dktX2_gossip_0 := by decide +kernel
theorem dksX2_gossip_1 : cX2_gossip.data.toList.drop 24 = dktX2_gossip_1 := dk_seg dksX2_gossip_0 24 rfl rfl
theorem dksX2_gossip_2 : cX2_gossip.data.toList.drop 48 = dktX2_gossip_2 := dk_seg dksX2_gossip_1 24 rfl rfl
theorem dksX2_gossip_3 : cX2_gossip.data.toList.drop 72 = dktX2_gossip_3 := dk_seg dksX2_gossip_2 24 rfl rfl
theorem dksX2_gossip_4 : cX2_gossip.data.toList.drop 96 = dktX2_gossip_4 := dk_seg dksX2_gossip_3 24 rfl rfl
theorem dX2_gossip_0 : decode cX2_gossip 0 = .ok (.iload_n 1, 1) := dk_27 (dk_at dksX2_gossip_0 0 rfl rfl)
theorem dX2_gossip_1 : decode cX2_gossip 1 = .ok (.iconst (-1), 1) := dk_2 (dk_at dksX2_gossip_0 1 rfl rfl)
theorem dX2_gossip_2 : decode cX2_gossip 2 = .ok (.if_icmp .ne 12, 3) := dk_160 0 12 (dk_at dksX2_gossip_0 2 rfl rfl)
theorem dX2_gossip_5 : decode cX2_gossip 5 = .ok (.aload_n 0, 1) := dk_42 (dk_at dksX2_gossip_0 5 rfl rfl)
theorem dX2_gossip_6 : decode cX2_gossip 6 = .ok (.getfield 7, 3) := dk_180 0 7 (dk_at dksX2_gossip_0 6 rfl rfl)
theorem dX2_gossip_9 : decode cX2_gossip 9 = .ok (.iconst 5, 1) := dk_8 (dk_at dksX2_gossip_0 9 rfl rfl)
theorem dX2_gossip_10 : decode cX2_gossip 10 = .ok (.iconst 0, 1) := dk_3 (dk_at dksX2_gossip_0 10 rfl rfl)
theorem dX2_gossip_11 : decode cX2_gossip 11 = .ok (.iastore, 1) := dk_79 (dk_at dksX2_gossip_0 11 rfl rfl)
theorem dX2_gossip_12 : decode cX2_gossip 12 = .ok (.iconst 0, 1) := dk_3 (dk_at dksX2_gossip_0 12 rfl rfl)
theorem dX2_gossip_13 : decode cX2_gossip 13 = .ok (.ireturn, 1) := dk_172 (dk_at dksX2_gossip_0 13 rfl rfl)
theorem dX2_gossip_14 : decode cX2_gossip 14 = .ok (.aload_n 0, 1) := dk_42 (dk_at dksX2_gossip_0 14 rfl rfl)
theorem dX2_gossip_15 : decode cX2_gossip 15 = .ok (.iload_n 1, 1) := dk_27 (dk_at dksX2_gossip_0 15 rfl rfl)
theorem dX2_gossip_16 : decode cX2_gossip 16 = .ok (.invokevirtual 69, 3) := dk_182 0 69 (dk_at dksX2_gossip_0 16 rfl rfl)
theorem dX2_gossip_19 : decode cX2_gossip 19 = .ok (.ifCond .eq 27, 3) := dk_153 0 27 (dk_at dksX2_gossip_0 19 rfl rfl)
theorem dX2_gossip_22 : decode cX2_gossip 22 = .ok (.aload_n 0, 1) := dk_42 (dk_at dksX2_gossip_0 22 rfl rfl)
theorem dX2_gossip_23 : decode cX2_gossip 23 = .ok (.iload_n 2, 1) := dk_28 (dk_at dksX2_gossip_0 23 rfl rfl)
theorem dX2_gossip_24 : decode cX2_gossip 24 = .ok (.invokevirtual 69, 3) := dk_182 0 69 (dk_at dksX2_gossip_1 0 rfl rfl)
theorem dX2_gossip_27 : decode cX2_gossip 27 = .ok (.ifCond .eq 19, 3) := dk_153 0 19 (dk_at dksX2_gossip_1 3 rfl rfl)
theorem dX2_gossip_30 : decode cX2_gossip 30 = .ok (.iload_n 1, 1) := dk_27 (dk_at dksX2_gossip_1 6 rfl rfl)
theorem dX2_gossip_31 : decode cX2_gossip 31 = .ok (.iload_n 2, 1) := dk_28 (dk_at dksX2_gossip_1 7 rfl rfl)
theorem dX2_gossip_32 : decode cX2_gossip 32 = .ok (.if_icmp .eq 14, 3) := dk_159 0 14 (dk_at dksX2_gossip_1 8 rfl rfl)
theorem dX2_gossip_35 : decode cX2_gossip 35 = .ok (.aload_n 0, 1) := dk_42 (dk_at dksX2_gossip_1 11 rfl rfl)
theorem dX2_gossip_36 : decode cX2_gossip 36 = .ok (.getfield 7, 3) := dk_180 0 7 (dk_at dksX2_gossip_1 12 rfl rfl)
theorem dX2_gossip_39 : decode cX2_gossip 39 = .ok (.iconst 5, 1) := dk_8 (dk_at dksX2_gossip_1 15 rfl rfl)
theorem dX2_gossip_40 : decode cX2_gossip 40 = .ok (.iaload, 1) := dk_46 (dk_at dksX2_gossip_1 16 rfl rfl)
theorem dX2_gossip_41 : decode cX2_gossip 41 = .ok (.bipush 8, 2) := dk_16 8 (dk_at dksX2_gossip_1 17 rfl rfl)
theorem dX2_gossip_43 : decode cX2_gossip 43 = .ok (.if_icmp .ne 6, 3) := dk_160 0 6 (dk_at dksX2_gossip_1 19 rfl rfl)
theorem dX2_gossip_46 : decode cX2_gossip 46 = .ok (.bipush (-2), 2) := dk_16 254 (dk_at dksX2_gossip_1 22 rfl rfl)
theorem dX2_gossip_48 : decode cX2_gossip 48 = .ok (.ireturn, 1) := dk_172 (dk_at dksX2_gossip_2 0 rfl rfl)
theorem dX2_gossip_49 : decode cX2_gossip 49 = .ok (.aload_n 0, 1) := dk_42 (dk_at dksX2_gossip_2 1 rfl rfl)
theorem dX2_gossip_50 : decode cX2_gossip 50 = .ok (.getfield 7, 3) := dk_180 0 7 (dk_at dksX2_gossip_2 2 rfl rfl)
theorem dX2_gossip_53 : decode cX2_gossip 53 = .ok (.bipush 92, 2) := dk_16 92 (dk_at dksX2_gossip_2 5 rfl rfl)
theorem dX2_gossip_55 : decode cX2_gossip 55 = .ok (.iconst 2, 1) := dk_5 (dk_at dksX2_gossip_2 7 rfl rfl)
theorem dX2_gossip_56 : decode cX2_gossip 56 = .ok (.aload_n 0, 1) := dk_42 (dk_at dksX2_gossip_2 8 rfl rfl)
theorem dX2_gossip_57 : decode cX2_gossip 57 = .ok (.getfield 7, 3) := dk_180 0 7 (dk_at dksX2_gossip_2 9 rfl rfl)
theorem dX2_gossip_60 : decode cX2_gossip 60 = .ok (.iconst 5, 1) := dk_8 (dk_at dksX2_gossip_2 12 rfl rfl)
theorem dX2_gossip_61 : decode cX2_gossip 61 = .ok (.iaload, 1) := dk_46 (dk_at dksX2_gossip_2 13 rfl rfl)
theorem dX2_gossip_62 : decode cX2_gossip 62 = .ok (.imul, 1) := dk_104 (dk_at dksX2_gossip_2 14 rfl rfl)
theorem dX2_gossip_63 : decode cX2_gossip 63 = .ok (.iadd, 1) := dk_96 (dk_at dksX2_gossip_2 15 rfl rfl)
theorem dX2_gossip_64 : decode cX2_gossip 64 = .ok (.iload_n 1, 1) := dk_27 (dk_at dksX2_gossip_2 16 rfl rfl)
theorem dX2_gossip_65 : decode cX2_gossip 65 = .ok (.iastore, 1) := dk_79 (dk_at dksX2_gossip_2 17 rfl rfl)
theorem dX2_gossip_66 : decode cX2_gossip 66 = .ok (.aload_n 0, 1) := dk_42 (dk_at dksX2_gossip_2 18 rfl rfl)
theorem dX2_gossip_67 : decode cX2_gossip 67 = .ok (.getfield 7, 3) := dk_180 0 7 (dk_at dksX2_gossip_2 19 rfl rfl)
theorem dX2_gossip_70 : decode cX2_gossip 70 = .ok (.bipush 92, 2) := dk_16 92 (dk_at dksX2_gossip_2 22 rfl rfl)
theorem dX2_gossip_72 : decode cX2_gossip 72 = .ok (.iconst 2, 1) := dk_5 (dk_at dksX2_gossip_3 0 rfl rfl)
theorem dX2_gossip_73 : decode cX2_gossip 73 = .ok (.aload_n 0, 1) := dk_42 (dk_at dksX2_gossip_3 1 rfl rfl)
theorem dX2_gossip_74 : decode cX2_gossip 74 = .ok (.getfield 7, 3) := dk_180 0 7 (dk_at dksX2_gossip_3 2 rfl rfl)
theorem dX2_gossip_77 : decode cX2_gossip 77 = .ok (.iconst 5, 1) := dk_8 (dk_at dksX2_gossip_3 5 rfl rfl)
theorem dX2_gossip_78 : decode cX2_gossip 78 = .ok (.iaload, 1) := dk_46 (dk_at dksX2_gossip_3 6 rfl rfl)
theorem dX2_gossip_79 : decode cX2_gossip 79 = .ok (.imul, 1) := dk_104 (dk_at dksX2_gossip_3 7 rfl rfl)
theorem dX2_gossip_80 : decode cX2_gossip 80 = .ok (.iadd, 1) := dk_96 (dk_at dksX2_gossip_3 8 rfl rfl)
theorem dX2_gossip_81 : decode cX2_gossip 81 = .ok (.iconst 1, 1) := dk_4 (dk_at dksX2_gossip_3 9 rfl rfl)
theorem dX2_gossip_82 : decode cX2_gossip 82 = .ok (.iadd, 1) := dk_96 (dk_at dksX2_gossip_3 10 rfl rfl)
theorem dX2_gossip_83 : decode cX2_gossip 83 = .ok (.iload_n 2, 1) := dk_28 (dk_at dksX2_gossip_3 11 rfl rfl)
theorem dX2_gossip_84 : decode cX2_gossip 84 = .ok (.iastore, 1) := dk_79 (dk_at dksX2_gossip_3 12 rfl rfl)
theorem dX2_gossip_85 : decode cX2_gossip 85 = .ok (.aload_n 0, 1) := dk_42 (dk_at dksX2_gossip_3 13 rfl rfl)
theorem dX2_gossip_86 : decode cX2_gossip 86 = .ok (.getfield 7, 3) := dk_180 0 7 (dk_at dksX2_gossip_3 14 rfl rfl)
theorem dX2_gossip_89 : decode cX2_gossip 89 = .ok (.iconst 5, 1) := dk_8 (dk_at dksX2_gossip_3 17 rfl rfl)
theorem dX2_gossip_90 : decode cX2_gossip 90 = .ok (.dup2, 1) := dk_92 (dk_at dksX2_gossip_3 18 rfl rfl)
theorem dX2_gossip_91 : decode cX2_gossip 91 = .ok (.iaload, 1) := dk_46 (dk_at dksX2_gossip_3 19 rfl rfl)
theorem dX2_gossip_92 : decode cX2_gossip 92 = .ok (.iconst 1, 1) := dk_4 (dk_at dksX2_gossip_3 20 rfl rfl)
theorem dX2_gossip_93 : decode cX2_gossip 93 = .ok (.iadd, 1) := dk_96 (dk_at dksX2_gossip_3 21 rfl rfl)
theorem dX2_gossip_94 : decode cX2_gossip 94 = .ok (.iastore, 1) := dk_79 (dk_at dksX2_gossip_3 22 rfl rfl)
theorem dX2_gossip_95 : decode cX2_gossip 95 = .ok (.aload_n 0, 1) := dk_42 (dk_at dksX2_gossip_3 23 rfl rfl)
theorem dX2_gossip_96 : decode cX2_gossip 96 = .ok (.getfield 7, 3) := dk_180 0 7 (dk_at dksX2_gossip_4 0 rfl rfl)
theorem dX2_gossip_99 : decode cX2_gossip 99 = .ok (.iconst 5, 1) := dk_8 (dk_at dksX2_gossip_4 3 rfl rfl)
theorem dX2_gossip_100 : decode cX2_gossip 100 = .ok (.iaload, 1) := dk_46 (dk_at dksX2_gossip_4 4 rfl rfl)
theorem dX2_gossip_101 : decode cX2_gossip 101 = .ok (.ireturn, 1) := dk_172 (dk_at dksX2_gossip_4 5 rfl rfl)
abbrev cX2_knows : ByteArray := prog_19_method_136_code
def yX2_knows : MethodName := ⟨RX2, "knows", "(II)I"⟩
def dkwX2_knows_2 : List UInt8 := [182, 1, 214, 62, 132, 4, 1, 167, 255, 229, 2, 172]
abbrev dktX2_knows_2 : List UInt8 := dkwX2_knows_2 ++ []
def dkwX2_knows_1 : List UInt8 := [54, 4, 21, 4, 16, 8, 162, 0, 26, 29, 27, 184, 0, 80, 153, 0, 6, 21, 4, 172, 42, 29]
abbrev dktX2_knows_1 : List UInt8 := dkwX2_knows_1 ++ dktX2_knows_2
def dkwX2_knows_0 : List UInt8 := [42, 27, 182, 0, 69, 153, 0, 11, 42, 28, 182, 0, 69, 154, 0, 5, 2, 172, 4, 28, 120, 62, 3]
abbrev dktX2_knows_0 : List UInt8 := dkwX2_knows_0 ++ dktX2_knows_1
theorem dksX2_knows_0 : cX2_knows.data.toList.drop 0 = dktX2_knows_0 := by decide +kernel
theorem dksX2_knows_1 : cX2_knows.data.toList.drop 23 = dktX2_knows_1 := dk_seg dksX2_knows_0 23 rfl rfl
theorem dksX2_knows_2 : cX2_knows.data.toList.drop 45 = dktX2_knows_2 := dk_seg dksX2_knows_1 22 rfl rfl
theorem dX2_knows_0 : decode cX2_knows 0 = .ok (.aload_n 0, 1) := dk_42 (dk_at dksX2_knows_0 0 rfl rfl)
theorem dX2_knows_1 : decode cX2_knows 1 = .ok (.iload_n 1, 1) := dk_27 (dk_at dksX2_knows_0 1 rfl rfl)
theorem dX2_knows_2 : decode cX2_knows 2 = .ok (.invokevirtual 69, 3) := dk_182 0 69 (dk_at dksX2_knows_0 2 rfl rfl)
theorem dX2_knows_5 : decode cX2_knows 5 = .ok (.ifCond .eq 11, 3) := dk_153 0 11 (dk_at dksX2_knows_0 5 rfl rfl)
theorem dX2_knows_8 : decode cX2_knows 8 = .ok (.aload_n 0, 1) := dk_42 (dk_at dksX2_knows_0 8 rfl rfl)
theorem dX2_knows_9 : decode cX2_knows 9 = .ok (.iload_n 2, 1) := dk_28 (dk_at dksX2_knows_0 9 rfl rfl)
theorem dX2_knows_10 : decode cX2_knows 10 = .ok (.invokevirtual 69, 3) := dk_182 0 69 (dk_at dksX2_knows_0 10 rfl rfl)
theorem dX2_knows_13 : decode cX2_knows 13 = .ok (.ifCond .ne 5, 3) := dk_154 0 5 (dk_at dksX2_knows_0 13 rfl rfl)
theorem dX2_knows_16 : decode cX2_knows 16 = .ok (.iconst (-1), 1) := dk_2 (dk_at dksX2_knows_0 16 rfl rfl)
theorem dX2_knows_17 : decode cX2_knows 17 = .ok (.ireturn, 1) := dk_172 (dk_at dksX2_knows_0 17 rfl rfl)
theorem dX2_knows_18 : decode cX2_knows 18 = .ok (.iconst 1, 1) := dk_4 (dk_at dksX2_knows_0 18 rfl rfl)
theorem dX2_knows_19 : decode cX2_knows 19 = .ok (.iload_n 2, 1) := dk_28 (dk_at dksX2_knows_0 19 rfl rfl)
theorem dX2_knows_20 : decode cX2_knows 20 = .ok (.ishl, 1) := dk_120 (dk_at dksX2_knows_0 20 rfl rfl)
theorem dX2_knows_21 : decode cX2_knows 21 = .ok (.istore_n 3, 1) := dk_62 (dk_at dksX2_knows_0 21 rfl rfl)
theorem dX2_knows_22 : decode cX2_knows 22 = .ok (.iconst 0, 1) := dk_3 (dk_at dksX2_knows_0 22 rfl rfl)
theorem dX2_knows_23 : decode cX2_knows 23 = .ok (.istore 4, 2) := dk_54 4 (dk_at dksX2_knows_1 0 rfl rfl)
theorem dX2_knows_25 : decode cX2_knows 25 = .ok (.iload 4, 2) := dk_21 4 (dk_at dksX2_knows_1 2 rfl rfl)
theorem dX2_knows_27 : decode cX2_knows 27 = .ok (.bipush 8, 2) := dk_16 8 (dk_at dksX2_knows_1 4 rfl rfl)
theorem dX2_knows_29 : decode cX2_knows 29 = .ok (.if_icmp .ge 26, 3) := dk_162 0 26 (dk_at dksX2_knows_1 6 rfl rfl)
theorem dX2_knows_32 : decode cX2_knows 32 = .ok (.iload_n 3, 1) := dk_29 (dk_at dksX2_knows_1 9 rfl rfl)
theorem dX2_knows_33 : decode cX2_knows 33 = .ok (.iload_n 1, 1) := dk_27 (dk_at dksX2_knows_1 10 rfl rfl)
theorem dX2_knows_34 : decode cX2_knows 34 = .ok (.invokestatic 80, 3) := dk_184 0 80 (dk_at dksX2_knows_1 11 rfl rfl)
theorem dX2_knows_37 : decode cX2_knows 37 = .ok (.ifCond .eq 6, 3) := dk_153 0 6 (dk_at dksX2_knows_1 14 rfl rfl)
theorem dX2_knows_40 : decode cX2_knows 40 = .ok (.iload 4, 2) := dk_21 4 (dk_at dksX2_knows_1 17 rfl rfl)
theorem dX2_knows_42 : decode cX2_knows 42 = .ok (.ireturn, 1) := dk_172 (dk_at dksX2_knows_1 19 rfl rfl)
theorem dX2_knows_43 : decode cX2_knows 43 = .ok (.aload_n 0, 1) := dk_42 (dk_at dksX2_knows_1 20 rfl rfl)
theorem dX2_knows_44 : decode cX2_knows 44 = .ok (.iload_n 3, 1) := dk_29 (dk_at dksX2_knows_1 21 rfl rfl)
theorem dX2_knows_45 : decode cX2_knows 45 = .ok (.invokevirtual 470, 3) := dk_182 1 214 (dk_at dksX2_knows_2 0 rfl rfl)
theorem dX2_knows_48 : decode cX2_knows 48 = .ok (.istore_n 3, 1) := dk_62 (dk_at dksX2_knows_2 3 rfl rfl)
theorem dX2_knows_49 : decode cX2_knows 49 = .ok (.iinc 4 1, 3) := dk_132 4 1 (dk_at dksX2_knows_2 4 rfl rfl)
theorem dX2_knows_52 : decode cX2_knows 52 = .ok (.goto (-27), 3) := dk_167 255 229 (dk_at dksX2_knows_2 7 rfl rfl)
theorem dX2_knows_55 : decode cX2_knows 55 = .ok (.iconst (-1), 1) := dk_2 (dk_at dksX2_knows_2 10 rfl rfl)
theorem dX2_knows_56 : decode cX2_knows 56 = .ok (.ireturn, 1) := dk_172 (dk_at dksX2_knows_2 11 rfl rfl)
abbrev cX2_spread : ByteArray := prog_19_method_135_code
def yX2_spread : MethodName := ⟨RX2, "spread", "(I)I"⟩
def dkwX2_spread_2 : List UInt8 := [128, 61, 132, 3, 1, 167, 255, 207, 28, 172]
abbrev dktX2_spread_2 : List UInt8 := dkwX2_spread_2 ++ []
def dkwX2_spread_1 : List UInt8 := [96, 46, 184, 0, 80, 153, 0, 21, 28, 4, 42, 180, 0, 7, 16, 92, 5, 29, 104, 96, 4, 96, 46, 120]
abbrev dktX2_spread_1 : List UInt8 := dkwX2_spread_1 ++ dktX2_spread_2
def dkwX2_spread_0 : List UInt8 := [27, 61, 3, 62, 29, 42, 180, 0, 7, 8, 46, 162, 0, 45, 27, 42, 180, 0, 7, 16, 92, 5, 29, 104]
abbrev dktX2_spread_0 : List UInt8 := dkwX2_spread_0 ++ dktX2_spread_1
theorem dksX2_spread_0 : cX2_spread.data.toList.drop 0 = dktX2_spread_0 := by decide +kernel
theorem dksX2_spread_1 : cX2_spread.data.toList.drop 24 = dktX2_spread_1 := dk_seg dksX2_spread_0 24 rfl rfl
theorem dksX2_spread_2 : cX2_spread.data.toList.drop 48 = dktX2_spread_2 := dk_seg dksX2_spread_1 24 rfl rfl
theorem dX2_spread_0 : decode cX2_spread 0 = .ok (.iload_n 1, 1) := dk_27 (dk_at dksX2_spread_0 0 rfl rfl)
theorem dX2_spread_1 : decode cX2_spread 1 = .ok (.istore_n 2, 1) := dk_61 (dk_at dksX2_spread_0 1 rfl rfl)
theorem dX2_spread_2 : decode cX2_spread 2 = .ok (.iconst 0, 1) := dk_3 (dk_at dksX2_spread_0 2 rfl rfl)
theorem dX2_spread_3 : decode cX2_spread 3 = .ok (.istore_n 3, 1) := dk_62 (dk_at dksX2_spread_0 3 rfl rfl)
theorem dX2_spread_4 : decode cX2_spread 4 = .ok (.iload_n 3, 1) := dk_29 (dk_at dksX2_spread_0 4 rfl rfl)
theorem dX2_spread_5 : decode cX2_spread 5 = .ok (.aload_n 0, 1) := dk_42 (dk_at dksX2_spread_0 5 rfl rfl)
theorem dX2_spread_6 : decode cX2_spread 6 = .ok (.getfield 7, 3) := dk_180 0 7 (dk_at dksX2_spread_0 6 rfl rfl)
theorem dX2_spread_9 : decode cX2_spread 9 = .ok (.iconst 5, 1) := dk_8 (dk_at dksX2_spread_0 9 rfl rfl)
theorem dX2_spread_10 : decode cX2_spread 10 = .ok (.iaload, 1) := dk_46 (dk_at dksX2_spread_0 10 rfl rfl)
theorem dX2_spread_11 : decode cX2_spread 11 = .ok (.if_icmp .ge 45, 3) := dk_162 0 45 (dk_at dksX2_spread_0 11 rfl rfl)
theorem dX2_spread_14 : decode cX2_spread 14 = .ok (.iload_n 1, 1) := dk_27 (dk_at dksX2_spread_0 14 rfl rfl)
theorem dX2_spread_15 : decode cX2_spread 15 = .ok (.aload_n 0, 1) := dk_42 (dk_at dksX2_spread_0 15 rfl rfl)
theorem dX2_spread_16 : decode cX2_spread 16 = .ok (.getfield 7, 3) := dk_180 0 7 (dk_at dksX2_spread_0 16 rfl rfl)
theorem dX2_spread_19 : decode cX2_spread 19 = .ok (.bipush 92, 2) := dk_16 92 (dk_at dksX2_spread_0 19 rfl rfl)
theorem dX2_spread_21 : decode cX2_spread 21 = .ok (.iconst 2, 1) := dk_5 (dk_at dksX2_spread_0 21 rfl rfl)
theorem dX2_spread_22 : decode cX2_spread 22 = .ok (.iload_n 3, 1) := dk_29 (dk_at dksX2_spread_0 22 rfl rfl)
theorem dX2_spread_23 : decode cX2_spread 23 = .ok (.imul, 1) := dk_104 (dk_at dksX2_spread_0 23 rfl rfl)
theorem dX2_spread_24 : decode cX2_spread 24 = .ok (.iadd, 1) := dk_96 (dk_at dksX2_spread_1 0 rfl rfl)
theorem dX2_spread_25 : decode cX2_spread 25 = .ok (.iaload, 1) := dk_46 (dk_at dksX2_spread_1 1 rfl rfl)
theorem dX2_spread_26 : decode cX2_spread 26 = .ok (.invokestatic 80, 3) := dk_184 0 80 (dk_at dksX2_spread_1 2 rfl rfl)
theorem dX2_spread_29 : decode cX2_spread 29 = .ok (.ifCond .eq 21, 3) := dk_153 0 21 (dk_at dksX2_spread_1 5 rfl rfl)
theorem dX2_spread_32 : decode cX2_spread 32 = .ok (.iload_n 2, 1) := dk_28 (dk_at dksX2_spread_1 8 rfl rfl)
theorem dX2_spread_33 : decode cX2_spread 33 = .ok (.iconst 1, 1) := dk_4 (dk_at dksX2_spread_1 9 rfl rfl)
theorem dX2_spread_34 : decode cX2_spread 34 = .ok (.aload_n 0, 1) := dk_42 (dk_at dksX2_spread_1 10 rfl rfl)
theorem dX2_spread_35 : decode cX2_spread 35 = .ok (.getfield 7, 3) := dk_180 0 7 (dk_at dksX2_spread_1 11 rfl rfl)
theorem dX2_spread_38 : decode cX2_spread 38 = .ok (.bipush 92, 2) := dk_16 92 (dk_at dksX2_spread_1 14 rfl rfl)
theorem dX2_spread_40 : decode cX2_spread 40 = .ok (.iconst 2, 1) := dk_5 (dk_at dksX2_spread_1 16 rfl rfl)
theorem dX2_spread_41 : decode cX2_spread 41 = .ok (.iload_n 3, 1) := dk_29 (dk_at dksX2_spread_1 17 rfl rfl)
theorem dX2_spread_42 : decode cX2_spread 42 = .ok (.imul, 1) := dk_104 (dk_at dksX2_spread_1 18 rfl rfl)
theorem dX2_spread_43 : decode cX2_spread 43 = .ok (.iadd, 1) := dk_96 (dk_at dksX2_spread_1 19 rfl rfl)
theorem dX2_spread_44 : decode cX2_spread 44 = .ok (.iconst 1, 1) := dk_4 (dk_at dksX2_spread_1 20 rfl rfl)
theorem dX2_spread_45 : decode cX2_spread 45 = .ok (.iadd, 1) := dk_96 (dk_at dksX2_spread_1 21 rfl rfl)
theorem dX2_spread_46 : decode cX2_spread 46 = .ok (.iaload, 1) := dk_46 (dk_at dksX2_spread_1 22 rfl rfl)
theorem dX2_spread_47 : decode cX2_spread 47 = .ok (.ishl, 1) := dk_120 (dk_at dksX2_spread_1 23 rfl rfl)
theorem dX2_spread_48 : decode cX2_spread 48 = .ok (.ior, 1) := dk_128 (dk_at dksX2_spread_2 0 rfl rfl)
theorem dX2_spread_49 : decode cX2_spread 49 = .ok (.istore_n 2, 1) := dk_61 (dk_at dksX2_spread_2 1 rfl rfl)
theorem dX2_spread_50 : decode cX2_spread 50 = .ok (.iinc 3 1, 3) := dk_132 3 1 (dk_at dksX2_spread_2 2 rfl rfl)
theorem dX2_spread_53 : decode cX2_spread 53 = .ok (.goto (-49), 3) := dk_167 255 207 (dk_at dksX2_spread_2 5 rfl rfl)
theorem dX2_spread_56 : decode cX2_spread 56 = .ok (.iload_n 2, 1) := dk_28 (dk_at dksX2_spread_2 8 rfl rfl)
theorem dX2_spread_57 : decode cX2_spread 57 = .ok (.ireturn, 1) := dk_172 (dk_at dksX2_spread_2 9 rfl rfl)
abbrev cX2_never : ByteArray := prog_19_method_137_code
def yX2_never : MethodName := ⟨RX2, "never", "(I)I"⟩
def dkwX2_never_2 : List UInt8 := [172]
abbrev dktX2_never_2 : List UInt8 := dkwX2_never_2 ++ []
def dkwX2_never_1 : List UInt8 := [182, 1, 214, 61, 132, 3, 1, 167, 255, 241, 4, 42, 180, 0, 7, 3, 46, 120, 4, 100, 28, 2, 130, 126]
abbrev dktX2_never_1 : List UInt8 := dkwX2_never_1 ++ dktX2_never_2
def dkwX2_never_0 : List UInt8 := [42, 27, 182, 0, 69, 154, 0, 5, 2, 172, 4, 27, 120, 61, 3, 62, 29, 16, 8, 162, 0, 15, 42, 28]
abbrev dktX2_never_0 : List UInt8 := dkwX2_never_0 ++ dktX2_never_1
theorem dksX2_never_0 : cX2_never.data.toList.drop 0 = dktX2_never_0 := by decide +kernel
theorem dksX2_never_1 : cX2_never.data.toList.drop 24 = dktX2_never_1 := dk_seg dksX2_never_0 24 rfl rfl
theorem dksX2_never_2 : cX2_never.data.toList.drop 48 = dktX2_never_2 := dk_seg dksX2_never_1 24 rfl rfl
theorem dX2_never_0 : decode cX2_never 0 = .ok (.aload_n 0, 1) := dk_42 (dk_at dksX2_never_0 0 rfl rfl)
theorem dX2_never_1 : decode cX2_never 1 = .ok (.iload_n 1, 1) := dk_27 (dk_at dksX2_never_0 1 rfl rfl)
theorem dX2_never_2 : decode cX2_never 2 = .ok (.invokevirtual 69, 3) := dk_182 0 69 (dk_at dksX2_never_0 2 rfl rfl)
theorem dX2_never_5 : decode cX2_never 5 = .ok (.ifCond .ne 5, 3) := dk_154 0 5 (dk_at dksX2_never_0 5 rfl rfl)
theorem dX2_never_8 : decode cX2_never 8 = .ok (.iconst (-1), 1) := dk_2 (dk_at dksX2_never_0 8 rfl rfl)
theorem dX2_never_9 : decode cX2_never 9 = .ok (.ireturn, 1) := dk_172 (dk_at dksX2_never_0 9 rfl rfl)
theorem dX2_never_10 : decode cX2_never 10 = .ok (.iconst 1, 1) := dk_4 (dk_at dksX2_never_0 10 rfl rfl)
theorem dX2_never_11 : decode cX2_never 11 = .ok (.iload_n 1, 1) := dk_27 (dk_at dksX2_never_0 11 rfl rfl)
theorem dX2_never_12 : decode cX2_never 12 = .ok (.ishl, 1) := dk_120 (dk_at dksX2_never_0 12 rfl rfl)
theorem dX2_never_13 : decode cX2_never 13 = .ok (.istore_n 2, 1) := dk_61 (dk_at dksX2_never_0 13 rfl rfl)
theorem dX2_never_14 : decode cX2_never 14 = .ok (.iconst 0, 1) := dk_3 (dk_at dksX2_never_0 14 rfl rfl)
theorem dX2_never_15 : decode cX2_never 15 = .ok (.istore_n 3, 1) := dk_62 (dk_at dksX2_never_0 15 rfl rfl)
theorem dX2_never_16 : decode cX2_never 16 = .ok (.iload_n 3, 1) := dk_29 (dk_at dksX2_never_0 16 rfl rfl)
theorem dX2_never_17 : decode cX2_never 17 = .ok (.bipush 8, 2) := dk_16 8 (dk_at dksX2_never_0 17 rfl rfl)
theorem dX2_never_19 : decode cX2_never 19 = .ok (.if_icmp .ge 15, 3) := dk_162 0 15 (dk_at dksX2_never_0 19 rfl rfl)
theorem dX2_never_22 : decode cX2_never 22 = .ok (.aload_n 0, 1) := dk_42 (dk_at dksX2_never_0 22 rfl rfl)
theorem dX2_never_23 : decode cX2_never 23 = .ok (.iload_n 2, 1) := dk_28 (dk_at dksX2_never_0 23 rfl rfl)
theorem dX2_never_24 : decode cX2_never 24 = .ok (.invokevirtual 470, 3) := dk_182 1 214 (dk_at dksX2_never_1 0 rfl rfl)
theorem dX2_never_27 : decode cX2_never 27 = .ok (.istore_n 2, 1) := dk_61 (dk_at dksX2_never_1 3 rfl rfl)
theorem dX2_never_28 : decode cX2_never 28 = .ok (.iinc 3 1, 3) := dk_132 3 1 (dk_at dksX2_never_1 4 rfl rfl)
theorem dX2_never_31 : decode cX2_never 31 = .ok (.goto (-15), 3) := dk_167 255 241 (dk_at dksX2_never_1 7 rfl rfl)
theorem dX2_never_34 : decode cX2_never 34 = .ok (.iconst 1, 1) := dk_4 (dk_at dksX2_never_1 10 rfl rfl)
theorem dX2_never_35 : decode cX2_never 35 = .ok (.aload_n 0, 1) := dk_42 (dk_at dksX2_never_1 11 rfl rfl)
theorem dX2_never_36 : decode cX2_never 36 = .ok (.getfield 7, 3) := dk_180 0 7 (dk_at dksX2_never_1 12 rfl rfl)
theorem dX2_never_39 : decode cX2_never 39 = .ok (.iconst 0, 1) := dk_3 (dk_at dksX2_never_1 15 rfl rfl)
theorem dX2_never_40 : decode cX2_never 40 = .ok (.iaload, 1) := dk_46 (dk_at dksX2_never_1 16 rfl rfl)
theorem dX2_never_41 : decode cX2_never 41 = .ok (.ishl, 1) := dk_120 (dk_at dksX2_never_1 17 rfl rfl)
theorem dX2_never_42 : decode cX2_never 42 = .ok (.iconst 1, 1) := dk_4 (dk_at dksX2_never_1 18 rfl rfl)
theorem dX2_never_43 : decode cX2_never 43 = .ok (.isub, 1) := dk_100 (dk_at dksX2_never_1 19 rfl rfl)
theorem dX2_never_44 : decode cX2_never 44 = .ok (.iload_n 2, 1) := dk_28 (dk_at dksX2_never_1 20 rfl rfl)
theorem dX2_never_45 : decode cX2_never 45 = .ok (.iconst (-1), 1) := dk_2 (dk_at dksX2_never_1 21 rfl rfl)
theorem dX2_never_46 : decode cX2_never 46 = .ok (.ixor, 1) := dk_130 (dk_at dksX2_never_1 22 rfl rfl)
theorem dX2_never_47 : decode cX2_never 47 = .ok (.iand, 1) := dk_126 (dk_at dksX2_never_1 23 rfl rfl)
theorem dX2_never_48 : decode cX2_never 48 = .ok (.ireturn, 1) := dk_172 (dk_at dksX2_never_2 0 rfl rfl)
abbrev cX2_richest : ByteArray := prog_19_method_139_code
def yX2_richest : MethodName := ⟨RX2, "richest", "(Z)I"⟩
def dkwX2_richest_1 : List UInt8 := [61, 132, 3, 1, 167, 255, 232, 27, 153, 0, 11, 42, 28, 182, 1, 217, 167, 0, 4, 28, 172]
abbrev dktX2_richest_1 : List UInt8 := dkwX2_richest_1 ++ []
def dkwX2_richest_0 : List UInt8 := [3, 61, 4, 62, 29, 16, 20, 162, 0, 24, 42, 29, 182, 1, 217, 42, 28, 182, 1, 217, 164, 0, 5, 29]
abbrev dktX2_richest_0 : List UInt8 := dkwX2_richest_0 ++ dktX2_richest_1
theorem dksX2_richest_0 : cX2_richest.data.toList.drop 0 = dktX2_richest_0 := by decide +kernel
theorem dksX2_richest_1 : cX2_richest.data.toList.drop 24 = dktX2_richest_1 := dk_seg dksX2_richest_0 24 rfl rfl
theorem dX2_richest_0 : decode cX2_richest 0 = .ok (.iconst 0, 1) := dk_3 (dk_at dksX2_richest_0 0 rfl rfl)
theorem dX2_richest_1 : decode cX2_richest 1 = .ok (.istore_n 2, 1) := dk_61 (dk_at dksX2_richest_0 1 rfl rfl)
theorem dX2_richest_2 : decode cX2_richest 2 = .ok (.iconst 1, 1) := dk_4 (dk_at dksX2_richest_0 2 rfl rfl)
theorem dX2_richest_3 : decode cX2_richest 3 = .ok (.istore_n 3, 1) := dk_62 (dk_at dksX2_richest_0 3 rfl rfl)
theorem dX2_richest_4 : decode cX2_richest 4 = .ok (.iload_n 3, 1) := dk_29 (dk_at dksX2_richest_0 4 rfl rfl)
theorem dX2_richest_5 : decode cX2_richest 5 = .ok (.bipush 20, 2) := dk_16 20 (dk_at dksX2_richest_0 5 rfl rfl)
theorem dX2_richest_7 : decode cX2_richest 7 = .ok (.if_icmp .ge 24, 3) := dk_162 0 24 (dk_at dksX2_richest_0 7 rfl rfl)
theorem dX2_richest_10 : decode cX2_richest 10 = .ok (.aload_n 0, 1) := dk_42 (dk_at dksX2_richest_0 10 rfl rfl)
theorem dX2_richest_11 : decode cX2_richest 11 = .ok (.iload_n 3, 1) := dk_29 (dk_at dksX2_richest_0 11 rfl rfl)
theorem dX2_richest_12 : decode cX2_richest 12 = .ok (.invokevirtual 473, 3) := dk_182 1 217 (dk_at dksX2_richest_0 12 rfl rfl)
theorem dX2_richest_15 : decode cX2_richest 15 = .ok (.aload_n 0, 1) := dk_42 (dk_at dksX2_richest_0 15 rfl rfl)
theorem dX2_richest_16 : decode cX2_richest 16 = .ok (.iload_n 2, 1) := dk_28 (dk_at dksX2_richest_0 16 rfl rfl)
theorem dX2_richest_17 : decode cX2_richest 17 = .ok (.invokevirtual 473, 3) := dk_182 1 217 (dk_at dksX2_richest_0 17 rfl rfl)
theorem dX2_richest_20 : decode cX2_richest 20 = .ok (.if_icmp .le 5, 3) := dk_164 0 5 (dk_at dksX2_richest_0 20 rfl rfl)
theorem dX2_richest_23 : decode cX2_richest 23 = .ok (.iload_n 3, 1) := dk_29 (dk_at dksX2_richest_0 23 rfl rfl)
theorem dX2_richest_24 : decode cX2_richest 24 = .ok (.istore_n 2, 1) := dk_61 (dk_at dksX2_richest_1 0 rfl rfl)
theorem dX2_richest_25 : decode cX2_richest 25 = .ok (.iinc 3 1, 3) := dk_132 3 1 (dk_at dksX2_richest_1 1 rfl rfl)
theorem dX2_richest_28 : decode cX2_richest 28 = .ok (.goto (-24), 3) := dk_167 255 232 (dk_at dksX2_richest_1 4 rfl rfl)
theorem dX2_richest_31 : decode cX2_richest 31 = .ok (.iload_n 1, 1) := dk_27 (dk_at dksX2_richest_1 7 rfl rfl)
theorem dX2_richest_32 : decode cX2_richest 32 = .ok (.ifCond .eq 11, 3) := dk_153 0 11 (dk_at dksX2_richest_1 8 rfl rfl)
theorem dX2_richest_35 : decode cX2_richest 35 = .ok (.aload_n 0, 1) := dk_42 (dk_at dksX2_richest_1 11 rfl rfl)
theorem dX2_richest_36 : decode cX2_richest 36 = .ok (.iload_n 2, 1) := dk_28 (dk_at dksX2_richest_1 12 rfl rfl)
theorem dX2_richest_37 : decode cX2_richest 37 = .ok (.invokevirtual 473, 3) := dk_182 1 217 (dk_at dksX2_richest_1 13 rfl rfl)
theorem dX2_richest_40 : decode cX2_richest 40 = .ok (.goto 4, 3) := dk_167 0 4 (dk_at dksX2_richest_1 16 rfl rfl)
theorem dX2_richest_43 : decode cX2_richest 43 = .ok (.iload_n 2, 1) := dk_28 (dk_at dksX2_richest_1 19 rfl rfl)
theorem dX2_richest_44 : decode cX2_richest 44 = .ok (.ireturn, 1) := dk_172 (dk_at dksX2_richest_1 20 rfl rfl)
abbrev cX2_earnedOn : ByteArray := prog_19_method_138_code
def yX2_earnedOn : MethodName := ⟨RX2, "earnedOn", "(I)I"⟩
def dkwX2_earnedOn_2 : List UInt8 := [42, 21, 4, 28, 182, 1, 70, 167, 0, 4, 3, 96, 62, 132, 4, 1, 167, 255, 218, 29, 172]
abbrev dktX2_earnedOn_2 : List UInt8 := dkwX2_earnedOn_2 ++ []
def dkwX2_earnedOn_1 : List UInt8 := [54, 4, 21, 4, 42, 180, 0, 7, 3, 46, 162, 0, 33, 29, 42, 21, 4, 27, 182, 1, 46, 153, 0, 13]
abbrev dktX2_earnedOn_1 : List UInt8 := dkwX2_earnedOn_1 ++ dktX2_earnedOn_2
def dkwX2_earnedOn_0 : List UInt8 := [42, 180, 0, 7, 16, 8, 46, 27, 42, 182, 1, 64, 100, 16, 20, 96, 16, 20, 112, 96, 61, 3, 62, 3]
abbrev dktX2_earnedOn_0 : List UInt8 := dkwX2_earnedOn_0 ++ dktX2_earnedOn_1
theorem dksX2_earnedOn_0 : cX2_earnedOn.data.toList.drop 0 = dktX2_earnedOn_0 := by decide +kernel
theorem dksX2_earnedOn_1 : cX2_earnedOn.data.toList.drop 24 = dktX2_earnedOn_1 := dk_seg dksX2_earnedOn_0 24 rfl rfl
theorem dksX2_earnedOn_2 : cX2_earnedOn.data.toList.drop 48 = dktX2_earnedOn_2 := dk_seg dksX2_earnedOn_1 24 rfl rfl
theorem dX2_earnedOn_0 : decode cX2_earnedOn 0 = .ok (.aload_n 0, 1) := dk_42 (dk_at dksX2_earnedOn_0 0 rfl rfl)
theorem dX2_earnedOn_1 : decode cX2_earnedOn 1 = .ok (.getfield 7, 3) := dk_180 0 7 (dk_at dksX2_earnedOn_0 1 rfl rfl)
theorem dX2_earnedOn_4 : decode cX2_earnedOn 4 = .ok (.bipush 8, 2) := dk_16 8 (dk_at dksX2_earnedOn_0 4 rfl rfl)
theorem dX2_earnedOn_6 : decode cX2_earnedOn 6 = .ok (.iaload, 1) := dk_46 (dk_at dksX2_earnedOn_0 6 rfl rfl)
theorem dX2_earnedOn_7 : decode cX2_earnedOn 7 = .ok (.iload_n 1, 1) := dk_27 (dk_at dksX2_earnedOn_0 7 rfl rfl)
theorem dX2_earnedOn_8 : decode cX2_earnedOn 8 = .ok (.aload_n 0, 1) := dk_42 (dk_at dksX2_earnedOn_0 8 rfl rfl)
theorem dX2_earnedOn_9 : decode cX2_earnedOn 9 = .ok (.invokevirtual 320, 3) := dk_182 1 64 (dk_at dksX2_earnedOn_0 9 rfl rfl)
theorem dX2_earnedOn_12 : decode cX2_earnedOn 12 = .ok (.isub, 1) := dk_100 (dk_at dksX2_earnedOn_0 12 rfl rfl)
theorem dX2_earnedOn_13 : decode cX2_earnedOn 13 = .ok (.bipush 20, 2) := dk_16 20 (dk_at dksX2_earnedOn_0 13 rfl rfl)
theorem dX2_earnedOn_15 : decode cX2_earnedOn 15 = .ok (.iadd, 1) := dk_96 (dk_at dksX2_earnedOn_0 15 rfl rfl)
theorem dX2_earnedOn_16 : decode cX2_earnedOn 16 = .ok (.bipush 20, 2) := dk_16 20 (dk_at dksX2_earnedOn_0 16 rfl rfl)
theorem dX2_earnedOn_18 : decode cX2_earnedOn 18 = .ok (.irem, 1) := dk_112 (dk_at dksX2_earnedOn_0 18 rfl rfl)
theorem dX2_earnedOn_19 : decode cX2_earnedOn 19 = .ok (.iadd, 1) := dk_96 (dk_at dksX2_earnedOn_0 19 rfl rfl)
theorem dX2_earnedOn_20 : decode cX2_earnedOn 20 = .ok (.istore_n 2, 1) := dk_61 (dk_at dksX2_earnedOn_0 20 rfl rfl)
theorem dX2_earnedOn_21 : decode cX2_earnedOn 21 = .ok (.iconst 0, 1) := dk_3 (dk_at dksX2_earnedOn_0 21 rfl rfl)
theorem dX2_earnedOn_22 : decode cX2_earnedOn 22 = .ok (.istore_n 3, 1) := dk_62 (dk_at dksX2_earnedOn_0 22 rfl rfl)
theorem dX2_earnedOn_23 : decode cX2_earnedOn 23 = .ok (.iconst 0, 1) := dk_3 (dk_at dksX2_earnedOn_0 23 rfl rfl)
theorem dX2_earnedOn_24 : decode cX2_earnedOn 24 = .ok (.istore 4, 2) := dk_54 4 (dk_at dksX2_earnedOn_1 0 rfl rfl)
theorem dX2_earnedOn_26 : decode cX2_earnedOn 26 = .ok (.iload 4, 2) := dk_21 4 (dk_at dksX2_earnedOn_1 2 rfl rfl)
theorem dX2_earnedOn_28 : decode cX2_earnedOn 28 = .ok (.aload_n 0, 1) := dk_42 (dk_at dksX2_earnedOn_1 4 rfl rfl)
theorem dX2_earnedOn_29 : decode cX2_earnedOn 29 = .ok (.getfield 7, 3) := dk_180 0 7 (dk_at dksX2_earnedOn_1 5 rfl rfl)
theorem dX2_earnedOn_32 : decode cX2_earnedOn 32 = .ok (.iconst 0, 1) := dk_3 (dk_at dksX2_earnedOn_1 8 rfl rfl)
theorem dX2_earnedOn_33 : decode cX2_earnedOn 33 = .ok (.iaload, 1) := dk_46 (dk_at dksX2_earnedOn_1 9 rfl rfl)
theorem dX2_earnedOn_34 : decode cX2_earnedOn 34 = .ok (.if_icmp .ge 33, 3) := dk_162 0 33 (dk_at dksX2_earnedOn_1 10 rfl rfl)
theorem dX2_earnedOn_37 : decode cX2_earnedOn 37 = .ok (.iload_n 3, 1) := dk_29 (dk_at dksX2_earnedOn_1 13 rfl rfl)
theorem dX2_earnedOn_38 : decode cX2_earnedOn 38 = .ok (.aload_n 0, 1) := dk_42 (dk_at dksX2_earnedOn_1 14 rfl rfl)
theorem dX2_earnedOn_39 : decode cX2_earnedOn 39 = .ok (.iload 4, 2) := dk_21 4 (dk_at dksX2_earnedOn_1 15 rfl rfl)
theorem dX2_earnedOn_41 : decode cX2_earnedOn 41 = .ok (.iload_n 1, 1) := dk_27 (dk_at dksX2_earnedOn_1 17 rfl rfl)
theorem dX2_earnedOn_42 : decode cX2_earnedOn 42 = .ok (.invokevirtual 302, 3) := dk_182 1 46 (dk_at dksX2_earnedOn_1 18 rfl rfl)
theorem dX2_earnedOn_45 : decode cX2_earnedOn 45 = .ok (.ifCond .eq 13, 3) := dk_153 0 13 (dk_at dksX2_earnedOn_1 21 rfl rfl)
theorem dX2_earnedOn_48 : decode cX2_earnedOn 48 = .ok (.aload_n 0, 1) := dk_42 (dk_at dksX2_earnedOn_2 0 rfl rfl)
theorem dX2_earnedOn_49 : decode cX2_earnedOn 49 = .ok (.iload 4, 2) := dk_21 4 (dk_at dksX2_earnedOn_2 1 rfl rfl)
theorem dX2_earnedOn_51 : decode cX2_earnedOn 51 = .ok (.iload_n 2, 1) := dk_28 (dk_at dksX2_earnedOn_2 3 rfl rfl)
theorem dX2_earnedOn_52 : decode cX2_earnedOn 52 = .ok (.invokevirtual 326, 3) := dk_182 1 70 (dk_at dksX2_earnedOn_2 4 rfl rfl)
theorem dX2_earnedOn_55 : decode cX2_earnedOn 55 = .ok (.goto 4, 3) := dk_167 0 4 (dk_at dksX2_earnedOn_2 7 rfl rfl)
theorem dX2_earnedOn_58 : decode cX2_earnedOn 58 = .ok (.iconst 0, 1) := dk_3 (dk_at dksX2_earnedOn_2 10 rfl rfl)
theorem dX2_earnedOn_59 : decode cX2_earnedOn 59 = .ok (.iadd, 1) := dk_96 (dk_at dksX2_earnedOn_2 11 rfl rfl)
theorem dX2_earnedOn_60 : decode cX2_earnedOn 60 = .ok (.istore_n 3, 1) := dk_62 (dk_at dksX2_earnedOn_2 12 rfl rfl)
theorem dX2_earnedOn_61 : decode cX2_earnedOn 61 = .ok (.iinc 4 1, 3) := dk_132 4 1 (dk_at dksX2_earnedOn_2 13 rfl rfl)
theorem dX2_earnedOn_64 : decode cX2_earnedOn 64 = .ok (.goto (-38), 3) := dk_167 255 218 (dk_at dksX2_earnedOn_2 16 rfl rfl)
theorem dX2_earnedOn_67 : decode cX2_earnedOn 67 = .ok (.iload_n 3, 1) := dk_29 (dk_at dksX2_earnedOn_2 19 rfl rfl)
theorem dX2_earnedOn_68 : decode cX2_earnedOn 68 = .ok (.ireturn, 1) := dk_172 (dk_at dksX2_earnedOn_2 20 rfl rfl)
abbrev cX2_leap : ByteArray := prog_19_method_141_code
def yX2_leap : MethodName := ⟨RX2, "leap", "(II)I"⟩
def dkwX2_leap_2 : List UInt8 := [132, 3, 1, 167, 255, 226, 2, 172]
abbrev dktX2_leap_2 : List UInt8 := dkwX2_leap_2 ++ []
def dkwX2_leap_1 : List UInt8 := [163, 0, 30, 42, 27, 3, 182, 0, 73, 29, 184, 1, 220, 42, 28, 3, 182, 0, 73, 160, 0, 5, 29, 172]
abbrev dktX2_leap_1 : List UInt8 := dkwX2_leap_1 ++ dktX2_leap_2
def dkwX2_leap_0 : List UInt8 := [42, 27, 182, 0, 69, 153, 0, 11, 42, 28, 182, 0, 69, 154, 0, 5, 2, 172, 3, 62, 29, 16, 20]
abbrev dktX2_leap_0 : List UInt8 := dkwX2_leap_0 ++ dktX2_leap_1
theorem dksX2_leap_0 : cX2_leap.data.toList.drop 0 = dktX2_leap_0 := by decide +kernel
theorem dksX2_leap_1 : cX2_leap.data.toList.drop 23 = dktX2_leap_1 := dk_seg dksX2_leap_0 23 rfl rfl
theorem dksX2_leap_2 : cX2_leap.data.toList.drop 47 = dktX2_leap_2 := dk_seg dksX2_leap_1 24 rfl rfl
theorem dX2_leap_0 : decode cX2_leap 0 = .ok (.aload_n 0, 1) := dk_42 (dk_at dksX2_leap_0 0 rfl rfl)
theorem dX2_leap_1 : decode cX2_leap 1 = .ok (.iload_n 1, 1) := dk_27 (dk_at dksX2_leap_0 1 rfl rfl)
theorem dX2_leap_2 : decode cX2_leap 2 = .ok (.invokevirtual 69, 3) := dk_182 0 69 (dk_at dksX2_leap_0 2 rfl rfl)
theorem dX2_leap_5 : decode cX2_leap 5 = .ok (.ifCond .eq 11, 3) := dk_153 0 11 (dk_at dksX2_leap_0 5 rfl rfl)
theorem dX2_leap_8 : decode cX2_leap 8 = .ok (.aload_n 0, 1) := dk_42 (dk_at dksX2_leap_0 8 rfl rfl)
theorem dX2_leap_9 : decode cX2_leap 9 = .ok (.iload_n 2, 1) := dk_28 (dk_at dksX2_leap_0 9 rfl rfl)
theorem dX2_leap_10 : decode cX2_leap 10 = .ok (.invokevirtual 69, 3) := dk_182 0 69 (dk_at dksX2_leap_0 10 rfl rfl)
theorem dX2_leap_13 : decode cX2_leap 13 = .ok (.ifCond .ne 5, 3) := dk_154 0 5 (dk_at dksX2_leap_0 13 rfl rfl)
theorem dX2_leap_16 : decode cX2_leap 16 = .ok (.iconst (-1), 1) := dk_2 (dk_at dksX2_leap_0 16 rfl rfl)
theorem dX2_leap_17 : decode cX2_leap 17 = .ok (.ireturn, 1) := dk_172 (dk_at dksX2_leap_0 17 rfl rfl)
theorem dX2_leap_18 : decode cX2_leap 18 = .ok (.iconst 0, 1) := dk_3 (dk_at dksX2_leap_0 18 rfl rfl)
theorem dX2_leap_19 : decode cX2_leap 19 = .ok (.istore_n 3, 1) := dk_62 (dk_at dksX2_leap_0 19 rfl rfl)
theorem dX2_leap_20 : decode cX2_leap 20 = .ok (.iload_n 3, 1) := dk_29 (dk_at dksX2_leap_0 20 rfl rfl)
theorem dX2_leap_21 : decode cX2_leap 21 = .ok (.bipush 20, 2) := dk_16 20 (dk_at dksX2_leap_0 21 rfl rfl)
theorem dX2_leap_23 : decode cX2_leap 23 = .ok (.if_icmp .gt 30, 3) := dk_163 0 30 (dk_at dksX2_leap_1 0 rfl rfl)
theorem dX2_leap_26 : decode cX2_leap 26 = .ok (.aload_n 0, 1) := dk_42 (dk_at dksX2_leap_1 3 rfl rfl)
theorem dX2_leap_27 : decode cX2_leap 27 = .ok (.iload_n 1, 1) := dk_27 (dk_at dksX2_leap_1 4 rfl rfl)
theorem dX2_leap_28 : decode cX2_leap 28 = .ok (.iconst 0, 1) := dk_3 (dk_at dksX2_leap_1 5 rfl rfl)
theorem dX2_leap_29 : decode cX2_leap 29 = .ok (.invokevirtual 73, 3) := dk_182 0 73 (dk_at dksX2_leap_1 6 rfl rfl)
theorem dX2_leap_32 : decode cX2_leap 32 = .ok (.iload_n 3, 1) := dk_29 (dk_at dksX2_leap_1 9 rfl rfl)
theorem dX2_leap_33 : decode cX2_leap 33 = .ok (.invokestatic 476, 3) := dk_184 1 220 (dk_at dksX2_leap_1 10 rfl rfl)
theorem dX2_leap_36 : decode cX2_leap 36 = .ok (.aload_n 0, 1) := dk_42 (dk_at dksX2_leap_1 13 rfl rfl)
theorem dX2_leap_37 : decode cX2_leap 37 = .ok (.iload_n 2, 1) := dk_28 (dk_at dksX2_leap_1 14 rfl rfl)
theorem dX2_leap_38 : decode cX2_leap 38 = .ok (.iconst 0, 1) := dk_3 (dk_at dksX2_leap_1 15 rfl rfl)
theorem dX2_leap_39 : decode cX2_leap 39 = .ok (.invokevirtual 73, 3) := dk_182 0 73 (dk_at dksX2_leap_1 16 rfl rfl)
theorem dX2_leap_42 : decode cX2_leap 42 = .ok (.if_icmp .ne 5, 3) := dk_160 0 5 (dk_at dksX2_leap_1 19 rfl rfl)
theorem dX2_leap_45 : decode cX2_leap 45 = .ok (.iload_n 3, 1) := dk_29 (dk_at dksX2_leap_1 22 rfl rfl)
theorem dX2_leap_46 : decode cX2_leap 46 = .ok (.ireturn, 1) := dk_172 (dk_at dksX2_leap_1 23 rfl rfl)
theorem dX2_leap_47 : decode cX2_leap 47 = .ok (.iinc 3 1, 3) := dk_132 3 1 (dk_at dksX2_leap_2 0 rfl rfl)
theorem dX2_leap_50 : decode cX2_leap 50 = .ok (.goto (-30), 3) := dk_167 255 226 (dk_at dksX2_leap_2 3 rfl rfl)
theorem dX2_leap_53 : decode cX2_leap 53 = .ok (.iconst (-1), 1) := dk_2 (dk_at dksX2_leap_2 6 rfl rfl)
theorem dX2_leap_54 : decode cX2_leap 54 = .ok (.ireturn, 1) := dk_172 (dk_at dksX2_leap_2 7 rfl rfl)
abbrev cX2_later : ByteArray := prog_19_method_140_code
def yX2_later : MethodName := ⟨RX2, "later", "(II)I"⟩
def dkwX2_later_1 : List UInt8 := [16, 20, 112, 120, 167, 0, 4, 3, 128, 61, 132, 3, 1, 167, 255, 224, 28, 172]
abbrev dktX2_later_1 : List UInt8 := dkwX2_later_1 ++ []
def dkwX2_later_0 : List UInt8 := [3, 61, 3, 62, 29, 16, 20, 162, 0, 32, 28, 26, 29, 184, 0, 80, 153, 0, 14, 4, 29, 27, 96]
abbrev dktX2_later_0 : List UInt8 := dkwX2_later_0 ++ dktX2_later_1
theorem dksX2_later_0 : cX2_later.data.toList.drop 0 = dktX2_later_0 := by decide +kernel
theorem dksX2_later_1 : cX2_later.data.toList.drop 23 = dktX2_later_1 := dk_seg dksX2_later_0 23 rfl rfl
theorem dX2_later_0 : decode cX2_later 0 = .ok (.iconst 0, 1) := dk_3 (dk_at dksX2_later_0 0 rfl rfl)
theorem dX2_later_1 : decode cX2_later 1 = .ok (.istore_n 2, 1) := dk_61 (dk_at dksX2_later_0 1 rfl rfl)
theorem dX2_later_2 : decode cX2_later 2 = .ok (.iconst 0, 1) := dk_3 (dk_at dksX2_later_0 2 rfl rfl)
theorem dX2_later_3 : decode cX2_later 3 = .ok (.istore_n 3, 1) := dk_62 (dk_at dksX2_later_0 3 rfl rfl)
theorem dX2_later_4 : decode cX2_later 4 = .ok (.iload_n 3, 1) := dk_29 (dk_at dksX2_later_0 4 rfl rfl)
theorem dX2_later_5 : decode cX2_later 5 = .ok (.bipush 20, 2) := dk_16 20 (dk_at dksX2_later_0 5 rfl rfl)
theorem dX2_later_7 : decode cX2_later 7 = .ok (.if_icmp .ge 32, 3) := dk_162 0 32 (dk_at dksX2_later_0 7 rfl rfl)
theorem dX2_later_10 : decode cX2_later 10 = .ok (.iload_n 2, 1) := dk_28 (dk_at dksX2_later_0 10 rfl rfl)
theorem dX2_later_11 : decode cX2_later 11 = .ok (.iload_n 0, 1) := dk_26 (dk_at dksX2_later_0 11 rfl rfl)
theorem dX2_later_12 : decode cX2_later 12 = .ok (.iload_n 3, 1) := dk_29 (dk_at dksX2_later_0 12 rfl rfl)
theorem dX2_later_13 : decode cX2_later 13 = .ok (.invokestatic 80, 3) := dk_184 0 80 (dk_at dksX2_later_0 13 rfl rfl)
theorem dX2_later_16 : decode cX2_later 16 = .ok (.ifCond .eq 14, 3) := dk_153 0 14 (dk_at dksX2_later_0 16 rfl rfl)
theorem dX2_later_19 : decode cX2_later 19 = .ok (.iconst 1, 1) := dk_4 (dk_at dksX2_later_0 19 rfl rfl)
theorem dX2_later_20 : decode cX2_later 20 = .ok (.iload_n 3, 1) := dk_29 (dk_at dksX2_later_0 20 rfl rfl)
theorem dX2_later_21 : decode cX2_later 21 = .ok (.iload_n 1, 1) := dk_27 (dk_at dksX2_later_0 21 rfl rfl)
theorem dX2_later_22 : decode cX2_later 22 = .ok (.iadd, 1) := dk_96 (dk_at dksX2_later_0 22 rfl rfl)
theorem dX2_later_23 : decode cX2_later 23 = .ok (.bipush 20, 2) := dk_16 20 (dk_at dksX2_later_1 0 rfl rfl)
theorem dX2_later_25 : decode cX2_later 25 = .ok (.irem, 1) := dk_112 (dk_at dksX2_later_1 2 rfl rfl)
theorem dX2_later_26 : decode cX2_later 26 = .ok (.ishl, 1) := dk_120 (dk_at dksX2_later_1 3 rfl rfl)
theorem dX2_later_27 : decode cX2_later 27 = .ok (.goto 4, 3) := dk_167 0 4 (dk_at dksX2_later_1 4 rfl rfl)
theorem dX2_later_30 : decode cX2_later 30 = .ok (.iconst 0, 1) := dk_3 (dk_at dksX2_later_1 7 rfl rfl)
theorem dX2_later_31 : decode cX2_later 31 = .ok (.ior, 1) := dk_128 (dk_at dksX2_later_1 8 rfl rfl)
theorem dX2_later_32 : decode cX2_later 32 = .ok (.istore_n 2, 1) := dk_61 (dk_at dksX2_later_1 9 rfl rfl)
theorem dX2_later_33 : decode cX2_later 33 = .ok (.iinc 3 1, 3) := dk_132 3 1 (dk_at dksX2_later_1 10 rfl rfl)
theorem dX2_later_36 : decode cX2_later 36 = .ok (.goto (-32), 3) := dk_167 255 224 (dk_at dksX2_later_1 13 rfl rfl)
theorem dX2_later_39 : decode cX2_later 39 = .ok (.iload_n 2, 1) := dk_28 (dk_at dksX2_later_1 16 rfl rfl)
theorem dX2_later_40 : decode cX2_later 40 = .ok (.ireturn, 1) := dk_172 (dk_at dksX2_later_1 17 rfl rfl)
abbrev cX2_image : ByteArray := prog_19_method_142_code
def yX2_image : MethodName := ⟨RX2, "image", "()I"⟩
def dkwX2_image_0 : List UInt8 := [42, 180, 0, 7, 42, 180, 0, 13, 184, 0, 61, 42, 180, 0, 7, 16, 8, 46, 172]
abbrev dktX2_image_0 : List UInt8 := dkwX2_image_0 ++ []
theorem dksX2_image_0 : cX2_image.data.toList.drop 0 = dktX2_image_0 := by decide +kernel
theorem dX2_image_0 : decode cX2_image 0 = .ok (.aload_n 0, 1) := dk_42 (dk_at dksX2_image_0 0 rfl rfl)
theorem dX2_image_1 : decode cX2_image 1 = .ok (.getfield 7, 3) := dk_180 0 7 (dk_at dksX2_image_0 1 rfl rfl)
theorem dX2_image_4 : decode cX2_image 4 = .ok (.aload_n 0, 1) := dk_42 (dk_at dksX2_image_0 4 rfl rfl)
theorem dX2_image_5 : decode cX2_image 5 = .ok (.getfield 13, 3) := dk_180 0 13 (dk_at dksX2_image_0 5 rfl rfl)
theorem dX2_image_8 : decode cX2_image 8 = .ok (.invokestatic 61, 3) := dk_184 0 61 (dk_at dksX2_image_0 8 rfl rfl)
theorem dX2_image_11 : decode cX2_image 11 = .ok (.aload_n 0, 1) := dk_42 (dk_at dksX2_image_0 11 rfl rfl)
theorem dX2_image_12 : decode cX2_image 12 = .ok (.getfield 7, 3) := dk_180 0 7 (dk_at dksX2_image_0 12 rfl rfl)
theorem dX2_image_15 : decode cX2_image 15 = .ok (.bipush 8, 2) := dk_16 8 (dk_at dksX2_image_0 15 rfl rfl)
theorem dX2_image_17 : decode cX2_image 17 = .ok (.iaload, 1) := dk_46 (dk_at dksX2_image_0 17 rfl rfl)
theorem dX2_image_18 : decode cX2_image 18 = .ok (.ireturn, 1) := dk_172 (dk_at dksX2_image_0 18 rfl rfl)
abbrev cX2_back : ByteArray := prog_19_method_143_code
def yX2_back : MethodName := ⟨RX2, "back", "()I"⟩
def dkwX2_back_0 : List UInt8 := [42, 180, 0, 13, 42, 180, 0, 7, 184, 0, 61, 42, 180, 0, 7, 16, 8, 46, 172]
abbrev dktX2_back_0 : List UInt8 := dkwX2_back_0 ++ []
theorem dksX2_back_0 : cX2_back.data.toList.drop 0 = dktX2_back_0 := by decide +kernel
theorem dX2_back_0 : decode cX2_back 0 = .ok (.aload_n 0, 1) := dk_42 (dk_at dksX2_back_0 0 rfl rfl)
theorem dX2_back_1 : decode cX2_back 1 = .ok (.getfield 13, 3) := dk_180 0 13 (dk_at dksX2_back_0 1 rfl rfl)
theorem dX2_back_4 : decode cX2_back 4 = .ok (.aload_n 0, 1) := dk_42 (dk_at dksX2_back_0 4 rfl rfl)
theorem dX2_back_5 : decode cX2_back 5 = .ok (.getfield 7, 3) := dk_180 0 7 (dk_at dksX2_back_0 5 rfl rfl)
theorem dX2_back_8 : decode cX2_back 8 = .ok (.invokestatic 61, 3) := dk_184 0 61 (dk_at dksX2_back_0 8 rfl rfl)
theorem dX2_back_11 : decode cX2_back 11 = .ok (.aload_n 0, 1) := dk_42 (dk_at dksX2_back_0 11 rfl rfl)
theorem dX2_back_12 : decode cX2_back 12 = .ok (.getfield 7, 3) := dk_180 0 7 (dk_at dksX2_back_0 12 rfl rfl)
theorem dX2_back_15 : decode cX2_back 15 = .ok (.bipush 8, 2) := dk_16 8 (dk_at dksX2_back_0 15 rfl rfl)
theorem dX2_back_17 : decode cX2_back 17 = .ok (.iaload, 1) := dk_46 (dk_at dksX2_back_0 17 rfl rfl)
theorem dX2_back_18 : decode cX2_back 18 = .ok (.ireturn, 1) := dk_172 (dk_at dksX2_back_0 18 rfl rfl)
abbrev cX2_about : ByteArray := prog_19_method_144_code
def yX2_about : MethodName := ⟨RX2, "about", "(I)I"⟩
def dkwX2_about_1 : List UInt8 := [42, 180, 0, 92, 167, 0, 5, 16, 254, 172]
abbrev dktX2_about_1 : List UInt8 := dkwX2_about_1 ++ []
def dkwX2_about_0 : List UInt8 := [27, 3, 8, 184, 0, 65, 153, 0, 12, 42, 180, 0, 7, 27, 46, 167, 0, 18, 27, 16, 6, 160, 0, 10]
abbrev dktX2_about_0 : List UInt8 := dkwX2_about_0 ++ dktX2_about_1
theorem dksX2_about_0 : cX2_about.data.toList.drop 0 = dktX2_about_0 := by decide +kernel
theorem dksX2_about_1 : cX2_about.data.toList.drop 24 = dktX2_about_1 := dk_seg dksX2_about_0 24 rfl rfl
theorem dX2_about_0 : decode cX2_about 0 = .ok (.iload_n 1, 1) := dk_27 (dk_at dksX2_about_0 0 rfl rfl)
theorem dX2_about_1 : decode cX2_about 1 = .ok (.iconst 0, 1) := dk_3 (dk_at dksX2_about_0 1 rfl rfl)
theorem dX2_about_2 : decode cX2_about 2 = .ok (.iconst 5, 1) := dk_8 (dk_at dksX2_about_0 2 rfl rfl)
theorem dX2_about_3 : decode cX2_about 3 = .ok (.invokestatic 65, 3) := dk_184 0 65 (dk_at dksX2_about_0 3 rfl rfl)
theorem dX2_about_6 : decode cX2_about 6 = .ok (.ifCond .eq 12, 3) := dk_153 0 12 (dk_at dksX2_about_0 6 rfl rfl)
theorem dX2_about_9 : decode cX2_about 9 = .ok (.aload_n 0, 1) := dk_42 (dk_at dksX2_about_0 9 rfl rfl)
theorem dX2_about_10 : decode cX2_about 10 = .ok (.getfield 7, 3) := dk_180 0 7 (dk_at dksX2_about_0 10 rfl rfl)
theorem dX2_about_13 : decode cX2_about 13 = .ok (.iload_n 1, 1) := dk_27 (dk_at dksX2_about_0 13 rfl rfl)
theorem dX2_about_14 : decode cX2_about 14 = .ok (.iaload, 1) := dk_46 (dk_at dksX2_about_0 14 rfl rfl)
theorem dX2_about_15 : decode cX2_about 15 = .ok (.goto 18, 3) := dk_167 0 18 (dk_at dksX2_about_0 15 rfl rfl)
theorem dX2_about_18 : decode cX2_about 18 = .ok (.iload_n 1, 1) := dk_27 (dk_at dksX2_about_0 18 rfl rfl)
theorem dX2_about_19 : decode cX2_about 19 = .ok (.bipush 6, 2) := dk_16 6 (dk_at dksX2_about_0 19 rfl rfl)
theorem dX2_about_21 : decode cX2_about 21 = .ok (.if_icmp .ne 10, 3) := dk_160 0 10 (dk_at dksX2_about_0 21 rfl rfl)
theorem dX2_about_24 : decode cX2_about 24 = .ok (.aload_n 0, 1) := dk_42 (dk_at dksX2_about_1 0 rfl rfl)
theorem dX2_about_25 : decode cX2_about 25 = .ok (.getfield 92, 3) := dk_180 0 92 (dk_at dksX2_about_1 1 rfl rfl)
theorem dX2_about_28 : decode cX2_about 28 = .ok (.goto 5, 3) := dk_167 0 5 (dk_at dksX2_about_1 4 rfl rfl)
theorem dX2_about_31 : decode cX2_about 31 = .ok (.bipush (-2), 2) := dk_16 254 (dk_at dksX2_about_1 7 rfl rfl)
theorem dX2_about_33 : decode cX2_about 33 = .ok (.ireturn, 1) := dk_172 (dk_at dksX2_about_1 9 rfl rfl)
theorem q141 : (Jvm.Cond.initialized "ShutDaysModel") ∈ lw_all := lw_g (lw_at lw_m1 4 rfl) rfl
theorem q694 : (Jvm.Cond.selects "ShutDaysModel" ({ cls := "java/lang/Object", name := "getClass", desc := "()Ljava/lang/Class;" } : Jvm.MethodName) ({ cls := "java/lang/Object", name := "getClass", desc := "()Ljava/lang/Class;" } : Jvm.MethodName)) ∈ lw_all := lw_g (lw_at lw_m3 77 rfl) rfl
theorem q1343 : (Jvm.Cond.instantiable "ShutDaysModel" (36 : Nat)) ∈ lw_all := lw_g (lw_at lw_m6 6 rfl) rfl
theorem q1345 : (Jvm.Cond.instanceMethod ({ cls := "ShutDaysModel", name := "<init>", desc := "()V" } : Jvm.MethodName)) ∈ lw_all := lw_g (lw_at lw_m6 8 rfl) rfl
theorem q1346 : (Jvm.Cond.code ({ cls := "ShutDaysModel", name := "<init>", desc := "()V" } : Jvm.MethodName) prog_19_method_1_code (1 : Nat) (Option.none : Option Jvm.ClassFile.FieldType)) ∈ lw_all := lw_g (lw_at lw_m6 9 rfl) rfl
theorem q1347 : (Jvm.Cond.methodLink "ShutDaysModel" (1 : Nat) ({ cls := "java/lang/Object", name := "<init>", desc := "()V" } : Jvm.MethodName)) ∈ lw_all := lw_g (lw_at lw_m6 10 rfl) rfl
theorem q1348 : (Jvm.Cond.methodLink "ShutDaysModel" (61 : Nat) ({ cls := "ShutDaysModel", name := "copy", desc := "([I[I)V" } : Jvm.MethodName)) ∈ lw_all := lw_g (lw_at lw_m6 11 rfl) rfl
theorem q1349 : (Jvm.Cond.static ({ cls := "ShutDaysModel", name := "copy", desc := "([I[I)V" } : Jvm.MethodName)) ∈ lw_all := lw_g (lw_at lw_m6 12 rfl) rfl
theorem q1350 : (Jvm.Cond.code ({ cls := "ShutDaysModel", name := "copy", desc := "([I[I)V" } : Jvm.MethodName) prog_19_method_2_code (3 : Nat) (Option.none : Option Jvm.ClassFile.FieldType)) ∈ lw_all := lw_g (lw_at lw_m6 13 rfl) rfl
theorem q1351 : (Jvm.Cond.fieldLink "ShutDaysModel" (7 : Nat) "ShutDaysModel" "a" "[I") ∈ lw_all := lw_g (lw_at lw_m6 14 rfl) rfl
theorem q1352 : (Jvm.Cond.fieldLink "ShutDaysModel" (13 : Nat) "ShutDaysModel" "image" "[I") ∈ lw_all := lw_g (lw_at lw_m6 15 rfl) rfl
theorem q1353 : (Jvm.Cond.fieldLink "ShutDaysModel" (16 : Nat) "ShutDaysModel" "texts" "[I") ∈ lw_all := lw_g (lw_at lw_m6 16 rfl) rfl
theorem q1354 : (Jvm.Cond.fieldLink "ShutDaysModel" (19 : Nat) "ShutDaysModel" "tape" "[I") ∈ lw_all := lw_g (lw_at lw_m6 17 rfl) rfl
theorem q1355 : (Jvm.Cond.fieldLink "ShutDaysModel" (92 : Nat) "ShutDaysModel" "taped" "I") ∈ lw_all := lw_g (lw_at lw_m6 18 rfl) rfl
theorem q1356 : (Jvm.Cond.fieldLink "ShutDaysModel" (22 : Nat) "ShutDaysModel" "fault" "I") ∈ lw_all := lw_g (lw_at lw_m6 19 rfl) rfl
theorem q1357 : (Jvm.Cond.fieldLink "ShutDaysModel" (26 : Nat) "ShutDaysModel" "faultPlace" "I") ∈ lw_all := lw_g (lw_at lw_m6 20 rfl) rfl
theorem q1358 : (Jvm.Cond.fieldLink "ShutDaysModel" (98 : Nat) "ShutDaysModel" "at" "I") ∈ lw_all := lw_g (lw_at lw_m6 21 rfl) rfl
theorem q1359 : (Jvm.Cond.fieldLink "ShutDaysModel" (105 : Nat) "ShutDaysModel" "place" "I") ∈ lw_all := lw_g (lw_at lw_m6 22 rfl) rfl
theorem q1360 : (Jvm.Cond.fieldLink "ShutDaysModel" (108 : Nat) "ShutDaysModel" "token" "I") ∈ lw_all := lw_g (lw_at lw_m6 23 rfl) rfl
theorem q1361 : (Jvm.Cond.fieldLink "ShutDaysModel" (114 : Nat) "ShutDaysModel" "number" "I") ∈ lw_all := lw_g (lw_at lw_m6 24 rfl) rfl
theorem q1362 : (Jvm.Cond.fieldLink "ShutDaysModel" (121 : Nat) "ShutDaysModel" "word" "J") ∈ lw_all := lw_g (lw_at lw_m6 25 rfl) rfl
theorem q1363 : (Jvm.Cond.fieldLink "ShutDaysModel" (146 : Nat) "ShutDaysModel" "text0" "I") ∈ lw_all := lw_g (lw_at lw_m6 26 rfl) rfl
theorem q1364 : (Jvm.Cond.fieldLink "ShutDaysModel" (149 : Nat) "ShutDaysModel" "written" "I") ∈ lw_all := lw_g (lw_at lw_m6 27 rfl) rfl
theorem q1365 : (Jvm.Cond.fieldLink "ShutDaysModel" (191 : Nat) "ShutDaysModel" "sort0" "I") ∈ lw_all := lw_g (lw_at lw_m6 28 rfl) rfl
theorem q1366 : (Jvm.Cond.fieldLink "ShutDaysModel" (29 : Nat) "ShutDaysModel" "pile" "[I") ∈ lw_all := lw_g (lw_at lw_m6 29 rfl) rfl
theorem q1367 : (Jvm.Cond.fieldLink "ShutDaysModel" (164 : Nat) "ShutDaysModel" "piled" "I") ∈ lw_all := lw_g (lw_at lw_m6 30 rfl) rfl
theorem q1368 : (Jvm.Cond.fieldLink "ShutDaysModel" (174 : Nat) "ShutDaysModel" "opens" "I") ∈ lw_all := lw_g (lw_at lw_m6 31 rfl) rfl
theorem q1369 : (Jvm.Cond.fieldLink "ShutDaysModel" (210 : Nat) "ShutDaysModel" "isWhole" "Z") ∈ lw_all := lw_g (lw_at lw_m6 32 rfl) rfl
theorem q1370 : (Jvm.Cond.fieldLink "ShutDaysModel" (177 : Nat) "ShutDaysModel" "isEither" "Z") ∈ lw_all := lw_g (lw_at lw_m6 33 rfl) rfl
theorem q1371 : (Jvm.Cond.fieldLink "ShutDaysModel" (250 : Nat) "ShutDaysModel" "once" "I") ∈ lw_all := lw_g (lw_at lw_m6 34 rfl) rfl
theorem q1372 : (Jvm.Cond.fieldLink "ShutDaysModel" (32 : Nat) "ShutDaysModel" "named" "[I") ∈ lw_all := lw_g (lw_at lw_m6 35 rfl) rfl
theorem q1373 : (Jvm.Cond.fieldLink "ShutDaysModel" (35 : Nat) "ShutDaysModel" "values" "[J") ∈ lw_all := lw_g (lw_at lw_m6 36 rfl) rfl
theorem q1374 : (Jvm.Cond.fieldLink "ShutDaysModel" (39 : Nat) "ShutDaysModel" "truth" "[Z") ∈ lw_all := lw_g (lw_at lw_m6 37 rfl) rfl
theorem q1375 : (Jvm.Cond.fieldLink "ShutDaysModel" (43 : Nat) "ShutDaysModel" "aside" "[I") ∈ lw_all := lw_g (lw_at lw_m6 38 rfl) rfl
theorem q1376 : (Jvm.Cond.fieldLink "ShutDaysModel" (411 : Nat) "ShutDaysModel" "wasShut" "I") ∈ lw_all := lw_g (lw_at lw_m6 39 rfl) rfl
theorem q1377 : (Jvm.Cond.fieldLink "ShutDaysModel" (414 : Nat) "ShutDaysModel" "wasOpen" "I") ∈ lw_all := lw_g (lw_at lw_m6 40 rfl) rfl
theorem q1378 : (Jvm.Cond.fieldLink "ShutDaysModel" (417 : Nat) "ShutDaysModel" "sets" "I") ∈ lw_all := lw_g (lw_at lw_m6 41 rfl) rfl
theorem q1379 : (Jvm.Cond.fieldLink "ShutDaysModel" (420 : Nat) "ShutDaysModel" "inAll" "I") ∈ lw_all := lw_g (lw_at lw_m6 42 rfl) rfl
theorem q1380 : (Jvm.Cond.fieldLink "ShutDaysModel" (46 : Nat) "ShutDaysModel" "with" "[I") ∈ lw_all := lw_g (lw_at lw_m6 43 rfl) rfl
theorem q1381 : (Jvm.Cond.fieldLink "ShutDaysModel" (437 : Nat) "ShutDaysModel" "mostStolen" "I") ∈ lw_all := lw_g (lw_at lw_m6 44 rfl) rfl
theorem q1382 : (Jvm.Cond.fieldLink "ShutDaysModel" (440 : Nat) "ShutDaysModel" "firstStolen" "I") ∈ lw_all := lw_g (lw_at lw_m6 45 rfl) rfl
theorem q1383 : (Jvm.Cond.fieldLink "ShutDaysModel" (49 : Nat) "ShutDaysModel" "member" "[I") ∈ lw_all := lw_g (lw_at lw_m6 46 rfl) rfl
theorem q1384 : (Jvm.Cond.fieldLink "ShutDaysModel" (52 : Nat) "ShutDaysModel" "dayOf" "[I") ∈ lw_all := lw_g (lw_at lw_m6 47 rfl) rfl
theorem q1385 : (Jvm.Cond.fieldLink "ShutDaysModel" (55 : Nat) "ShutDaysModel" "mate" "[I") ∈ lw_all := lw_g (lw_at lw_m6 48 rfl) rfl
theorem q1386 : (Jvm.Cond.fieldLink "ShutDaysModel" (58 : Nat) "ShutDaysModel" "bestMate" "[I") ∈ lw_all := lw_g (lw_at lw_m6 49 rfl) rfl
theorem q1387 : (Jvm.Cond.laysFinal "ShutDaysModel" "ShutDaysModel" "a" "[I") ∈ lw_all := lw_g (lw_at lw_m6 50 rfl) rfl
theorem q1388 : (Jvm.Cond.soleField "ShutDaysModel" "a") ∈ lw_all := lw_g (lw_at lw_m6 51 rfl) rfl
theorem q1389 : (Jvm.Cond.laysFinal "ShutDaysModel" "ShutDaysModel" "image" "[I") ∈ lw_all := lw_g (lw_at lw_m6 52 rfl) rfl
theorem q1390 : (Jvm.Cond.soleField "ShutDaysModel" "image") ∈ lw_all := lw_g (lw_at lw_m6 53 rfl) rfl
theorem q1391 : (Jvm.Cond.laysFinal "ShutDaysModel" "ShutDaysModel" "texts" "[I") ∈ lw_all := lw_g (lw_at lw_m6 54 rfl) rfl
theorem q1392 : (Jvm.Cond.soleField "ShutDaysModel" "texts") ∈ lw_all := lw_g (lw_at lw_m6 55 rfl) rfl
theorem q1393 : (Jvm.Cond.laysFinal "ShutDaysModel" "ShutDaysModel" "tape" "[I") ∈ lw_all := lw_g (lw_at lw_m6 56 rfl) rfl
theorem q1394 : (Jvm.Cond.soleField "ShutDaysModel" "tape") ∈ lw_all := lw_g (lw_at lw_m6 57 rfl) rfl
theorem q1395 : (Jvm.Cond.lays "ShutDaysModel" "ShutDaysModel" "taped" "I") ∈ lw_all := lw_g (lw_at lw_m6 58 rfl) rfl
theorem q1396 : (Jvm.Cond.soleField "ShutDaysModel" "taped") ∈ lw_all := lw_g (lw_at lw_m6 59 rfl) rfl
theorem q1397 : (Jvm.Cond.lays "ShutDaysModel" "ShutDaysModel" "fault" "I") ∈ lw_all := lw_g (lw_at lw_m6 60 rfl) rfl
theorem q1398 : (Jvm.Cond.soleField "ShutDaysModel" "fault") ∈ lw_all := lw_g (lw_at lw_m6 61 rfl) rfl
theorem q1399 : (Jvm.Cond.lays "ShutDaysModel" "ShutDaysModel" "faultPlace" "I") ∈ lw_all := lw_g (lw_at lw_m6 62 rfl) rfl
theorem q1400 : (Jvm.Cond.soleField "ShutDaysModel" "faultPlace") ∈ lw_all := lw_g (lw_at lw_m6 63 rfl) rfl
theorem q1401 : (Jvm.Cond.lays "ShutDaysModel" "ShutDaysModel" "at" "I") ∈ lw_all := lw_g (lw_at lw_m6 64 rfl) rfl
theorem q1402 : (Jvm.Cond.soleField "ShutDaysModel" "at") ∈ lw_all := lw_g (lw_at lw_m6 65 rfl) rfl
theorem q1403 : (Jvm.Cond.lays "ShutDaysModel" "ShutDaysModel" "place" "I") ∈ lw_all := lw_g (lw_at lw_m6 66 rfl) rfl
theorem q1404 : (Jvm.Cond.soleField "ShutDaysModel" "place") ∈ lw_all := lw_g (lw_at lw_m6 67 rfl) rfl
theorem q1405 : (Jvm.Cond.lays "ShutDaysModel" "ShutDaysModel" "token" "I") ∈ lw_all := lw_g (lw_at lw_m6 68 rfl) rfl
theorem q1406 : (Jvm.Cond.soleField "ShutDaysModel" "token") ∈ lw_all := lw_g (lw_at lw_m6 69 rfl) rfl
theorem q1407 : (Jvm.Cond.lays "ShutDaysModel" "ShutDaysModel" "number" "I") ∈ lw_all := lw_g (lw_at lw_m6 70 rfl) rfl
theorem q1408 : (Jvm.Cond.soleField "ShutDaysModel" "number") ∈ lw_all := lw_g (lw_at lw_m6 71 rfl) rfl
theorem q1409 : (Jvm.Cond.lays "ShutDaysModel" "ShutDaysModel" "word" "J") ∈ lw_all := lw_g (lw_at lw_m6 72 rfl) rfl
theorem q1410 : (Jvm.Cond.soleField "ShutDaysModel" "word") ∈ lw_all := lw_g (lw_at lw_m6 73 rfl) rfl
theorem q1411 : (Jvm.Cond.lays "ShutDaysModel" "ShutDaysModel" "text0" "I") ∈ lw_all := lw_g (lw_at lw_m6 74 rfl) rfl
theorem q1412 : (Jvm.Cond.soleField "ShutDaysModel" "text0") ∈ lw_all := lw_g (lw_at lw_m6 75 rfl) rfl
theorem q1413 : (Jvm.Cond.lays "ShutDaysModel" "ShutDaysModel" "written" "I") ∈ lw_all := lw_g (lw_at lw_m6 76 rfl) rfl
theorem q1414 : (Jvm.Cond.soleField "ShutDaysModel" "written") ∈ lw_all := lw_g (lw_at lw_m6 77 rfl) rfl
theorem q1415 : (Jvm.Cond.lays "ShutDaysModel" "ShutDaysModel" "sort0" "I") ∈ lw_all := lw_g (lw_at lw_m6 78 rfl) rfl
theorem q1416 : (Jvm.Cond.soleField "ShutDaysModel" "sort0") ∈ lw_all := lw_g (lw_at lw_m6 79 rfl) rfl
theorem q1417 : (Jvm.Cond.laysFinal "ShutDaysModel" "ShutDaysModel" "pile" "[I") ∈ lw_all := lw_g (lw_at lw_m6 80 rfl) rfl
theorem q1418 : (Jvm.Cond.soleField "ShutDaysModel" "pile") ∈ lw_all := lw_g (lw_at lw_m6 81 rfl) rfl
theorem q1419 : (Jvm.Cond.lays "ShutDaysModel" "ShutDaysModel" "piled" "I") ∈ lw_all := lw_g (lw_at lw_m6 82 rfl) rfl
theorem q1420 : (Jvm.Cond.soleField "ShutDaysModel" "piled") ∈ lw_all := lw_g (lw_at lw_m6 83 rfl) rfl
theorem q1421 : (Jvm.Cond.lays "ShutDaysModel" "ShutDaysModel" "opens" "I") ∈ lw_all := lw_g (lw_at lw_m6 84 rfl) rfl
theorem q1422 : (Jvm.Cond.soleField "ShutDaysModel" "opens") ∈ lw_all := lw_g (lw_at lw_m6 85 rfl) rfl
theorem q1423 : (Jvm.Cond.lays "ShutDaysModel" "ShutDaysModel" "isWhole" "Z") ∈ lw_all := lw_g (lw_at lw_m6 86 rfl) rfl
theorem q1424 : (Jvm.Cond.soleField "ShutDaysModel" "isWhole") ∈ lw_all := lw_g (lw_at lw_m6 87 rfl) rfl
theorem q1425 : (Jvm.Cond.lays "ShutDaysModel" "ShutDaysModel" "isEither" "Z") ∈ lw_all := lw_g (lw_at lw_m6 88 rfl) rfl
theorem q1426 : (Jvm.Cond.soleField "ShutDaysModel" "isEither") ∈ lw_all := lw_g (lw_at lw_m6 89 rfl) rfl
theorem q1427 : (Jvm.Cond.lays "ShutDaysModel" "ShutDaysModel" "once" "I") ∈ lw_all := lw_g (lw_at lw_m6 90 rfl) rfl
theorem q1428 : (Jvm.Cond.soleField "ShutDaysModel" "once") ∈ lw_all := lw_g (lw_at lw_m6 91 rfl) rfl
theorem q1429 : (Jvm.Cond.laysFinal "ShutDaysModel" "ShutDaysModel" "named" "[I") ∈ lw_all := lw_g (lw_at lw_m6 92 rfl) rfl
theorem q1430 : (Jvm.Cond.soleField "ShutDaysModel" "named") ∈ lw_all := lw_g (lw_at lw_m6 93 rfl) rfl
theorem q1431 : (Jvm.Cond.laysFinal "ShutDaysModel" "ShutDaysModel" "values" "[J") ∈ lw_all := lw_g (lw_at lw_m6 94 rfl) rfl
theorem q1432 : (Jvm.Cond.soleField "ShutDaysModel" "values") ∈ lw_all := lw_g (lw_at lw_m6 95 rfl) rfl
theorem q1433 : (Jvm.Cond.laysFinal "ShutDaysModel" "ShutDaysModel" "truth" "[Z") ∈ lw_all := lw_g (lw_at lw_m6 96 rfl) rfl
theorem q1434 : (Jvm.Cond.soleField "ShutDaysModel" "truth") ∈ lw_all := lw_g (lw_at lw_m6 97 rfl) rfl
theorem q1435 : (Jvm.Cond.laysFinal "ShutDaysModel" "ShutDaysModel" "aside" "[I") ∈ lw_all := lw_g (lw_at lw_m6 98 rfl) rfl
theorem q1436 : (Jvm.Cond.soleField "ShutDaysModel" "aside") ∈ lw_all := lw_g (lw_at lw_m6 99 rfl) rfl
theorem q1437 : (Jvm.Cond.lays "ShutDaysModel" "ShutDaysModel" "wasShut" "I") ∈ lw_all := lw_g (lw_at lw_m6 100 rfl) rfl
theorem q1438 : (Jvm.Cond.soleField "ShutDaysModel" "wasShut") ∈ lw_all := lw_g (lw_at lw_m6 101 rfl) rfl
theorem q1439 : (Jvm.Cond.lays "ShutDaysModel" "ShutDaysModel" "wasOpen" "I") ∈ lw_all := lw_g (lw_at lw_m6 102 rfl) rfl
theorem q1440 : (Jvm.Cond.soleField "ShutDaysModel" "wasOpen") ∈ lw_all := lw_g (lw_at lw_m6 103 rfl) rfl
theorem q1441 : (Jvm.Cond.lays "ShutDaysModel" "ShutDaysModel" "sets" "I") ∈ lw_all := lw_g (lw_at lw_m6 104 rfl) rfl
theorem q1442 : (Jvm.Cond.soleField "ShutDaysModel" "sets") ∈ lw_all := lw_g (lw_at lw_m6 105 rfl) rfl
theorem q1443 : (Jvm.Cond.lays "ShutDaysModel" "ShutDaysModel" "inAll" "I") ∈ lw_all := lw_g (lw_at lw_m6 106 rfl) rfl
theorem q1444 : (Jvm.Cond.soleField "ShutDaysModel" "inAll") ∈ lw_all := lw_g (lw_at lw_m6 107 rfl) rfl
theorem q1445 : (Jvm.Cond.laysFinal "ShutDaysModel" "ShutDaysModel" "with" "[I") ∈ lw_all := lw_g (lw_at lw_m6 108 rfl) rfl
theorem q1446 : (Jvm.Cond.soleField "ShutDaysModel" "with") ∈ lw_all := lw_g (lw_at lw_m6 109 rfl) rfl
theorem q1447 : (Jvm.Cond.lays "ShutDaysModel" "ShutDaysModel" "mostStolen" "I") ∈ lw_all := lw_g (lw_at lw_m6 110 rfl) rfl
theorem q1448 : (Jvm.Cond.soleField "ShutDaysModel" "mostStolen") ∈ lw_all := lw_g (lw_at lw_m6 111 rfl) rfl
theorem q1449 : (Jvm.Cond.lays "ShutDaysModel" "ShutDaysModel" "firstStolen" "I") ∈ lw_all := lw_g (lw_at lw_m6 112 rfl) rfl
theorem q1450 : (Jvm.Cond.soleField "ShutDaysModel" "firstStolen") ∈ lw_all := lw_g (lw_at lw_m6 113 rfl) rfl
theorem q1451 : (Jvm.Cond.laysFinal "ShutDaysModel" "ShutDaysModel" "member" "[I") ∈ lw_all := lw_g (lw_at lw_m6 114 rfl) rfl
theorem q1452 : (Jvm.Cond.soleField "ShutDaysModel" "member") ∈ lw_all := lw_g (lw_at lw_m6 115 rfl) rfl
theorem q1453 : (Jvm.Cond.laysFinal "ShutDaysModel" "ShutDaysModel" "dayOf" "[I") ∈ lw_all := lw_g (lw_at lw_m6 116 rfl) rfl
theorem q1454 : (Jvm.Cond.soleField "ShutDaysModel" "dayOf") ∈ lw_all := lw_g (lw_at lw_m6 117 rfl) rfl
theorem q1455 : (Jvm.Cond.laysFinal "ShutDaysModel" "ShutDaysModel" "mate" "[I") ∈ lw_all := lw_g (lw_at lw_m6 118 rfl) rfl
theorem q1456 : (Jvm.Cond.soleField "ShutDaysModel" "mate") ∈ lw_all := lw_g (lw_at lw_m6 119 rfl) rfl
theorem q1457 : (Jvm.Cond.laysFinal "ShutDaysModel" "ShutDaysModel" "bestMate" "[I") ∈ lw_all := lw_g (lw_at lw_m6 120 rfl) rfl
theorem q1458 : (Jvm.Cond.soleField "ShutDaysModel" "bestMate") ∈ lw_all := lw_g (lw_at lw_m6 121 rfl) rfl
theorem q1459 : (Jvm.Cond.superclass "ShutDaysModel" "java/lang/Object") ∈ lw_all := lw_g (lw_at lw_m6 122 rfl) rfl
theorem q1463 : (Jvm.Cond.instanceMethod ({ cls := "ShutDaysModel", name := "house", desc := "(IIIII)I" } : Jvm.MethodName)) ∈ lw_all := lw_g (lw_at lw_m6 126 rfl) rfl
theorem q1464 : (Jvm.Cond.selects "ShutDaysModel" ({ cls := "ShutDaysModel", name := "house", desc := "(IIIII)I" } : Jvm.MethodName) ({ cls := "ShutDaysModel", name := "house", desc := "(IIIII)I" } : Jvm.MethodName)) ∈ lw_all := lw_g (lw_at lw_m6 127 rfl) rfl
theorem q1465 : (Jvm.Cond.code ({ cls := "ShutDaysModel", name := "house", desc := "(IIIII)I" } : Jvm.MethodName) prog_19_method_13_code (7 : Nat) (Option.some Jvm.ClassFile.FieldType.int)) ∈ lw_all := lw_g (lw_at lw_m6 128 rfl) rfl
theorem q1466 : (Jvm.Cond.methodLink "ShutDaysModel" (65 : Nat) ({ cls := "ShutDaysModel", name := "isIn", desc := "(III)Z" } : Jvm.MethodName)) ∈ lw_all := lw_g (lw_at lw_m6 129 rfl) rfl
theorem q1467 : (Jvm.Cond.static ({ cls := "ShutDaysModel", name := "isIn", desc := "(III)Z" } : Jvm.MethodName)) ∈ lw_all := lw_g (lw_at lw_m6 130 rfl) rfl
theorem q1468 : (Jvm.Cond.code ({ cls := "ShutDaysModel", name := "isIn", desc := "(III)Z" } : Jvm.MethodName) prog_19_method_3_code (3 : Nat) (Option.some Jvm.ClassFile.FieldType.boolean)) ∈ lw_all := lw_g (lw_at lw_m6 131 rfl) rfl
theorem q1469 : (Jvm.Cond.methodLink "ShutDaysModel" (84 : Nat) ({ cls := "ShutDaysModel", name := "put", desc := "(III)V" } : Jvm.MethodName)) ∈ lw_all := lw_g (lw_at lw_m6 132 rfl) rfl
theorem q1470 : (Jvm.Cond.privateMethod ({ cls := "ShutDaysModel", name := "put", desc := "(III)V" } : Jvm.MethodName)) ∈ lw_tbl := lw_at lw_m6 133 rfl
theorem q1471 : (Jvm.Cond.instanceMethod ({ cls := "ShutDaysModel", name := "put", desc := "(III)V" } : Jvm.MethodName)) ∈ lw_all := lw_g (lw_at lw_m6 134 rfl) rfl
theorem q1472 : (Jvm.Cond.code ({ cls := "ShutDaysModel", name := "put", desc := "(III)V" } : Jvm.MethodName) prog_19_method_9_code (4 : Nat) (Option.none : Option Jvm.ClassFile.FieldType)) ∈ lw_all := lw_g (lw_at lw_m6 135 rfl) rfl
theorem q1473 : (Jvm.Cond.methodLink "ShutDaysModel" (88 : Nat) ({ cls := "ShutDaysModel", name := "begin", desc := "(I)V" } : Jvm.MethodName)) ∈ lw_all := lw_g (lw_at lw_m6 136 rfl) rfl
theorem q1474 : (Jvm.Cond.privateMethod ({ cls := "ShutDaysModel", name := "begin", desc := "(I)V" } : Jvm.MethodName)) ∈ lw_tbl := lw_at lw_m6 137 rfl
theorem q1475 : (Jvm.Cond.instanceMethod ({ cls := "ShutDaysModel", name := "begin", desc := "(I)V" } : Jvm.MethodName)) ∈ lw_all := lw_g (lw_at lw_m6 138 rfl) rfl
theorem q1476 : (Jvm.Cond.code ({ cls := "ShutDaysModel", name := "begin", desc := "(I)V" } : Jvm.MethodName) prog_19_method_14_code (3 : Nat) (Option.none : Option Jvm.ClassFile.FieldType)) ∈ lw_all := lw_g (lw_at lw_m6 139 rfl) rfl
theorem q1477 : (Jvm.Cond.methodLink "ShutDaysModel" (73 : Nat) ({ cls := "ShutDaysModel", name := "get", desc := "(II)I" } : Jvm.MethodName)) ∈ lw_all := lw_g (lw_at lw_m6 140 rfl) rfl
theorem q1478 : (Jvm.Cond.privateMethod ({ cls := "ShutDaysModel", name := "get", desc := "(II)I" } : Jvm.MethodName)) ∈ lw_tbl := lw_at lw_m6 141 rfl
theorem q1479 : (Jvm.Cond.instanceMethod ({ cls := "ShutDaysModel", name := "get", desc := "(II)I" } : Jvm.MethodName)) ∈ lw_all := lw_g (lw_at lw_m6 142 rfl) rfl
theorem q1480 : (Jvm.Cond.code ({ cls := "ShutDaysModel", name := "get", desc := "(II)I" } : Jvm.MethodName) prog_19_method_8_code (3 : Nat) (Option.some Jvm.ClassFile.FieldType.int)) ∈ lw_all := lw_g (lw_at lw_m6 143 rfl) rfl
theorem q1482 : (Jvm.Cond.instanceMethod ({ cls := "ShutDaysModel", name := "feed", desc := "(IIIII)I" } : Jvm.MethodName)) ∈ lw_all := lw_g (lw_at lw_m6 145 rfl) rfl
theorem q1483 : (Jvm.Cond.selects "ShutDaysModel" ({ cls := "ShutDaysModel", name := "feed", desc := "(IIIII)I" } : Jvm.MethodName) ({ cls := "ShutDaysModel", name := "feed", desc := "(IIIII)I" } : Jvm.MethodName)) ∈ lw_all := lw_g (lw_at lw_m6 146 rfl) rfl
theorem q1484 : (Jvm.Cond.code ({ cls := "ShutDaysModel", name := "feed", desc := "(IIIII)I" } : Jvm.MethodName) prog_19_method_16_code (6 : Nat) (Option.some Jvm.ClassFile.FieldType.int)) ∈ lw_all := lw_g (lw_at lw_m6 147 rfl) rfl
theorem q1485 : (Jvm.Cond.methodLink "ShutDaysModel" (95 : Nat) ({ cls := "ShutDaysModel", name := "four", desc := "(I)V" } : Jvm.MethodName)) ∈ lw_all := lw_g (lw_at lw_m6 148 rfl) rfl
theorem q1486 : (Jvm.Cond.privateMethod ({ cls := "ShutDaysModel", name := "four", desc := "(I)V" } : Jvm.MethodName)) ∈ lw_tbl := lw_at lw_m6 149 rfl
theorem q1487 : (Jvm.Cond.instanceMethod ({ cls := "ShutDaysModel", name := "four", desc := "(I)V" } : Jvm.MethodName)) ∈ lw_all := lw_g (lw_at lw_m6 150 rfl) rfl
theorem q1488 : (Jvm.Cond.code ({ cls := "ShutDaysModel", name := "four", desc := "(I)V" } : Jvm.MethodName) prog_19_method_15_code (3 : Nat) (Option.none : Option Jvm.ClassFile.FieldType)) ∈ lw_all := lw_g (lw_at lw_m6 151 rfl) rfl
theorem q1490 : (Jvm.Cond.instanceMethod ({ cls := "ShutDaysModel", name := "end", desc := "(I)I" } : Jvm.MethodName)) ∈ lw_all := lw_g (lw_at lw_m6 153 rfl) rfl
theorem q1491 : (Jvm.Cond.selects "ShutDaysModel" ({ cls := "ShutDaysModel", name := "end", desc := "(I)I" } : Jvm.MethodName) ({ cls := "ShutDaysModel", name := "end", desc := "(I)I" } : Jvm.MethodName)) ∈ lw_all := lw_g (lw_at lw_m6 154 rfl) rfl
theorem q1492 : (Jvm.Cond.code ({ cls := "ShutDaysModel", name := "end", desc := "(I)I" } : Jvm.MethodName) prog_19_method_17_code (2 : Nat) (Option.some Jvm.ClassFile.FieldType.int)) ∈ lw_all := lw_g (lw_at lw_m6 155 rfl) rfl
theorem q1494 : (Jvm.Cond.instanceMethod ({ cls := "ShutDaysModel", name := "text", desc := "()I" } : Jvm.MethodName)) ∈ lw_all := lw_g (lw_at lw_m6 157 rfl) rfl
theorem q1495 : (Jvm.Cond.selects "ShutDaysModel" ({ cls := "ShutDaysModel", name := "text", desc := "()I" } : Jvm.MethodName) ({ cls := "ShutDaysModel", name := "text", desc := "()I" } : Jvm.MethodName)) ∈ lw_all := lw_g (lw_at lw_m6 158 rfl) rfl
theorem q1496 : (Jvm.Cond.code ({ cls := "ShutDaysModel", name := "text", desc := "()I" } : Jvm.MethodName) prog_19_method_53_code (1 : Nat) (Option.some Jvm.ClassFile.FieldType.int)) ∈ lw_all := lw_g (lw_at lw_m6 159 rfl) rfl
theorem q1497 : (Jvm.Cond.methodLink "ShutDaysModel" (259 : Nat) ({ cls := "ShutDaysModel", name := "readText", desc := "()I" } : Jvm.MethodName)) ∈ lw_all := lw_g (lw_at lw_m6 160 rfl) rfl
theorem q1498 : (Jvm.Cond.privateMethod ({ cls := "ShutDaysModel", name := "readText", desc := "()I" } : Jvm.MethodName)) ∈ lw_tbl := lw_at lw_m6 161 rfl
theorem q1499 : (Jvm.Cond.instanceMethod ({ cls := "ShutDaysModel", name := "readText", desc := "()I" } : Jvm.MethodName)) ∈ lw_all := lw_g (lw_at lw_m6 162 rfl) rfl
theorem q1500 : (Jvm.Cond.code ({ cls := "ShutDaysModel", name := "readText", desc := "()I" } : Jvm.MethodName) prog_19_method_52_code (2 : Nat) (Option.some Jvm.ClassFile.FieldType.int)) ∈ lw_all := lw_g (lw_at lw_m6 163 rfl) rfl
theorem q1501 : (Jvm.Cond.methodLink "ShutDaysModel" (184 : Nat) ({ cls := "ShutDaysModel", name := "nextToken", desc := "()V" } : Jvm.MethodName)) ∈ lw_all := lw_g (lw_at lw_m6 164 rfl) rfl
theorem q1502 : (Jvm.Cond.privateMethod ({ cls := "ShutDaysModel", name := "nextToken", desc := "()V" } : Jvm.MethodName)) ∈ lw_tbl := lw_at lw_m6 165 rfl
theorem q1503 : (Jvm.Cond.instanceMethod ({ cls := "ShutDaysModel", name := "nextToken", desc := "()V" } : Jvm.MethodName)) ∈ lw_all := lw_g (lw_at lw_m6 166 rfl) rfl
theorem q1504 : (Jvm.Cond.code ({ cls := "ShutDaysModel", name := "nextToken", desc := "()V" } : Jvm.MethodName) prog_19_method_22_code (2 : Nat) (Option.none : Option Jvm.ClassFile.FieldType)) ∈ lw_all := lw_g (lw_at lw_m6 167 rfl) rfl
theorem q1505 : (Jvm.Cond.methodLink "ShutDaysModel" (101 : Nat) ({ cls := "ShutDaysModel", name := "byteAt", desc := "(I)I" } : Jvm.MethodName)) ∈ lw_all := lw_g (lw_at lw_m6 168 rfl) rfl
theorem q1506 : (Jvm.Cond.privateMethod ({ cls := "ShutDaysModel", name := "byteAt", desc := "(I)I" } : Jvm.MethodName)) ∈ lw_tbl := lw_at lw_m6 169 rfl
theorem q1507 : (Jvm.Cond.instanceMethod ({ cls := "ShutDaysModel", name := "byteAt", desc := "(I)I" } : Jvm.MethodName)) ∈ lw_all := lw_g (lw_at lw_m6 170 rfl) rfl
theorem q1508 : (Jvm.Cond.code ({ cls := "ShutDaysModel", name := "byteAt", desc := "(I)I" } : Jvm.MethodName) prog_19_method_18_code (2 : Nat) (Option.some Jvm.ClassFile.FieldType.int)) ∈ lw_all := lw_g (lw_at lw_m6 171 rfl) rfl
theorem q1509 : (Jvm.Cond.methodLink "ShutDaysModel" (111 : Nat) ({ cls := "ShutDaysModel", name := "isFigure", desc := "(I)Z" } : Jvm.MethodName)) ∈ lw_all := lw_g (lw_at lw_m6 172 rfl) rfl
theorem q1510 : (Jvm.Cond.static ({ cls := "ShutDaysModel", name := "isFigure", desc := "(I)Z" } : Jvm.MethodName)) ∈ lw_all := lw_g (lw_at lw_m6 173 rfl) rfl
theorem q1511 : (Jvm.Cond.code ({ cls := "ShutDaysModel", name := "isFigure", desc := "(I)Z" } : Jvm.MethodName) prog_19_method_20_code (1 : Nat) (Option.some Jvm.ClassFile.FieldType.boolean)) ∈ lw_all := lw_g (lw_at lw_m6 174 rfl) rfl
theorem q1512 : (Jvm.Cond.constant "ShutDaysModel" (117 : Nat) (99999 : Int32)) ∈ lw_all := lw_g (lw_at lw_m6 175 rfl) rfl
theorem q1513 : (Jvm.Cond.methodLink "ShutDaysModel" (118 : Nat) ({ cls := "ShutDaysModel", name := "isLetterByte", desc := "(I)Z" } : Jvm.MethodName)) ∈ lw_all := lw_g (lw_at lw_m6 176 rfl) rfl
theorem q1514 : (Jvm.Cond.static ({ cls := "ShutDaysModel", name := "isLetterByte", desc := "(I)Z" } : Jvm.MethodName)) ∈ lw_all := lw_g (lw_at lw_m6 177 rfl) rfl
theorem q1515 : (Jvm.Cond.code ({ cls := "ShutDaysModel", name := "isLetterByte", desc := "(I)Z" } : Jvm.MethodName) prog_19_method_19_code (1 : Nat) (Option.some Jvm.ClassFile.FieldType.boolean)) ∈ lw_all := lw_g (lw_at lw_m6 178 rfl) rfl
theorem q1516 : (Jvm.Cond.constantLong "ShutDaysModel" (125 : Nat) (1152921504606846976 : Int64)) ∈ lw_all := lw_g (lw_at lw_m6 179 rfl) rfl
theorem q1517 : (Jvm.Cond.methodLink "ShutDaysModel" (127 : Nat) ({ cls := "ShutDaysModel", name := "isSign", desc := "(I)Z" } : Jvm.MethodName)) ∈ lw_all := lw_g (lw_at lw_m6 180 rfl) rfl
theorem q1518 : (Jvm.Cond.static ({ cls := "ShutDaysModel", name := "isSign", desc := "(I)Z" } : Jvm.MethodName)) ∈ lw_all := lw_g (lw_at lw_m6 181 rfl) rfl
theorem q1519 : (Jvm.Cond.code ({ cls := "ShutDaysModel", name := "isSign", desc := "(I)Z" } : Jvm.MethodName) prog_19_method_21_code (1 : Nat) (Option.some Jvm.ClassFile.FieldType.boolean)) ∈ lw_all := lw_g (lw_at lw_m6 182 rfl) rfl
theorem q1520 : (Jvm.Cond.methodLink "ShutDaysModel" (256 : Nat) ({ cls := "ShutDaysModel", name := "clause", desc := "()I" } : Jvm.MethodName)) ∈ lw_all := lw_g (lw_at lw_m6 183 rfl) rfl
theorem q1521 : (Jvm.Cond.privateMethod ({ cls := "ShutDaysModel", name := "clause", desc := "()I" } : Jvm.MethodName)) ∈ lw_tbl := lw_at lw_m6 184 rfl
theorem q1522 : (Jvm.Cond.instanceMethod ({ cls := "ShutDaysModel", name := "clause", desc := "()I" } : Jvm.MethodName)) ∈ lw_all := lw_g (lw_at lw_m6 185 rfl) rfl
theorem q1523 : (Jvm.Cond.code ({ cls := "ShutDaysModel", name := "clause", desc := "()I" } : Jvm.MethodName) prog_19_method_51_code (5 : Nat) (Option.some Jvm.ClassFile.FieldType.int)) ∈ lw_all := lw_g (lw_at lw_m6 186 rfl) rfl
theorem q1524 : (Jvm.Cond.methodLink "ShutDaysModel" (247 : Nat) ({ cls := "ShutDaysModel", name := "sortOf", desc := "()I" } : Jvm.MethodName)) ∈ lw_all := lw_g (lw_at lw_m6 187 rfl) rfl
theorem q1525 : (Jvm.Cond.privateMethod ({ cls := "ShutDaysModel", name := "sortOf", desc := "()I" } : Jvm.MethodName)) ∈ lw_tbl := lw_at lw_m6 188 rfl
theorem q1526 : (Jvm.Cond.instanceMethod ({ cls := "ShutDaysModel", name := "sortOf", desc := "()I" } : Jvm.MethodName)) ∈ lw_all := lw_g (lw_at lw_m6 189 rfl) rfl
theorem q1527 : (Jvm.Cond.code ({ cls := "ShutDaysModel", name := "sortOf", desc := "()I" } : Jvm.MethodName) prog_19_method_50_code (1 : Nat) (Option.some Jvm.ClassFile.FieldType.int)) ∈ lw_all := lw_g (lw_at lw_m6 190 rfl) rfl
theorem q1528 : (Jvm.Cond.methodLink "ShutDaysModel" (142 : Nat) ({ cls := "ShutDaysModel", name := "w5", desc := "(IIIII)J" } : Jvm.MethodName)) ∈ lw_all := lw_g (lw_at lw_m6 191 rfl) rfl
theorem q1529 : (Jvm.Cond.static ({ cls := "ShutDaysModel", name := "w5", desc := "(IIIII)J" } : Jvm.MethodName)) ∈ lw_all := lw_g (lw_at lw_m6 192 rfl) rfl
theorem q1530 : (Jvm.Cond.code ({ cls := "ShutDaysModel", name := "w5", desc := "(IIIII)J" } : Jvm.MethodName) prog_19_method_26_code (5 : Nat) (Option.some Jvm.ClassFile.FieldType.long)) ∈ lw_all := lw_g (lw_at lw_m6 193 rfl) rfl
theorem q1531 : (Jvm.Cond.methodLink "ShutDaysModel" (138 : Nat) ({ cls := "ShutDaysModel", name := "w4", desc := "(IIII)J" } : Jvm.MethodName)) ∈ lw_all := lw_g (lw_at lw_m6 194 rfl) rfl
theorem q1532 : (Jvm.Cond.static ({ cls := "ShutDaysModel", name := "w4", desc := "(IIII)J" } : Jvm.MethodName)) ∈ lw_all := lw_g (lw_at lw_m6 195 rfl) rfl
theorem q1533 : (Jvm.Cond.code ({ cls := "ShutDaysModel", name := "w4", desc := "(IIII)J" } : Jvm.MethodName) prog_19_method_25_code (4 : Nat) (Option.some Jvm.ClassFile.FieldType.long)) ∈ lw_all := lw_g (lw_at lw_m6 196 rfl) rfl
theorem q1534 : (Jvm.Cond.methodLink "ShutDaysModel" (134 : Nat) ({ cls := "ShutDaysModel", name := "w3", desc := "(III)J" } : Jvm.MethodName)) ∈ lw_all := lw_g (lw_at lw_m6 197 rfl) rfl
theorem q1535 : (Jvm.Cond.static ({ cls := "ShutDaysModel", name := "w3", desc := "(III)J" } : Jvm.MethodName)) ∈ lw_all := lw_g (lw_at lw_m6 198 rfl) rfl
theorem q1536 : (Jvm.Cond.code ({ cls := "ShutDaysModel", name := "w3", desc := "(III)J" } : Jvm.MethodName) prog_19_method_24_code (3 : Nat) (Option.some Jvm.ClassFile.FieldType.long)) ∈ lw_all := lw_g (lw_at lw_m6 199 rfl) rfl
theorem q1537 : (Jvm.Cond.methodLink "ShutDaysModel" (130 : Nat) ({ cls := "ShutDaysModel", name := "w2", desc := "(II)J" } : Jvm.MethodName)) ∈ lw_all := lw_g (lw_at lw_m6 200 rfl) rfl
theorem q1538 : (Jvm.Cond.static ({ cls := "ShutDaysModel", name := "w2", desc := "(II)J" } : Jvm.MethodName)) ∈ lw_all := lw_g (lw_at lw_m6 201 rfl) rfl
theorem q1539 : (Jvm.Cond.code ({ cls := "ShutDaysModel", name := "w2", desc := "(II)J" } : Jvm.MethodName) prog_19_method_23_code (2 : Nat) (Option.some Jvm.ClassFile.FieldType.long)) ∈ lw_all := lw_g (lw_at lw_m6 202 rfl) rfl
theorem q1540 : (Jvm.Cond.methodLink "ShutDaysModel" (200 : Nat) ({ cls := "ShutDaysModel", name := "isWord", desc := "(J)Z" } : Jvm.MethodName)) ∈ lw_all := lw_g (lw_at lw_m6 203 rfl) rfl
theorem q1541 : (Jvm.Cond.privateMethod ({ cls := "ShutDaysModel", name := "isWord", desc := "(J)Z" } : Jvm.MethodName)) ∈ lw_tbl := lw_at lw_m6 204 rfl
theorem q1542 : (Jvm.Cond.instanceMethod ({ cls := "ShutDaysModel", name := "isWord", desc := "(J)Z" } : Jvm.MethodName)) ∈ lw_all := lw_g (lw_at lw_m6 205 rfl) rfl
theorem q1543 : (Jvm.Cond.code ({ cls := "ShutDaysModel", name := "isWord", desc := "(J)Z" } : Jvm.MethodName) prog_19_method_28_code (3 : Nat) (Option.some Jvm.ClassFile.FieldType.boolean)) ∈ lw_all := lw_g (lw_at lw_m6 206 rfl) rfl
theorem q1544 : (Jvm.Cond.methodLink "ShutDaysModel" (160 : Nat) ({ cls := "ShutDaysModel", name := "w6", desc := "(IIIIII)J" } : Jvm.MethodName)) ∈ lw_all := lw_g (lw_at lw_m6 207 rfl) rfl
theorem q1545 : (Jvm.Cond.static ({ cls := "ShutDaysModel", name := "w6", desc := "(IIIIII)J" } : Jvm.MethodName)) ∈ lw_all := lw_g (lw_at lw_m6 208 rfl) rfl
theorem q1546 : (Jvm.Cond.code ({ cls := "ShutDaysModel", name := "w6", desc := "(IIIIII)J" } : Jvm.MethodName) prog_19_method_27_code (6 : Nat) (Option.some Jvm.ClassFile.FieldType.long)) ∈ lw_all := lw_g (lw_at lw_m6 209 rfl) rfl
theorem q1547 : (Jvm.Cond.methodLink "ShutDaysModel" (80 : Nat) ({ cls := "ShutDaysModel", name := "has", desc := "(II)Z" } : Jvm.MethodName)) ∈ lw_all := lw_g (lw_at lw_m6 210 rfl) rfl
theorem q1548 : (Jvm.Cond.static ({ cls := "ShutDaysModel", name := "has", desc := "(II)Z" } : Jvm.MethodName)) ∈ lw_all := lw_g (lw_at lw_m6 211 rfl) rfl
theorem q1549 : (Jvm.Cond.code ({ cls := "ShutDaysModel", name := "has", desc := "(II)Z" } : Jvm.MethodName) prog_19_method_5_code (2 : Nat) (Option.some Jvm.ClassFile.FieldType.boolean)) ∈ lw_all := lw_g (lw_at lw_m6 212 rfl) rfl
theorem q1550 : (Jvm.Cond.methodLink "ShutDaysModel" (253 : Nat) ({ cls := "ShutDaysModel", name := "body", desc := "(II)I" } : Jvm.MethodName)) ∈ lw_all := lw_g (lw_at lw_m6 213 rfl) rfl
theorem q1551 : (Jvm.Cond.privateMethod ({ cls := "ShutDaysModel", name := "body", desc := "(II)I" } : Jvm.MethodName)) ∈ lw_tbl := lw_at lw_m6 214 rfl
theorem q1552 : (Jvm.Cond.instanceMethod ({ cls := "ShutDaysModel", name := "body", desc := "(II)I" } : Jvm.MethodName)) ∈ lw_all := lw_g (lw_at lw_m6 215 rfl) rfl
theorem q1553 : (Jvm.Cond.code ({ cls := "ShutDaysModel", name := "body", desc := "(II)I" } : Jvm.MethodName) prog_19_method_49_code (4 : Nat) (Option.some Jvm.ClassFile.FieldType.int)) ∈ lw_all := lw_g (lw_at lw_m6 216 rfl) rfl
theorem q1554 : (Jvm.Cond.methodLink "ShutDaysModel" (240 : Nat) ({ cls := "ShutDaysModel", name := "houseClause", desc := "(I)I" } : Jvm.MethodName)) ∈ lw_all := lw_g (lw_at lw_m6 217 rfl) rfl
theorem q1555 : (Jvm.Cond.privateMethod ({ cls := "ShutDaysModel", name := "houseClause", desc := "(I)I" } : Jvm.MethodName)) ∈ lw_tbl := lw_at lw_m6 218 rfl
theorem q1556 : (Jvm.Cond.instanceMethod ({ cls := "ShutDaysModel", name := "houseClause", desc := "(I)I" } : Jvm.MethodName)) ∈ lw_all := lw_g (lw_at lw_m6 219 rfl) rfl
theorem q1557 : (Jvm.Cond.code ({ cls := "ShutDaysModel", name := "houseClause", desc := "(I)I" } : Jvm.MethodName) prog_19_method_48_code (3 : Nat) (Option.some Jvm.ClassFile.FieldType.int)) ∈ lw_all := lw_g (lw_at lw_m6 220 rfl) rfl
theorem q1558 : (Jvm.Cond.methodLink "ShutDaysModel" (228 : Nat) ({ cls := "ShutDaysModel", name := "figure", desc := "(III)I" } : Jvm.MethodName)) ∈ lw_all := lw_g (lw_at lw_m6 221 rfl) rfl
theorem q1559 : (Jvm.Cond.privateMethod ({ cls := "ShutDaysModel", name := "figure", desc := "(III)I" } : Jvm.MethodName)) ∈ lw_tbl := lw_at lw_m6 222 rfl
theorem q1560 : (Jvm.Cond.instanceMethod ({ cls := "ShutDaysModel", name := "figure", desc := "(III)I" } : Jvm.MethodName)) ∈ lw_all := lw_g (lw_at lw_m6 223 rfl) rfl
theorem q1561 : (Jvm.Cond.code ({ cls := "ShutDaysModel", name := "figure", desc := "(III)I" } : Jvm.MethodName) prog_19_method_45_code (4 : Nat) (Option.some Jvm.ClassFile.FieldType.int)) ∈ lw_all := lw_g (lw_at lw_m6 224 rfl) rfl
theorem q1562 : (Jvm.Cond.methodLink "ShutDaysModel" (236 : Nat) ({ cls := "ShutDaysModel", name := "worded", desc := "(JII)I" } : Jvm.MethodName)) ∈ lw_all := lw_g (lw_at lw_m6 225 rfl) rfl
theorem q1563 : (Jvm.Cond.privateMethod ({ cls := "ShutDaysModel", name := "worded", desc := "(JII)I" } : Jvm.MethodName)) ∈ lw_tbl := lw_at lw_m6 226 rfl
theorem q1564 : (Jvm.Cond.instanceMethod ({ cls := "ShutDaysModel", name := "worded", desc := "(JII)I" } : Jvm.MethodName)) ∈ lw_all := lw_g (lw_at lw_m6 227 rfl) rfl
theorem q1565 : (Jvm.Cond.code ({ cls := "ShutDaysModel", name := "worded", desc := "(JII)I" } : Jvm.MethodName) prog_19_method_46_code (5 : Nat) (Option.some Jvm.ClassFile.FieldType.int)) ∈ lw_all := lw_g (lw_at lw_m6 228 rfl) rfl
theorem q1566 : (Jvm.Cond.methodLink "ShutDaysModel" (156 : Nat) ({ cls := "ShutDaysModel", name := "isFriends", desc := "()Z" } : Jvm.MethodName)) ∈ lw_all := lw_g (lw_at lw_m6 229 rfl) rfl
theorem q1567 : (Jvm.Cond.privateMethod ({ cls := "ShutDaysModel", name := "isFriends", desc := "()Z" } : Jvm.MethodName)) ∈ lw_tbl := lw_at lw_m6 230 rfl
theorem q1568 : (Jvm.Cond.instanceMethod ({ cls := "ShutDaysModel", name := "isFriends", desc := "()Z" } : Jvm.MethodName)) ∈ lw_all := lw_g (lw_at lw_m6 231 rfl) rfl
theorem q1569 : (Jvm.Cond.code ({ cls := "ShutDaysModel", name := "isFriends", desc := "()Z" } : Jvm.MethodName) prog_19_method_31_code (1 : Nat) (Option.some Jvm.ClassFile.FieldType.boolean)) ∈ lw_all := lw_g (lw_at lw_m6 232 rfl) rfl
theorem q1570 : (Jvm.Cond.methodLink "ShutDaysModel" (152 : Nat) ({ cls := "ShutDaysModel", name := "isLong", desc := "(JJ)Z" } : Jvm.MethodName)) ∈ lw_all := lw_g (lw_at lw_m6 233 rfl) rfl
theorem q1571 : (Jvm.Cond.privateMethod ({ cls := "ShutDaysModel", name := "isLong", desc := "(JJ)Z" } : Jvm.MethodName)) ∈ lw_tbl := lw_at lw_m6 234 rfl
theorem q1572 : (Jvm.Cond.instanceMethod ({ cls := "ShutDaysModel", name := "isLong", desc := "(JJ)Z" } : Jvm.MethodName)) ∈ lw_all := lw_g (lw_at lw_m6 235 rfl) rfl
theorem q1573 : (Jvm.Cond.code ({ cls := "ShutDaysModel", name := "isLong", desc := "(JJ)Z" } : Jvm.MethodName) prog_19_method_30_code (5 : Nat) (Option.some Jvm.ClassFile.FieldType.boolean)) ∈ lw_all := lw_g (lw_at lw_m6 236 rfl) rfl
theorem q1574 : (Jvm.Cond.methodLink "ShutDaysModel" (243 : Nat) ({ cls := "ShutDaysModel", name := "lawClause", desc := "(IZ)I" } : Jvm.MethodName)) ∈ lw_all := lw_g (lw_at lw_m6 237 rfl) rfl
theorem q1575 : (Jvm.Cond.privateMethod ({ cls := "ShutDaysModel", name := "lawClause", desc := "(IZ)I" } : Jvm.MethodName)) ∈ lw_tbl := lw_at lw_m6 238 rfl
theorem q1576 : (Jvm.Cond.instanceMethod ({ cls := "ShutDaysModel", name := "lawClause", desc := "(IZ)I" } : Jvm.MethodName)) ∈ lw_all := lw_g (lw_at lw_m6 239 rfl) rfl
theorem q1577 : (Jvm.Cond.code ({ cls := "ShutDaysModel", name := "lawClause", desc := "(IZ)I" } : Jvm.MethodName) prog_19_method_47_code (4 : Nat) (Option.some Jvm.ClassFile.FieldType.int)) ∈ lw_all := lw_g (lw_at lw_m7 0 rfl) rfl
theorem q1578 : (Jvm.Cond.methodLink "ShutDaysModel" (232 : Nat) ({ cls := "ShutDaysModel", name := "parsed", desc := "(Z)I" } : Jvm.MethodName)) ∈ lw_all := lw_g (lw_at lw_m7 1 rfl) rfl
theorem q1579 : (Jvm.Cond.privateMethod ({ cls := "ShutDaysModel", name := "parsed", desc := "(Z)I" } : Jvm.MethodName)) ∈ lw_tbl := lw_at lw_m7 2 rfl
theorem q1580 : (Jvm.Cond.instanceMethod ({ cls := "ShutDaysModel", name := "parsed", desc := "(Z)I" } : Jvm.MethodName)) ∈ lw_all := lw_g (lw_at lw_m7 3 rfl) rfl
theorem q1581 : (Jvm.Cond.code ({ cls := "ShutDaysModel", name := "parsed", desc := "(Z)I" } : Jvm.MethodName) prog_19_method_44_code (3 : Nat) (Option.some Jvm.ClassFile.FieldType.int)) ∈ lw_all := lw_g (lw_at lw_m7 4 rfl) rfl
theorem q1582 : (Jvm.Cond.methodLink "ShutDaysModel" (222 : Nat) ({ cls := "ShutDaysModel", name := "behindOne", desc := "()I" } : Jvm.MethodName)) ∈ lw_all := lw_g (lw_at lw_m7 5 rfl) rfl
theorem q1583 : (Jvm.Cond.privateMethod ({ cls := "ShutDaysModel", name := "behindOne", desc := "()I" } : Jvm.MethodName)) ∈ lw_tbl := lw_at lw_m7 6 rfl
theorem q1584 : (Jvm.Cond.instanceMethod ({ cls := "ShutDaysModel", name := "behindOne", desc := "()I" } : Jvm.MethodName)) ∈ lw_all := lw_g (lw_at lw_m7 7 rfl) rfl
theorem q1585 : (Jvm.Cond.code ({ cls := "ShutDaysModel", name := "behindOne", desc := "()I" } : Jvm.MethodName) prog_19_method_43_code (2 : Nat) (Option.some Jvm.ClassFile.FieldType.int)) ∈ lw_all := lw_g (lw_at lw_m7 8 rfl) rfl
theorem q1586 : (Jvm.Cond.methodLink "ShutDaysModel" (219 : Nat) ({ cls := "ShutDaysModel", name := "betweenOf", desc := "()I" } : Jvm.MethodName)) ∈ lw_all := lw_g (lw_at lw_m7 9 rfl) rfl
theorem q1587 : (Jvm.Cond.privateMethod ({ cls := "ShutDaysModel", name := "betweenOf", desc := "()I" } : Jvm.MethodName)) ∈ lw_tbl := lw_at lw_m7 10 rfl
theorem q1588 : (Jvm.Cond.instanceMethod ({ cls := "ShutDaysModel", name := "betweenOf", desc := "()I" } : Jvm.MethodName)) ∈ lw_all := lw_g (lw_at lw_m7 11 rfl) rfl
theorem q1589 : (Jvm.Cond.code ({ cls := "ShutDaysModel", name := "betweenOf", desc := "()I" } : Jvm.MethodName) prog_19_method_42_code (1 : Nat) (Option.some Jvm.ClassFile.FieldType.int)) ∈ lw_all := lw_g (lw_at lw_m7 12 rfl) rfl
theorem q1590 : (Jvm.Cond.methodLink "ShutDaysModel" (181 : Nat) ({ cls := "ShutDaysModel", name := "isShut", desc := "()Z" } : Jvm.MethodName)) ∈ lw_all := lw_g (lw_at lw_m7 13 rfl) rfl
theorem q1591 : (Jvm.Cond.privateMethod ({ cls := "ShutDaysModel", name := "isShut", desc := "()Z" } : Jvm.MethodName)) ∈ lw_tbl := lw_at lw_m7 14 rfl
theorem q1592 : (Jvm.Cond.instanceMethod ({ cls := "ShutDaysModel", name := "isShut", desc := "()Z" } : Jvm.MethodName)) ∈ lw_all := lw_g (lw_at lw_m7 15 rfl) rfl
theorem q1593 : (Jvm.Cond.code ({ cls := "ShutDaysModel", name := "isShut", desc := "()Z" } : Jvm.MethodName) prog_19_method_35_code (2 : Nat) (Option.some Jvm.ClassFile.FieldType.boolean)) ∈ lw_all := lw_g (lw_at lw_m7 16 rfl) rfl
theorem q1594 : (Jvm.Cond.methodLink "ShutDaysModel" (213 : Nat) ({ cls := "ShutDaysModel", name := "isCompared", desc := "()Z" } : Jvm.MethodName)) ∈ lw_all := lw_g (lw_at lw_m7 17 rfl) rfl
theorem q1595 : (Jvm.Cond.privateMethod ({ cls := "ShutDaysModel", name := "isCompared", desc := "()Z" } : Jvm.MethodName)) ∈ lw_tbl := lw_at lw_m7 18 rfl
theorem q1596 : (Jvm.Cond.instanceMethod ({ cls := "ShutDaysModel", name := "isCompared", desc := "()Z" } : Jvm.MethodName)) ∈ lw_all := lw_g (lw_at lw_m7 19 rfl) rfl
theorem q1597 : (Jvm.Cond.code ({ cls := "ShutDaysModel", name := "isCompared", desc := "()Z" } : Jvm.MethodName) prog_19_method_36_code (2 : Nat) (Option.some Jvm.ClassFile.FieldType.boolean)) ∈ lw_all := lw_g (lw_at lw_m7 20 rfl) rfl
theorem q1598 : (Jvm.Cond.methodLink "ShutDaysModel" (167 : Nat) ({ cls := "ShutDaysModel", name := "rank", desc := "(I)I" } : Jvm.MethodName)) ∈ lw_all := lw_g (lw_at lw_m7 21 rfl) rfl
theorem q1599 : (Jvm.Cond.static ({ cls := "ShutDaysModel", name := "rank", desc := "(I)I" } : Jvm.MethodName)) ∈ lw_all := lw_g (lw_at lw_m7 22 rfl) rfl
theorem q1600 : (Jvm.Cond.code ({ cls := "ShutDaysModel", name := "rank", desc := "(I)I" } : Jvm.MethodName) prog_19_method_33_code (1 : Nat) (Option.some Jvm.ClassFile.FieldType.int)) ∈ lw_all := lw_g (lw_at lw_m7 23 rfl) rfl
theorem q1601 : (Jvm.Cond.methodLink "ShutDaysModel" (216 : Nat) ({ cls := "ShutDaysModel", name := "compareOf", desc := "()I" } : Jvm.MethodName)) ∈ lw_all := lw_g (lw_at lw_m7 24 rfl) rfl
theorem q1602 : (Jvm.Cond.privateMethod ({ cls := "ShutDaysModel", name := "compareOf", desc := "()I" } : Jvm.MethodName)) ∈ lw_tbl := lw_at lw_m7 25 rfl
theorem q1603 : (Jvm.Cond.instanceMethod ({ cls := "ShutDaysModel", name := "compareOf", desc := "()I" } : Jvm.MethodName)) ∈ lw_all := lw_g (lw_at lw_m7 26 rfl) rfl
theorem q1604 : (Jvm.Cond.code ({ cls := "ShutDaysModel", name := "compareOf", desc := "()I" } : Jvm.MethodName) prog_19_method_41_code (1 : Nat) (Option.some Jvm.ClassFile.FieldType.int)) ∈ lw_all := lw_g (lw_at lw_m7 27 rfl) rfl
theorem q1605 : (Jvm.Cond.methodLink "ShutDaysModel" (207 : Nat) ({ cls := "ShutDaysModel", name := "settle", desc := "(I)V" } : Jvm.MethodName)) ∈ lw_all := lw_g (lw_at lw_m7 28 rfl) rfl
theorem q1606 : (Jvm.Cond.privateMethod ({ cls := "ShutDaysModel", name := "settle", desc := "(I)V" } : Jvm.MethodName)) ∈ lw_tbl := lw_at lw_m7 29 rfl
theorem q1607 : (Jvm.Cond.instanceMethod ({ cls := "ShutDaysModel", name := "settle", desc := "(I)V" } : Jvm.MethodName)) ∈ lw_all := lw_g (lw_at lw_m7 30 rfl) rfl
theorem q1608 : (Jvm.Cond.code ({ cls := "ShutDaysModel", name := "settle", desc := "(I)V" } : Jvm.MethodName) prog_19_method_34_code (2 : Nat) (Option.none : Option Jvm.ClassFile.FieldType)) ∈ lw_all := lw_g (lw_at lw_m7 31 rfl) rfl
theorem q1609 : (Jvm.Cond.methodLink "ShutDaysModel" (170 : Nat) ({ cls := "ShutDaysModel", name := "emit", desc := "(II)V" } : Jvm.MethodName)) ∈ lw_all := lw_g (lw_at lw_m7 32 rfl) rfl
theorem q1610 : (Jvm.Cond.privateMethod ({ cls := "ShutDaysModel", name := "emit", desc := "(II)V" } : Jvm.MethodName)) ∈ lw_tbl := lw_at lw_m7 33 rfl
theorem q1611 : (Jvm.Cond.instanceMethod ({ cls := "ShutDaysModel", name := "emit", desc := "(II)V" } : Jvm.MethodName)) ∈ lw_all := lw_g (lw_at lw_m7 34 rfl) rfl
theorem q1612 : (Jvm.Cond.code ({ cls := "ShutDaysModel", name := "emit", desc := "(II)V" } : Jvm.MethodName) prog_19_method_29_code (3 : Nat) (Option.none : Option Jvm.ClassFile.FieldType)) ∈ lw_all := lw_g (lw_at lw_m7 35 rfl) rfl
theorem q1613 : (Jvm.Cond.methodLink "ShutDaysModel" (194 : Nat) ({ cls := "ShutDaysModel", name := "endOne", desc := "()I" } : Jvm.MethodName)) ∈ lw_all := lw_g (lw_at lw_m7 36 rfl) rfl
theorem q1614 : (Jvm.Cond.privateMethod ({ cls := "ShutDaysModel", name := "endOne", desc := "()I" } : Jvm.MethodName)) ∈ lw_tbl := lw_at lw_m7 37 rfl
theorem q1615 : (Jvm.Cond.instanceMethod ({ cls := "ShutDaysModel", name := "endOne", desc := "()I" } : Jvm.MethodName)) ∈ lw_all := lw_g (lw_at lw_m7 38 rfl) rfl
theorem q1616 : (Jvm.Cond.code ({ cls := "ShutDaysModel", name := "endOne", desc := "()I" } : Jvm.MethodName) prog_19_method_40_code (1 : Nat) (Option.some Jvm.ClassFile.FieldType.int)) ∈ lw_all := lw_g (lw_at lw_m7 39 rfl) rfl
theorem q1617 : (Jvm.Cond.methodLink "ShutDaysModel" (225 : Nat) ({ cls := "ShutDaysModel", name := "beginOne", desc := "()I" } : Jvm.MethodName)) ∈ lw_all := lw_g (lw_at lw_m7 40 rfl) rfl
theorem q1618 : (Jvm.Cond.privateMethod ({ cls := "ShutDaysModel", name := "beginOne", desc := "()I" } : Jvm.MethodName)) ∈ lw_tbl := lw_at lw_m7 41 rfl
theorem q1619 : (Jvm.Cond.instanceMethod ({ cls := "ShutDaysModel", name := "beginOne", desc := "()I" } : Jvm.MethodName)) ∈ lw_all := lw_g (lw_at lw_m7 42 rfl) rfl
theorem q1620 : (Jvm.Cond.code ({ cls := "ShutDaysModel", name := "beginOne", desc := "()I" } : Jvm.MethodName) prog_19_method_39_code (2 : Nat) (Option.some Jvm.ClassFile.FieldType.int)) ∈ lw_all := lw_g (lw_at lw_m7 43 rfl) rfl
theorem q1621 : (Jvm.Cond.methodLink "ShutDaysModel" (187 : Nat) ({ cls := "ShutDaysModel", name := "nameOf", desc := "()I" } : Jvm.MethodName)) ∈ lw_all := lw_g (lw_at lw_m7 44 rfl) rfl
theorem q1622 : (Jvm.Cond.privateMethod ({ cls := "ShutDaysModel", name := "nameOf", desc := "()I" } : Jvm.MethodName)) ∈ lw_tbl := lw_at lw_m7 45 rfl
theorem q1623 : (Jvm.Cond.instanceMethod ({ cls := "ShutDaysModel", name := "nameOf", desc := "()I" } : Jvm.MethodName)) ∈ lw_all := lw_g (lw_at lw_m7 46 rfl) rfl
theorem q1624 : (Jvm.Cond.code ({ cls := "ShutDaysModel", name := "nameOf", desc := "()I" } : Jvm.MethodName) prog_19_method_32_code (1 : Nat) (Option.some Jvm.ClassFile.FieldType.int)) ∈ lw_all := lw_g (lw_at lw_m7 47 rfl) rfl
theorem q1625 : (Jvm.Cond.methodLink "ShutDaysModel" (197 : Nat) ({ cls := "ShutDaysModel", name := "opened", desc := "(I)I" } : Jvm.MethodName)) ∈ lw_all := lw_g (lw_at lw_m7 48 rfl) rfl
theorem q1626 : (Jvm.Cond.privateMethod ({ cls := "ShutDaysModel", name := "opened", desc := "(I)I" } : Jvm.MethodName)) ∈ lw_tbl := lw_at lw_m7 49 rfl
theorem q1627 : (Jvm.Cond.instanceMethod ({ cls := "ShutDaysModel", name := "opened", desc := "(I)I" } : Jvm.MethodName)) ∈ lw_all := lw_g (lw_at lw_m7 50 rfl) rfl
theorem q1628 : (Jvm.Cond.code ({ cls := "ShutDaysModel", name := "opened", desc := "(I)I" } : Jvm.MethodName) prog_19_method_38_code (2 : Nat) (Option.some Jvm.ClassFile.FieldType.int)) ∈ lw_all := lw_g (lw_at lw_m7 51 rfl) rfl
theorem q1629 : (Jvm.Cond.methodLink "ShutDaysModel" (204 : Nat) ({ cls := "ShutDaysModel", name := "isAskAhead", desc := "()Z" } : Jvm.MethodName)) ∈ lw_all := lw_g (lw_at lw_m7 52 rfl) rfl
theorem q1630 : (Jvm.Cond.privateMethod ({ cls := "ShutDaysModel", name := "isAskAhead", desc := "()Z" } : Jvm.MethodName)) ∈ lw_tbl := lw_at lw_m7 53 rfl
theorem q1631 : (Jvm.Cond.instanceMethod ({ cls := "ShutDaysModel", name := "isAskAhead", desc := "()Z" } : Jvm.MethodName)) ∈ lw_all := lw_g (lw_at lw_m7 54 rfl) rfl
theorem q1632 : (Jvm.Cond.code ({ cls := "ShutDaysModel", name := "isAskAhead", desc := "()Z" } : Jvm.MethodName) prog_19_method_37_code (1 : Nat) (Option.some Jvm.ClassFile.FieldType.boolean)) ∈ lw_all := lw_g (lw_at lw_m7 55 rfl) rfl
theorem q1634 : (Jvm.Cond.instanceMethod ({ cls := "ShutDaysModel", name := "fault", desc := "(I)I" } : Jvm.MethodName)) ∈ lw_all := lw_g (lw_at lw_m7 57 rfl) rfl
theorem q1635 : (Jvm.Cond.selects "ShutDaysModel" ({ cls := "ShutDaysModel", name := "fault", desc := "(I)I" } : Jvm.MethodName) ({ cls := "ShutDaysModel", name := "fault", desc := "(I)I" } : Jvm.MethodName)) ∈ lw_all := lw_g (lw_at lw_m7 58 rfl) rfl
theorem q1636 : (Jvm.Cond.code ({ cls := "ShutDaysModel", name := "fault", desc := "(I)I" } : Jvm.MethodName) prog_19_method_54_code (2 : Nat) (Option.some Jvm.ClassFile.FieldType.int)) ∈ lw_all := lw_g (lw_at lw_m7 59 rfl) rfl
theorem q1638 : (Jvm.Cond.instanceMethod ({ cls := "ShutDaysModel", name := "by", desc := "(I)Z" } : Jvm.MethodName)) ∈ lw_all := lw_g (lw_at lw_m7 61 rfl) rfl
theorem q1639 : (Jvm.Cond.selects "ShutDaysModel" ({ cls := "ShutDaysModel", name := "by", desc := "(I)Z" } : Jvm.MethodName) ({ cls := "ShutDaysModel", name := "by", desc := "(I)Z" } : Jvm.MethodName)) ∈ lw_all := lw_g (lw_at lw_m7 62 rfl) rfl
theorem q1640 : (Jvm.Cond.code ({ cls := "ShutDaysModel", name := "by", desc := "(I)Z" } : Jvm.MethodName) prog_19_method_55_code (2 : Nat) (Option.some Jvm.ClassFile.FieldType.boolean)) ∈ lw_all := lw_g (lw_at lw_m7 63 rfl) rfl
theorem q1642 : (Jvm.Cond.instanceMethod ({ cls := "ShutDaysModel", name := "undo", desc := "()I" } : Jvm.MethodName)) ∈ lw_all := lw_g (lw_at lw_m7 65 rfl) rfl
theorem q1643 : (Jvm.Cond.selects "ShutDaysModel" ({ cls := "ShutDaysModel", name := "undo", desc := "()I" } : Jvm.MethodName) ({ cls := "ShutDaysModel", name := "undo", desc := "()I" } : Jvm.MethodName)) ∈ lw_all := lw_g (lw_at lw_m7 66 rfl) rfl
theorem q1644 : (Jvm.Cond.code ({ cls := "ShutDaysModel", name := "undo", desc := "()I" } : Jvm.MethodName) prog_19_method_73_code (4 : Nat) (Option.some Jvm.ClassFile.FieldType.int)) ∈ lw_all := lw_g (lw_at lw_m7 67 rfl) rfl
theorem q1646 : (Jvm.Cond.instanceMethod ({ cls := "ShutDaysModel", name := "knock", desc := "(I)I" } : Jvm.MethodName)) ∈ lw_all := lw_g (lw_at lw_m7 69 rfl) rfl
theorem q1647 : (Jvm.Cond.selects "ShutDaysModel" ({ cls := "ShutDaysModel", name := "knock", desc := "(I)I" } : Jvm.MethodName) ({ cls := "ShutDaysModel", name := "knock", desc := "(I)I" } : Jvm.MethodName)) ∈ lw_all := lw_g (lw_at lw_m7 70 rfl) rfl
theorem q1648 : (Jvm.Cond.code ({ cls := "ShutDaysModel", name := "knock", desc := "(I)I" } : Jvm.MethodName) prog_19_method_76_code (2 : Nat) (Option.some Jvm.ClassFile.FieldType.int)) ∈ lw_all := lw_g (lw_at lw_m7 71 rfl) rfl
theorem q1649 : (Jvm.Cond.methodLink "ShutDaysModel" (77 : Nat) ({ cls := "ShutDaysModel", name := "isHere", desc := "(I)Z" } : Jvm.MethodName)) ∈ lw_all := lw_g (lw_at lw_m7 72 rfl) rfl
theorem q1650 : (Jvm.Cond.privateMethod ({ cls := "ShutDaysModel", name := "isHere", desc := "(I)Z" } : Jvm.MethodName)) ∈ lw_tbl := lw_at lw_m7 73 rfl
theorem q1651 : (Jvm.Cond.instanceMethod ({ cls := "ShutDaysModel", name := "isHere", desc := "(I)Z" } : Jvm.MethodName)) ∈ lw_all := lw_g (lw_at lw_m7 74 rfl) rfl
theorem q1652 : (Jvm.Cond.code ({ cls := "ShutDaysModel", name := "isHere", desc := "(I)Z" } : Jvm.MethodName) prog_19_method_10_code (2 : Nat) (Option.some Jvm.ClassFile.FieldType.boolean)) ∈ lw_all := lw_g (lw_at lw_m7 75 rfl) rfl
theorem q1653 : (Jvm.Cond.methodLink "ShutDaysModel" (69 : Nat) ({ cls := "ShutDaysModel", name := "isHouse", desc := "(I)Z" } : Jvm.MethodName)) ∈ lw_all := lw_g (lw_at lw_m7 76 rfl) rfl
theorem q1654 : (Jvm.Cond.privateMethod ({ cls := "ShutDaysModel", name := "isHouse", desc := "(I)Z" } : Jvm.MethodName)) ∈ lw_tbl := lw_at lw_m7 77 rfl
theorem q1655 : (Jvm.Cond.instanceMethod ({ cls := "ShutDaysModel", name := "isHouse", desc := "(I)Z" } : Jvm.MethodName)) ∈ lw_all := lw_g (lw_at lw_m7 78 rfl) rfl
theorem q1656 : (Jvm.Cond.code ({ cls := "ShutDaysModel", name := "isHouse", desc := "(I)Z" } : Jvm.MethodName) prog_19_method_7_code (2 : Nat) (Option.some Jvm.ClassFile.FieldType.boolean)) ∈ lw_all := lw_g (lw_at lw_m7 79 rfl) rfl
theorem q1657 : (Jvm.Cond.methodLink "ShutDaysModel" (335 : Nat) ({ cls := "ShutDaysModel", name := "keep", desc := "()V" } : Jvm.MethodName)) ∈ lw_all := lw_g (lw_at lw_m7 80 rfl) rfl
theorem q1658 : (Jvm.Cond.privateMethod ({ cls := "ShutDaysModel", name := "keep", desc := "()V" } : Jvm.MethodName)) ∈ lw_tbl := lw_at lw_m7 81 rfl
theorem q1659 : (Jvm.Cond.instanceMethod ({ cls := "ShutDaysModel", name := "keep", desc := "()V" } : Jvm.MethodName)) ∈ lw_all := lw_g (lw_at lw_m7 82 rfl) rfl
theorem q1660 : (Jvm.Cond.code ({ cls := "ShutDaysModel", name := "keep", desc := "()V" } : Jvm.MethodName) prog_19_method_72_code (4 : Nat) (Option.none : Option Jvm.ClassFile.FieldType)) ∈ lw_all := lw_g (lw_at lw_m7 83 rfl) rfl
theorem q1661 : (Jvm.Cond.methodLink "ShutDaysModel" (338 : Nat) ({ cls := "ShutDaysModel", name := "knockNow", desc := "(I)I" } : Jvm.MethodName)) ∈ lw_all := lw_g (lw_at lw_m7 84 rfl) rfl
theorem q1662 : (Jvm.Cond.privateMethod ({ cls := "ShutDaysModel", name := "knockNow", desc := "(I)I" } : Jvm.MethodName)) ∈ lw_tbl := lw_at lw_m7 85 rfl
theorem q1663 : (Jvm.Cond.instanceMethod ({ cls := "ShutDaysModel", name := "knockNow", desc := "(I)I" } : Jvm.MethodName)) ∈ lw_all := lw_g (lw_at lw_m7 86 rfl) rfl
theorem q1664 : (Jvm.Cond.code ({ cls := "ShutDaysModel", name := "knockNow", desc := "(I)I" } : Jvm.MethodName) prog_19_method_75_code (4 : Nat) (Option.some Jvm.ClassFile.FieldType.int)) ∈ lw_all := lw_g (lw_at lw_m7 87 rfl) rfl
theorem q1665 : (Jvm.Cond.methodLink "ShutDaysModel" (320 : Nat) ({ cls := "ShutDaysModel", name := "date", desc := "()I" } : Jvm.MethodName)) ∈ lw_all := lw_g (lw_at lw_m7 88 rfl) rfl
theorem q1666 : (Jvm.Cond.privateMethod ({ cls := "ShutDaysModel", name := "date", desc := "()I" } : Jvm.MethodName)) ∈ lw_tbl := lw_at lw_m7 89 rfl
theorem q1667 : (Jvm.Cond.instanceMethod ({ cls := "ShutDaysModel", name := "date", desc := "()I" } : Jvm.MethodName)) ∈ lw_all := lw_g (lw_at lw_m7 90 rfl) rfl
theorem q1668 : (Jvm.Cond.code ({ cls := "ShutDaysModel", name := "date", desc := "()I" } : Jvm.MethodName) prog_19_method_12_code (1 : Nat) (Option.some Jvm.ClassFile.FieldType.int)) ∈ lw_all := lw_g (lw_at lw_m7 91 rfl) rfl
theorem q1669 : (Jvm.Cond.methodLink "ShutDaysModel" (329 : Nat) ({ cls := "ShutDaysModel", name := "write", desc := "(II)V" } : Jvm.MethodName)) ∈ lw_all := lw_g (lw_at lw_m7 92 rfl) rfl
theorem q1670 : (Jvm.Cond.privateMethod ({ cls := "ShutDaysModel", name := "write", desc := "(II)V" } : Jvm.MethodName)) ∈ lw_tbl := lw_at lw_m7 93 rfl
theorem q1671 : (Jvm.Cond.instanceMethod ({ cls := "ShutDaysModel", name := "write", desc := "(II)V" } : Jvm.MethodName)) ∈ lw_all := lw_g (lw_at lw_m7 94 rfl) rfl
theorem q1672 : (Jvm.Cond.code ({ cls := "ShutDaysModel", name := "write", desc := "(II)V" } : Jvm.MethodName) prog_19_method_74_code (4 : Nat) (Option.none : Option Jvm.ClassFile.FieldType)) ∈ lw_all := lw_g (lw_at lw_m7 95 rfl) rfl
theorem q1673 : (Jvm.Cond.methodLink "ShutDaysModel" (332 : Nat) ({ cls := "ShutDaysModel", name := "isLetting", desc := "(I)Z" } : Jvm.MethodName)) ∈ lw_all := lw_g (lw_at lw_m7 96 rfl) rfl
theorem q1674 : (Jvm.Cond.privateMethod ({ cls := "ShutDaysModel", name := "isLetting", desc := "(I)Z" } : Jvm.MethodName)) ∈ lw_tbl := lw_at lw_m7 97 rfl
theorem q1675 : (Jvm.Cond.instanceMethod ({ cls := "ShutDaysModel", name := "isLetting", desc := "(I)Z" } : Jvm.MethodName)) ∈ lw_all := lw_g (lw_at lw_m7 98 rfl) rfl
theorem q1676 : (Jvm.Cond.code ({ cls := "ShutDaysModel", name := "isLetting", desc := "(I)Z" } : Jvm.MethodName) prog_19_method_70_code (3 : Nat) (Option.some Jvm.ClassFile.FieldType.boolean)) ∈ lw_all := lw_g (lw_at lw_m7 99 rfl) rfl
theorem q1677 : (Jvm.Cond.methodLink "ShutDaysModel" (293 : Nat) ({ cls := "ShutDaysModel", name := "clauseOf", desc := "(I)I" } : Jvm.MethodName)) ∈ lw_all := lw_g (lw_at lw_m7 100 rfl) rfl
theorem q1678 : (Jvm.Cond.privateMethod ({ cls := "ShutDaysModel", name := "clauseOf", desc := "(I)I" } : Jvm.MethodName)) ∈ lw_tbl := lw_at lw_m7 101 rfl
theorem q1679 : (Jvm.Cond.instanceMethod ({ cls := "ShutDaysModel", name := "clauseOf", desc := "(I)I" } : Jvm.MethodName)) ∈ lw_all := lw_g (lw_at lw_m7 102 rfl) rfl
theorem q1680 : (Jvm.Cond.code ({ cls := "ShutDaysModel", name := "clauseOf", desc := "(I)I" } : Jvm.MethodName) prog_19_method_63_code (3 : Nat) (Option.some Jvm.ClassFile.FieldType.int)) ∈ lw_all := lw_g (lw_at lw_m7 103 rfl) rfl
theorem q1681 : (Jvm.Cond.methodLink "ShutDaysModel" (314 : Nat) ({ cls := "ShutDaysModel", name := "name", desc := "(II)V" } : Jvm.MethodName)) ∈ lw_all := lw_g (lw_at lw_m7 104 rfl) rfl
theorem q1682 : (Jvm.Cond.privateMethod ({ cls := "ShutDaysModel", name := "name", desc := "(II)V" } : Jvm.MethodName)) ∈ lw_tbl := lw_at lw_m7 105 rfl
theorem q1683 : (Jvm.Cond.instanceMethod ({ cls := "ShutDaysModel", name := "name", desc := "(II)V" } : Jvm.MethodName)) ∈ lw_all := lw_g (lw_at lw_m7 106 rfl) rfl
theorem q1684 : (Jvm.Cond.code ({ cls := "ShutDaysModel", name := "name", desc := "(II)V" } : Jvm.MethodName) prog_19_method_67_code (3 : Nat) (Option.none : Option Jvm.ClassFile.FieldType)) ∈ lw_all := lw_g (lw_at lw_m7 107 rfl) rfl
theorem q1685 : (Jvm.Cond.methodLink "ShutDaysModel" (305 : Nat) ({ cls := "ShutDaysModel", name := "bits", desc := "(I)I" } : Jvm.MethodName)) ∈ lw_all := lw_g (lw_at lw_m7 108 rfl) rfl
theorem q1686 : (Jvm.Cond.static ({ cls := "ShutDaysModel", name := "bits", desc := "(I)I" } : Jvm.MethodName)) ∈ lw_all := lw_g (lw_at lw_m7 109 rfl) rfl
theorem q1687 : (Jvm.Cond.code ({ cls := "ShutDaysModel", name := "bits", desc := "(I)I" } : Jvm.MethodName) prog_19_method_6_code (3 : Nat) (Option.some Jvm.ClassFile.FieldType.int)) ∈ lw_all := lw_g (lw_at lw_m7 110 rfl) rfl
theorem q1688 : (Jvm.Cond.methodLink "ShutDaysModel" (308 : Nat) ({ cls := "ShutDaysModel", name := "openOn", desc := "(I)I" } : Jvm.MethodName)) ∈ lw_all := lw_g (lw_at lw_m7 111 rfl) rfl
theorem q1689 : (Jvm.Cond.privateMethod ({ cls := "ShutDaysModel", name := "openOn", desc := "(I)I" } : Jvm.MethodName)) ∈ lw_tbl := lw_at lw_m7 112 rfl
theorem q1690 : (Jvm.Cond.instanceMethod ({ cls := "ShutDaysModel", name := "openOn", desc := "(I)I" } : Jvm.MethodName)) ∈ lw_all := lw_g (lw_at lw_m7 113 rfl) rfl
theorem q1691 : (Jvm.Cond.code ({ cls := "ShutDaysModel", name := "openOn", desc := "(I)I" } : Jvm.MethodName) prog_19_method_65_code (4 : Nat) (Option.some Jvm.ClassFile.FieldType.int)) ∈ lw_all := lw_g (lw_at lw_m7 114 rfl) rfl
theorem q1692 : (Jvm.Cond.methodLink "ShutDaysModel" (302 : Nat) ({ cls := "ShutDaysModel", name := "isOpen", desc := "(II)Z" } : Jvm.MethodName)) ∈ lw_all := lw_g (lw_at lw_m7 115 rfl) rfl
theorem q1693 : (Jvm.Cond.privateMethod ({ cls := "ShutDaysModel", name := "isOpen", desc := "(II)Z" } : Jvm.MethodName)) ∈ lw_tbl := lw_at lw_m7 116 rfl
theorem q1694 : (Jvm.Cond.instanceMethod ({ cls := "ShutDaysModel", name := "isOpen", desc := "(II)Z" } : Jvm.MethodName)) ∈ lw_all := lw_g (lw_at lw_m7 117 rfl) rfl
theorem q1695 : (Jvm.Cond.code ({ cls := "ShutDaysModel", name := "isOpen", desc := "(II)Z" } : Jvm.MethodName) prog_19_method_11_code (3 : Nat) (Option.some Jvm.ClassFile.FieldType.boolean)) ∈ lw_all := lw_g (lw_at lw_m7 118 rfl) rfl
theorem q1696 : (Jvm.Cond.methodLink "ShutDaysModel" (311 : Nat) ({ cls := "ShutDaysModel", name := "besideOn", desc := "(II)I" } : Jvm.MethodName)) ∈ lw_all := lw_g (lw_at lw_m7 119 rfl) rfl
theorem q1697 : (Jvm.Cond.privateMethod ({ cls := "ShutDaysModel", name := "besideOn", desc := "(II)I" } : Jvm.MethodName)) ∈ lw_tbl := lw_at lw_m7 120 rfl
theorem q1698 : (Jvm.Cond.instanceMethod ({ cls := "ShutDaysModel", name := "besideOn", desc := "(II)I" } : Jvm.MethodName)) ∈ lw_all := lw_g (lw_at lw_m7 121 rfl) rfl
theorem q1699 : (Jvm.Cond.code ({ cls := "ShutDaysModel", name := "besideOn", desc := "(II)I" } : Jvm.MethodName) prog_19_method_66_code (3 : Nat) (Option.some Jvm.ClassFile.FieldType.int)) ∈ lw_all := lw_g (lw_at lw_m7 122 rfl) rfl
theorem q1700 : (Jvm.Cond.methodLink "ShutDaysModel" (296 : Nat) ({ cls := "ShutDaysModel", name := "work", desc := "(I)V" } : Jvm.MethodName)) ∈ lw_all := lw_g (lw_at lw_m7 123 rfl) rfl
theorem q1701 : (Jvm.Cond.privateMethod ({ cls := "ShutDaysModel", name := "work", desc := "(I)V" } : Jvm.MethodName)) ∈ lw_tbl := lw_at lw_m7 124 rfl
theorem q1702 : (Jvm.Cond.instanceMethod ({ cls := "ShutDaysModel", name := "work", desc := "(I)V" } : Jvm.MethodName)) ∈ lw_all := lw_g (lw_at lw_m7 125 rfl) rfl
theorem q1703 : (Jvm.Cond.code ({ cls := "ShutDaysModel", name := "work", desc := "(I)V" } : Jvm.MethodName) prog_19_method_62_code (9 : Nat) (Option.none : Option Jvm.ClassFile.FieldType)) ∈ lw_all := lw_g (lw_at lw_m7 126 rfl) rfl
theorem q1704 : (Jvm.Cond.methodLink "ShutDaysModel" (274 : Nat) ({ cls := "ShutDaysModel", name := "digit", desc := "(JJ)J" } : Jvm.MethodName)) ∈ lw_all := lw_g (lw_at lw_m7 127 rfl) rfl
theorem q1705 : (Jvm.Cond.static ({ cls := "ShutDaysModel", name := "digit", desc := "(JJ)J" } : Jvm.MethodName)) ∈ lw_all := lw_g (lw_at lw_m7 128 rfl) rfl
theorem q1706 : (Jvm.Cond.code ({ cls := "ShutDaysModel", name := "digit", desc := "(JJ)J" } : Jvm.MethodName) prog_19_method_59_code (8 : Nat) (Option.some Jvm.ClassFile.FieldType.long)) ∈ lw_all := lw_g (lw_at lw_m7 129 rfl) rfl
theorem q1707 : (Jvm.Cond.constantLong "ShutDaysModel" (270 : Nat) (10 : Int64)) ∈ lw_all := lw_g (lw_at lw_m7 130 rfl) rfl
theorem q1708 : (Jvm.Cond.constantLong "ShutDaysModel" (272 : Nat) (9 : Int64)) ∈ lw_all := lw_g (lw_at lw_m7 131 rfl) rfl
theorem q1709 : (Jvm.Cond.methodLink "ShutDaysModel" (278 : Nat) ({ cls := "ShutDaysModel", name := "two", desc := "(IJJ)J" } : Jvm.MethodName)) ∈ lw_all := lw_g (lw_at lw_m7 132 rfl) rfl
theorem q1710 : (Jvm.Cond.static ({ cls := "ShutDaysModel", name := "two", desc := "(IJJ)J" } : Jvm.MethodName)) ∈ lw_all := lw_g (lw_at lw_m7 133 rfl) rfl
theorem q1711 : (Jvm.Cond.code ({ cls := "ShutDaysModel", name := "two", desc := "(IJJ)J" } : Jvm.MethodName) prog_19_method_57_code (5 : Nat) (Option.some Jvm.ClassFile.FieldType.long)) ∈ lw_all := lw_g (lw_at lw_m7 134 rfl) rfl
theorem q1712 : (Jvm.Cond.methodLink "ShutDaysModel" (266 : Nat) ({ cls := "ShutDaysModel", name := "clip", desc := "(J)J" } : Jvm.MethodName)) ∈ lw_all := lw_g (lw_at lw_m7 135 rfl) rfl
theorem q1713 : (Jvm.Cond.static ({ cls := "ShutDaysModel", name := "clip", desc := "(J)J" } : Jvm.MethodName)) ∈ lw_all := lw_g (lw_at lw_m7 136 rfl) rfl
theorem q1714 : (Jvm.Cond.code ({ cls := "ShutDaysModel", name := "clip", desc := "(J)J" } : Jvm.MethodName) prog_19_method_56_code (2 : Nat) (Option.some Jvm.ClassFile.FieldType.long)) ∈ lw_all := lw_g (lw_at lw_m7 137 rfl) rfl
theorem q1715 : (Jvm.Cond.constantLong "ShutDaysModel" (262 : Nat) (1000000 : Int64)) ∈ lw_all := lw_g (lw_at lw_m7 138 rfl) rfl
theorem q1716 : (Jvm.Cond.constantLong "ShutDaysModel" (264 : Nat) (-1000000 : Int64)) ∈ lw_all := lw_g (lw_at lw_m7 139 rfl) rfl
theorem q1717 : (Jvm.Cond.methodLink "ShutDaysModel" (282 : Nat) ({ cls := "ShutDaysModel", name := "isDividing", desc := "(JJ)Z" } : Jvm.MethodName)) ∈ lw_all := lw_g (lw_at lw_m7 140 rfl) rfl
theorem q1718 : (Jvm.Cond.static ({ cls := "ShutDaysModel", name := "isDividing", desc := "(JJ)Z" } : Jvm.MethodName)) ∈ lw_all := lw_g (lw_at lw_m7 141 rfl) rfl
theorem q1719 : (Jvm.Cond.code ({ cls := "ShutDaysModel", name := "isDividing", desc := "(JJ)Z" } : Jvm.MethodName) prog_19_method_60_code (4 : Nat) (Option.some Jvm.ClassFile.FieldType.boolean)) ∈ lw_all := lw_g (lw_at lw_m7 142 rfl) rfl
theorem q1720 : (Jvm.Cond.methodLink "ShutDaysModel" (285 : Nat) ({ cls := "ShutDaysModel", name := "isAsked", desc := "(IJJ)Z" } : Jvm.MethodName)) ∈ lw_all := lw_g (lw_at lw_m7 143 rfl) rfl
theorem q1721 : (Jvm.Cond.static ({ cls := "ShutDaysModel", name := "isAsked", desc := "(IJJ)Z" } : Jvm.MethodName)) ∈ lw_all := lw_g (lw_at lw_m7 144 rfl) rfl
theorem q1722 : (Jvm.Cond.code ({ cls := "ShutDaysModel", name := "isAsked", desc := "(IJJ)Z" } : Jvm.MethodName) prog_19_method_58_code (5 : Nat) (Option.some Jvm.ClassFile.FieldType.boolean)) ∈ lw_all := lw_g (lw_at lw_m7 145 rfl) rfl
theorem q1723 : (Jvm.Cond.methodLink "ShutDaysModel" (289 : Nat) ({ cls := "ShutDaysModel", name := "joined", desc := "(IZZ)Z" } : Jvm.MethodName)) ∈ lw_all := lw_g (lw_at lw_m7 146 rfl) rfl
theorem q1724 : (Jvm.Cond.static ({ cls := "ShutDaysModel", name := "joined", desc := "(IZZ)Z" } : Jvm.MethodName)) ∈ lw_all := lw_g (lw_at lw_m7 147 rfl) rfl
theorem q1725 : (Jvm.Cond.code ({ cls := "ShutDaysModel", name := "joined", desc := "(IZZ)Z" } : Jvm.MethodName) prog_19_method_61_code (3 : Nat) (Option.some Jvm.ClassFile.FieldType.boolean)) ∈ lw_all := lw_g (lw_at lw_m7 148 rfl) rfl
theorem q1726 : (Jvm.Cond.methodLink "ShutDaysModel" (299 : Nat) ({ cls := "ShutDaysModel", name := "cut", desc := "(JII)I" } : Jvm.MethodName)) ∈ lw_all := lw_g (lw_at lw_m7 149 rfl) rfl
theorem q1727 : (Jvm.Cond.static ({ cls := "ShutDaysModel", name := "cut", desc := "(JII)I" } : Jvm.MethodName)) ∈ lw_all := lw_g (lw_at lw_m7 150 rfl) rfl
theorem q1728 : (Jvm.Cond.code ({ cls := "ShutDaysModel", name := "cut", desc := "(JII)I" } : Jvm.MethodName) prog_19_method_4_code (4 : Nat) (Option.some Jvm.ClassFile.FieldType.int)) ∈ lw_all := lw_g (lw_at lw_m7 151 rfl) rfl
theorem q1730 : (Jvm.Cond.instanceMethod ({ cls := "ShutDaysModel", name := "marry", desc := "(II)I" } : Jvm.MethodName)) ∈ lw_all := lw_g (lw_at lw_m7 153 rfl) rfl
theorem q1731 : (Jvm.Cond.selects "ShutDaysModel" ({ cls := "ShutDaysModel", name := "marry", desc := "(II)I" } : Jvm.MethodName) ({ cls := "ShutDaysModel", name := "marry", desc := "(II)I" } : Jvm.MethodName)) ∈ lw_all := lw_g (lw_at lw_m7 154 rfl) rfl
theorem q1732 : (Jvm.Cond.code ({ cls := "ShutDaysModel", name := "marry", desc := "(II)I" } : Jvm.MethodName) prog_19_method_77_code (5 : Nat) (Option.some Jvm.ClassFile.FieldType.int)) ∈ lw_all := lw_g (lw_at lw_m7 155 rfl) rfl
theorem q1734 : (Jvm.Cond.instanceMethod ({ cls := "ShutDaysModel", name := "hat", desc := "(I)I" } : Jvm.MethodName)) ∈ lw_all := lw_g (lw_at lw_m7 157 rfl) rfl
theorem q1735 : (Jvm.Cond.selects "ShutDaysModel" ({ cls := "ShutDaysModel", name := "hat", desc := "(I)I" } : Jvm.MethodName) ({ cls := "ShutDaysModel", name := "hat", desc := "(I)I" } : Jvm.MethodName)) ∈ lw_all := lw_g (lw_at lw_m7 158 rfl) rfl
theorem q1736 : (Jvm.Cond.code ({ cls := "ShutDaysModel", name := "hat", desc := "(I)I" } : Jvm.MethodName) prog_19_method_81_code (2 : Nat) (Option.some Jvm.ClassFile.FieldType.int)) ∈ lw_all := lw_g (lw_at lw_m7 159 rfl) rfl
theorem q1737 : (Jvm.Cond.methodLink "ShutDaysModel" (350 : Nat) ({ cls := "ShutDaysModel", name := "canDraw", desc := "(I)Z" } : Jvm.MethodName)) ∈ lw_all := lw_g (lw_at lw_m7 160 rfl) rfl
theorem q1738 : (Jvm.Cond.privateMethod ({ cls := "ShutDaysModel", name := "canDraw", desc := "(I)Z" } : Jvm.MethodName)) ∈ lw_tbl := lw_at lw_m7 161 rfl
theorem q1739 : (Jvm.Cond.instanceMethod ({ cls := "ShutDaysModel", name := "canDraw", desc := "(I)Z" } : Jvm.MethodName)) ∈ lw_all := lw_g (lw_at lw_m7 162 rfl) rfl
theorem q1740 : (Jvm.Cond.code ({ cls := "ShutDaysModel", name := "canDraw", desc := "(I)Z" } : Jvm.MethodName) prog_19_method_78_code (2 : Nat) (Option.some Jvm.ClassFile.FieldType.boolean)) ∈ lw_all := lw_g (lw_at lw_m7 163 rfl) rfl
theorem q1741 : (Jvm.Cond.methodLink "ShutDaysModel" (353 : Nat) ({ cls := "ShutDaysModel", name := "hatNow", desc := "(I)I" } : Jvm.MethodName)) ∈ lw_all := lw_g (lw_at lw_m7 164 rfl) rfl
theorem q1742 : (Jvm.Cond.privateMethod ({ cls := "ShutDaysModel", name := "hatNow", desc := "(I)I" } : Jvm.MethodName)) ∈ lw_tbl := lw_at lw_m7 165 rfl
theorem q1743 : (Jvm.Cond.instanceMethod ({ cls := "ShutDaysModel", name := "hatNow", desc := "(I)I" } : Jvm.MethodName)) ∈ lw_all := lw_g (lw_at lw_m7 166 rfl) rfl
theorem q1744 : (Jvm.Cond.code ({ cls := "ShutDaysModel", name := "hatNow", desc := "(I)I" } : Jvm.MethodName) prog_19_method_80_code (4 : Nat) (Option.some Jvm.ClassFile.FieldType.int)) ∈ lw_all := lw_g (lw_at lw_m7 167 rfl) rfl
theorem q1745 : (Jvm.Cond.methodLink "ShutDaysModel" (347 : Nat) ({ cls := "ShutDaysModel", name := "anew", desc := "()V" } : Jvm.MethodName)) ∈ lw_all := lw_g (lw_at lw_m7 168 rfl) rfl
theorem q1746 : (Jvm.Cond.privateMethod ({ cls := "ShutDaysModel", name := "anew", desc := "()V" } : Jvm.MethodName)) ∈ lw_tbl := lw_at lw_m7 169 rfl
theorem q1747 : (Jvm.Cond.instanceMethod ({ cls := "ShutDaysModel", name := "anew", desc := "()V" } : Jvm.MethodName)) ∈ lw_all := lw_g (lw_at lw_m7 170 rfl) rfl
theorem q1748 : (Jvm.Cond.code ({ cls := "ShutDaysModel", name := "anew", desc := "()V" } : Jvm.MethodName) prog_19_method_79_code (1 : Nat) (Option.none : Option Jvm.ClassFile.FieldType)) ∈ lw_all := lw_g (lw_at lw_m7 171 rfl) rfl
theorem q1749 : (Jvm.Cond.constantLong "ShutDaysModel" (341 : Nat) (359 : Int64)) ∈ lw_all := lw_g (lw_at lw_m7 172 rfl) rfl
theorem q1750 : (Jvm.Cond.constantLong "ShutDaysModel" (343 : Nat) (239 : Int64)) ∈ lw_all := lw_g (lw_at lw_m7 173 rfl) rfl
theorem q1751 : (Jvm.Cond.constantLong "ShutDaysModel" (345 : Nat) (30431 : Int64)) ∈ lw_all := lw_g (lw_at lw_m7 174 rfl) rfl
theorem q1753 : (Jvm.Cond.instanceMethod ({ cls := "ShutDaysModel", name := "forget", desc := "(II)Z" } : Jvm.MethodName)) ∈ lw_all := lw_g (lw_at lw_m7 176 rfl) rfl
theorem q1754 : (Jvm.Cond.selects "ShutDaysModel" ({ cls := "ShutDaysModel", name := "forget", desc := "(II)Z" } : Jvm.MethodName) ({ cls := "ShutDaysModel", name := "forget", desc := "(II)Z" } : Jvm.MethodName)) ∈ lw_all := lw_g (lw_at lw_m7 177 rfl) rfl
theorem q1755 : (Jvm.Cond.code ({ cls := "ShutDaysModel", name := "forget", desc := "(II)Z" } : Jvm.MethodName) prog_19_method_84_code (3 : Nat) (Option.some Jvm.ClassFile.FieldType.boolean)) ∈ lw_all := lw_g (lw_at lw_m7 178 rfl) rfl
theorem q1756 : (Jvm.Cond.methodLink "ShutDaysModel" (356 : Nat) ({ cls := "ShutDaysModel", name := "canForget", desc := "(II)Z" } : Jvm.MethodName)) ∈ lw_all := lw_g (lw_at lw_m7 179 rfl) rfl
theorem q1757 : (Jvm.Cond.privateMethod ({ cls := "ShutDaysModel", name := "canForget", desc := "(II)Z" } : Jvm.MethodName)) ∈ lw_tbl := lw_at lw_m7 180 rfl
theorem q1758 : (Jvm.Cond.instanceMethod ({ cls := "ShutDaysModel", name := "canForget", desc := "(II)Z" } : Jvm.MethodName)) ∈ lw_all := lw_g (lw_at lw_m7 181 rfl) rfl
theorem q1759 : (Jvm.Cond.code ({ cls := "ShutDaysModel", name := "canForget", desc := "(II)Z" } : Jvm.MethodName) prog_19_method_82_code (3 : Nat) (Option.some Jvm.ClassFile.FieldType.boolean)) ∈ lw_all := lw_g (lw_at lw_m7 182 rfl) rfl
theorem q1760 : (Jvm.Cond.methodLink "ShutDaysModel" (359 : Nat) ({ cls := "ShutDaysModel", name := "forgetNow", desc := "(II)V" } : Jvm.MethodName)) ∈ lw_all := lw_g (lw_at lw_m7 183 rfl) rfl
theorem q1761 : (Jvm.Cond.privateMethod ({ cls := "ShutDaysModel", name := "forgetNow", desc := "(II)V" } : Jvm.MethodName)) ∈ lw_tbl := lw_at lw_m7 184 rfl
theorem q1762 : (Jvm.Cond.instanceMethod ({ cls := "ShutDaysModel", name := "forgetNow", desc := "(II)V" } : Jvm.MethodName)) ∈ lw_all := lw_g (lw_at lw_m7 185 rfl) rfl
theorem q1763 : (Jvm.Cond.code ({ cls := "ShutDaysModel", name := "forgetNow", desc := "(II)V" } : Jvm.MethodName) prog_19_method_83_code (3 : Nat) (Option.none : Option Jvm.ClassFile.FieldType)) ∈ lw_all := lw_g (lw_at lw_m7 186 rfl) rfl
theorem q1765 : (Jvm.Cond.instanceMethod ({ cls := "ShutDaysModel", name := "day", desc := "(I)I" } : Jvm.MethodName)) ∈ lw_all := lw_g (lw_at lw_m7 188 rfl) rfl
theorem q1766 : (Jvm.Cond.selects "ShutDaysModel" ({ cls := "ShutDaysModel", name := "day", desc := "(I)I" } : Jvm.MethodName) ({ cls := "ShutDaysModel", name := "day", desc := "(I)I" } : Jvm.MethodName)) ∈ lw_all := lw_g (lw_at lw_m7 189 rfl) rfl
theorem q1767 : (Jvm.Cond.code ({ cls := "ShutDaysModel", name := "day", desc := "(I)I" } : Jvm.MethodName) prog_19_method_86_code (2 : Nat) (Option.some Jvm.ClassFile.FieldType.int)) ∈ lw_all := lw_g (lw_at lw_m7 190 rfl) rfl
theorem q1768 : (Jvm.Cond.methodLink "ShutDaysModel" (365 : Nat) ({ cls := "ShutDaysModel", name := "arePassed", desc := "(I)Z" } : Jvm.MethodName)) ∈ lw_all := lw_g (lw_at lw_m7 191 rfl) rfl
theorem q1769 : (Jvm.Cond.privateMethod ({ cls := "ShutDaysModel", name := "arePassed", desc := "(I)Z" } : Jvm.MethodName)) ∈ lw_tbl := lw_at lw_m7 192 rfl
theorem q1770 : (Jvm.Cond.instanceMethod ({ cls := "ShutDaysModel", name := "arePassed", desc := "(I)Z" } : Jvm.MethodName)) ∈ lw_all := lw_g (lw_at lw_m7 193 rfl) rfl
theorem q1771 : (Jvm.Cond.code ({ cls := "ShutDaysModel", name := "arePassed", desc := "(I)Z" } : Jvm.MethodName) prog_19_method_85_code (3 : Nat) (Option.some Jvm.ClassFile.FieldType.boolean)) ∈ lw_all := lw_g (lw_at lw_m7 194 rfl) rfl
theorem q1772 : (Jvm.Cond.methodLink "ShutDaysModel" (362 : Nat) ({ cls := "ShutDaysModel", name := "pass", desc := "()V" } : Jvm.MethodName)) ∈ lw_all := lw_g (lw_at lw_m7 195 rfl) rfl
theorem q1773 : (Jvm.Cond.privateMethod ({ cls := "ShutDaysModel", name := "pass", desc := "()V" } : Jvm.MethodName)) ∈ lw_tbl := lw_at lw_m7 196 rfl
theorem q1774 : (Jvm.Cond.instanceMethod ({ cls := "ShutDaysModel", name := "pass", desc := "()V" } : Jvm.MethodName)) ∈ lw_all := lw_g (lw_at lw_m7 197 rfl) rfl
theorem q1775 : (Jvm.Cond.code ({ cls := "ShutDaysModel", name := "pass", desc := "()V" } : Jvm.MethodName) prog_19_method_71_code (4 : Nat) (Option.none : Option Jvm.ClassFile.FieldType)) ∈ lw_all := lw_g (lw_at lw_m7 198 rfl) rfl
theorem q1776 : (Jvm.Cond.methodLink "ShutDaysModel" (323 : Nat) ({ cls := "ShutDaysModel", name := "losesOf", desc := "(I)I" } : Jvm.MethodName)) ∈ lw_all := lw_g (lw_at lw_m7 199 rfl) rfl
theorem q1777 : (Jvm.Cond.privateMethod ({ cls := "ShutDaysModel", name := "losesOf", desc := "(I)I" } : Jvm.MethodName)) ∈ lw_tbl := lw_at lw_m7 200 rfl
theorem q1778 : (Jvm.Cond.instanceMethod ({ cls := "ShutDaysModel", name := "losesOf", desc := "(I)I" } : Jvm.MethodName)) ∈ lw_all := lw_g (lw_at lw_m7 201 rfl) rfl
theorem q1779 : (Jvm.Cond.code ({ cls := "ShutDaysModel", name := "losesOf", desc := "(I)I" } : Jvm.MethodName) prog_19_method_69_code (2 : Nat) (Option.some Jvm.ClassFile.FieldType.int)) ∈ lw_all := lw_g (lw_at lw_m7 202 rfl) rfl
theorem q1780 : (Jvm.Cond.methodLink "ShutDaysModel" (317 : Nat) ({ cls := "ShutDaysModel", name := "says", desc := "(II)I" } : Jvm.MethodName)) ∈ lw_all := lw_g (lw_at lw_m7 203 rfl) rfl
theorem q1781 : (Jvm.Cond.privateMethod ({ cls := "ShutDaysModel", name := "says", desc := "(II)I" } : Jvm.MethodName)) ∈ lw_tbl := lw_at lw_m7 204 rfl
theorem q1782 : (Jvm.Cond.instanceMethod ({ cls := "ShutDaysModel", name := "says", desc := "(II)I" } : Jvm.MethodName)) ∈ lw_all := lw_g (lw_at lw_m7 205 rfl) rfl
theorem q1783 : (Jvm.Cond.code ({ cls := "ShutDaysModel", name := "says", desc := "(II)I" } : Jvm.MethodName) prog_19_method_64_code (4 : Nat) (Option.some Jvm.ClassFile.FieldType.int)) ∈ lw_all := lw_g (lw_at lw_m7 206 rfl) rfl
theorem q1784 : (Jvm.Cond.methodLink "ShutDaysModel" (326 : Nat) ({ cls := "ShutDaysModel", name := "earnsOn", desc := "(II)I" } : Jvm.MethodName)) ∈ lw_all := lw_g (lw_at lw_m7 207 rfl) rfl
theorem q1785 : (Jvm.Cond.privateMethod ({ cls := "ShutDaysModel", name := "earnsOn", desc := "(II)I" } : Jvm.MethodName)) ∈ lw_tbl := lw_at lw_m7 208 rfl
theorem q1786 : (Jvm.Cond.instanceMethod ({ cls := "ShutDaysModel", name := "earnsOn", desc := "(II)I" } : Jvm.MethodName)) ∈ lw_all := lw_g (lw_at lw_m7 209 rfl) rfl
theorem q1787 : (Jvm.Cond.code ({ cls := "ShutDaysModel", name := "earnsOn", desc := "(II)I" } : Jvm.MethodName) prog_19_method_68_code (3 : Nat) (Option.some Jvm.ClassFile.FieldType.int)) ∈ lw_all := lw_g (lw_at lw_m7 210 rfl) rfl
theorem q1789 : (Jvm.Cond.instanceMethod ({ cls := "ShutDaysModel", name := "played", desc := "(I)I" } : Jvm.MethodName)) ∈ lw_all := lw_g (lw_at lw_m7 212 rfl) rfl
theorem q1790 : (Jvm.Cond.selects "ShutDaysModel" ({ cls := "ShutDaysModel", name := "played", desc := "(I)I" } : Jvm.MethodName) ({ cls := "ShutDaysModel", name := "played", desc := "(I)I" } : Jvm.MethodName)) ∈ lw_all := lw_g (lw_at lw_m7 213 rfl) rfl
theorem q1791 : (Jvm.Cond.code ({ cls := "ShutDaysModel", name := "played", desc := "(I)I" } : Jvm.MethodName) prog_19_method_88_code (3 : Nat) (Option.some Jvm.ClassFile.FieldType.int)) ∈ lw_all := lw_g (lw_at lw_m7 214 rfl) rfl
theorem q1792 : (Jvm.Cond.methodLink "ShutDaysModel" (384 : Nat) ({ cls := "ShutDaysModel", name := "isPlayed", desc := "(I)Z" } : Jvm.MethodName)) ∈ lw_all := lw_g (lw_at lw_m7 215 rfl) rfl
theorem q1793 : (Jvm.Cond.privateMethod ({ cls := "ShutDaysModel", name := "isPlayed", desc := "(I)Z" } : Jvm.MethodName)) ∈ lw_tbl := lw_at lw_m7 216 rfl
theorem q1794 : (Jvm.Cond.instanceMethod ({ cls := "ShutDaysModel", name := "isPlayed", desc := "(I)Z" } : Jvm.MethodName)) ∈ lw_all := lw_g (lw_at lw_m7 217 rfl) rfl
theorem q1795 : (Jvm.Cond.code ({ cls := "ShutDaysModel", name := "isPlayed", desc := "(I)Z" } : Jvm.MethodName) prog_19_method_87_code (5 : Nat) (Option.some Jvm.ClassFile.FieldType.boolean)) ∈ lw_all := lw_g (lw_at lw_m7 218 rfl) rfl
theorem q1796 : (Jvm.Cond.methodLink "ShutDaysModel" (368 : Nat) ({ cls := "ShutDaysModel", name := "house", desc := "(IIIII)I" } : Jvm.MethodName)) ∈ lw_all := lw_g (lw_at lw_m7 219 rfl) rfl
theorem q1797 : (Jvm.Cond.methodLink "ShutDaysModel" (372 : Nat) ({ cls := "ShutDaysModel", name := "knock", desc := "(I)I" } : Jvm.MethodName)) ∈ lw_all := lw_g (lw_at lw_m7 220 rfl) rfl
theorem q1798 : (Jvm.Cond.methodLink "ShutDaysModel" (375 : Nat) ({ cls := "ShutDaysModel", name := "marry", desc := "(II)I" } : Jvm.MethodName)) ∈ lw_all := lw_g (lw_at lw_m7 221 rfl) rfl
theorem q1799 : (Jvm.Cond.methodLink "ShutDaysModel" (378 : Nat) ({ cls := "ShutDaysModel", name := "hat", desc := "(I)I" } : Jvm.MethodName)) ∈ lw_all := lw_g (lw_at lw_m7 222 rfl) rfl
theorem q1800 : (Jvm.Cond.methodLink "ShutDaysModel" (381 : Nat) ({ cls := "ShutDaysModel", name := "forget", desc := "(II)Z" } : Jvm.MethodName)) ∈ lw_all := lw_g (lw_at lw_m7 223 rfl) rfl
theorem q1802 : (Jvm.Cond.instanceMethod ({ cls := "ShutDaysModel", name := "years", desc := "(II)I" } : Jvm.MethodName)) ∈ lw_all := lw_g (lw_at lw_m7 225 rfl) rfl
theorem q1803 : (Jvm.Cond.selects "ShutDaysModel" ({ cls := "ShutDaysModel", name := "years", desc := "(II)I" } : Jvm.MethodName) ({ cls := "ShutDaysModel", name := "years", desc := "(II)I" } : Jvm.MethodName)) ∈ lw_all := lw_g (lw_at lw_m7 226 rfl) rfl
theorem q1804 : (Jvm.Cond.code ({ cls := "ShutDaysModel", name := "years", desc := "(II)I" } : Jvm.MethodName) prog_19_method_90_code (5 : Nat) (Option.some Jvm.ClassFile.FieldType.int)) ∈ lw_all := lw_g (lw_at lw_m7 227 rfl) rfl
theorem q1805 : (Jvm.Cond.methodLink "ShutDaysModel" (387 : Nat) ({ cls := "ShutDaysModel", name := "happens", desc := "(I)V" } : Jvm.MethodName)) ∈ lw_all := lw_g (lw_at lw_m7 228 rfl) rfl
theorem q1806 : (Jvm.Cond.privateMethod ({ cls := "ShutDaysModel", name := "happens", desc := "(I)V" } : Jvm.MethodName)) ∈ lw_tbl := lw_at lw_m7 229 rfl
theorem q1807 : (Jvm.Cond.instanceMethod ({ cls := "ShutDaysModel", name := "happens", desc := "(I)V" } : Jvm.MethodName)) ∈ lw_all := lw_g (lw_at lw_m7 230 rfl) rfl
theorem q1808 : (Jvm.Cond.code ({ cls := "ShutDaysModel", name := "happens", desc := "(I)V" } : Jvm.MethodName) prog_19_method_89_code (3 : Nat) (Option.none : Option Jvm.ClassFile.FieldType)) ∈ lw_all := lw_g (lw_at lw_m7 231 rfl) rfl
theorem q1810 : (Jvm.Cond.instanceMethod ({ cls := "ShutDaysModel", name := "of", desc := "(II)I" } : Jvm.MethodName)) ∈ lw_all := lw_g (lw_at lw_m7 233 rfl) rfl
theorem q1811 : (Jvm.Cond.selects "ShutDaysModel" ({ cls := "ShutDaysModel", name := "of", desc := "(II)I" } : Jvm.MethodName) ({ cls := "ShutDaysModel", name := "of", desc := "(II)I" } : Jvm.MethodName)) ∈ lw_all := lw_g (lw_at lw_m7 234 rfl) rfl
theorem q1812 : (Jvm.Cond.code ({ cls := "ShutDaysModel", name := "of", desc := "(II)I" } : Jvm.MethodName) prog_19_method_91_code (3 : Nat) (Option.some Jvm.ClassFile.FieldType.int)) ∈ lw_all := lw_g (lw_at lw_m7 235 rfl) rfl
theorem q1814 : (Jvm.Cond.instanceMethod ({ cls := "ShutDaysModel", name := "is", desc := "(I)I" } : Jvm.MethodName)) ∈ lw_all := lw_g (lw_at lw_m7 237 rfl) rfl
theorem q1815 : (Jvm.Cond.selects "ShutDaysModel" ({ cls := "ShutDaysModel", name := "is", desc := "(I)I" } : Jvm.MethodName) ({ cls := "ShutDaysModel", name := "is", desc := "(I)I" } : Jvm.MethodName)) ∈ lw_all := lw_g (lw_at lw_m7 238 rfl) rfl
theorem q1816 : (Jvm.Cond.code ({ cls := "ShutDaysModel", name := "is", desc := "(I)I" } : Jvm.MethodName) prog_19_method_92_code (2 : Nat) (Option.some Jvm.ClassFile.FieldType.int)) ∈ lw_all := lw_g (lw_at lw_m7 239 rfl) rfl
theorem q1818 : (Jvm.Cond.instanceMethod ({ cls := "ShutDaysModel", name := "book", desc := "(II)I" } : Jvm.MethodName)) ∈ lw_all := lw_g (lw_at lw_m8 1 rfl) rfl
theorem q1819 : (Jvm.Cond.selects "ShutDaysModel" ({ cls := "ShutDaysModel", name := "book", desc := "(II)I" } : Jvm.MethodName) ({ cls := "ShutDaysModel", name := "book", desc := "(II)I" } : Jvm.MethodName)) ∈ lw_all := lw_g (lw_at lw_m8 2 rfl) rfl
theorem q1820 : (Jvm.Cond.code ({ cls := "ShutDaysModel", name := "book", desc := "(II)I" } : Jvm.MethodName) prog_19_method_94_code (3 : Nat) (Option.some Jvm.ClassFile.FieldType.int)) ∈ lw_all := lw_g (lw_at lw_m8 3 rfl) rfl
theorem q1821 : (Jvm.Cond.methodLink "ShutDaysModel" (390 : Nat) ({ cls := "ShutDaysModel", name := "entry", desc := "(II)I" } : Jvm.MethodName)) ∈ lw_all := lw_g (lw_at lw_m8 4 rfl) rfl
theorem q1822 : (Jvm.Cond.privateMethod ({ cls := "ShutDaysModel", name := "entry", desc := "(II)I" } : Jvm.MethodName)) ∈ lw_tbl := lw_at lw_m8 5 rfl
theorem q1823 : (Jvm.Cond.instanceMethod ({ cls := "ShutDaysModel", name := "entry", desc := "(II)I" } : Jvm.MethodName)) ∈ lw_all := lw_g (lw_at lw_m8 6 rfl) rfl
theorem q1824 : (Jvm.Cond.code ({ cls := "ShutDaysModel", name := "entry", desc := "(II)I" } : Jvm.MethodName) prog_19_method_93_code (3 : Nat) (Option.some Jvm.ClassFile.FieldType.int)) ∈ lw_all := lw_g (lw_at lw_m8 7 rfl) rfl
theorem q1826 : (Jvm.Cond.instanceMethod ({ cls := "ShutDaysModel", name := "knocks", desc := "(IZ)I" } : Jvm.MethodName)) ∈ lw_all := lw_g (lw_at lw_m8 9 rfl) rfl
theorem q1827 : (Jvm.Cond.selects "ShutDaysModel" ({ cls := "ShutDaysModel", name := "knocks", desc := "(IZ)I" } : Jvm.MethodName) ({ cls := "ShutDaysModel", name := "knocks", desc := "(IZ)I" } : Jvm.MethodName)) ∈ lw_all := lw_g (lw_at lw_m8 10 rfl) rfl
theorem q1828 : (Jvm.Cond.code ({ cls := "ShutDaysModel", name := "knocks", desc := "(IZ)I" } : Jvm.MethodName) prog_19_method_96_code (3 : Nat) (Option.some Jvm.ClassFile.FieldType.int)) ∈ lw_all := lw_g (lw_at lw_m8 11 rfl) rfl
theorem q1829 : (Jvm.Cond.methodLink "ShutDaysModel" (393 : Nat) ({ cls := "ShutDaysModel", name := "knocksAt", desc := "(II)I" } : Jvm.MethodName)) ∈ lw_all := lw_g (lw_at lw_m8 12 rfl) rfl
theorem q1830 : (Jvm.Cond.privateMethod ({ cls := "ShutDaysModel", name := "knocksAt", desc := "(II)I" } : Jvm.MethodName)) ∈ lw_tbl := lw_at lw_m8 13 rfl
theorem q1831 : (Jvm.Cond.instanceMethod ({ cls := "ShutDaysModel", name := "knocksAt", desc := "(II)I" } : Jvm.MethodName)) ∈ lw_all := lw_g (lw_at lw_m8 14 rfl) rfl
theorem q1832 : (Jvm.Cond.code ({ cls := "ShutDaysModel", name := "knocksAt", desc := "(II)I" } : Jvm.MethodName) prog_19_method_95_code (5 : Nat) (Option.some Jvm.ClassFile.FieldType.int)) ∈ lw_all := lw_g (lw_at lw_m8 15 rfl) rfl
theorem q1834 : (Jvm.Cond.instanceMethod ({ cls := "ShutDaysModel", name := "offended", desc := "()I" } : Jvm.MethodName)) ∈ lw_all := lw_g (lw_at lw_m8 17 rfl) rfl
theorem q1835 : (Jvm.Cond.selects "ShutDaysModel" ({ cls := "ShutDaysModel", name := "offended", desc := "()I" } : Jvm.MethodName) ({ cls := "ShutDaysModel", name := "offended", desc := "()I" } : Jvm.MethodName)) ∈ lw_all := lw_g (lw_at lw_m8 18 rfl) rfl
theorem q1836 : (Jvm.Cond.code ({ cls := "ShutDaysModel", name := "offended", desc := "()I" } : Jvm.MethodName) prog_19_method_97_code (4 : Nat) (Option.some Jvm.ClassFile.FieldType.int)) ∈ lw_all := lw_g (lw_at lw_m8 19 rfl) rfl
theorem q1838 : (Jvm.Cond.instanceMethod ({ cls := "ShutDaysModel", name := "foretold", desc := "(II)I" } : Jvm.MethodName)) ∈ lw_all := lw_g (lw_at lw_m8 21 rfl) rfl
theorem q1839 : (Jvm.Cond.selects "ShutDaysModel" ({ cls := "ShutDaysModel", name := "foretold", desc := "(II)I" } : Jvm.MethodName) ({ cls := "ShutDaysModel", name := "foretold", desc := "(II)I" } : Jvm.MethodName)) ∈ lw_all := lw_g (lw_at lw_m8 22 rfl) rfl
theorem q1840 : (Jvm.Cond.code ({ cls := "ShutDaysModel", name := "foretold", desc := "(II)I" } : Jvm.MethodName) prog_19_method_101_code (4 : Nat) (Option.some Jvm.ClassFile.FieldType.int)) ∈ lw_all := lw_g (lw_at lw_m8 23 rfl) rfl
theorem q1841 : (Jvm.Cond.methodLink "ShutDaysModel" (396 : Nat) ({ cls := "ShutDaysModel", name := "setAside", desc := "()V" } : Jvm.MethodName)) ∈ lw_all := lw_g (lw_at lw_m8 24 rfl) rfl
theorem q1842 : (Jvm.Cond.privateMethod ({ cls := "ShutDaysModel", name := "setAside", desc := "()V" } : Jvm.MethodName)) ∈ lw_tbl := lw_at lw_m8 25 rfl
theorem q1843 : (Jvm.Cond.instanceMethod ({ cls := "ShutDaysModel", name := "setAside", desc := "()V" } : Jvm.MethodName)) ∈ lw_all := lw_g (lw_at lw_m8 26 rfl) rfl
theorem q1844 : (Jvm.Cond.code ({ cls := "ShutDaysModel", name := "setAside", desc := "()V" } : Jvm.MethodName) prog_19_method_98_code (2 : Nat) (Option.none : Option Jvm.ClassFile.FieldType)) ∈ lw_all := lw_g (lw_at lw_m8 27 rfl) rfl
theorem q1845 : (Jvm.Cond.methodLink "ShutDaysModel" (399 : Nat) ({ cls := "ShutDaysModel", name := "goOn", desc := "(I)V" } : Jvm.MethodName)) ∈ lw_all := lw_g (lw_at lw_m8 28 rfl) rfl
theorem q1846 : (Jvm.Cond.privateMethod ({ cls := "ShutDaysModel", name := "goOn", desc := "(I)V" } : Jvm.MethodName)) ∈ lw_tbl := lw_at lw_m8 29 rfl
theorem q1847 : (Jvm.Cond.instanceMethod ({ cls := "ShutDaysModel", name := "goOn", desc := "(I)V" } : Jvm.MethodName)) ∈ lw_all := lw_g (lw_at lw_m8 30 rfl) rfl
theorem q1848 : (Jvm.Cond.code ({ cls := "ShutDaysModel", name := "goOn", desc := "(I)V" } : Jvm.MethodName) prog_19_method_100_code (3 : Nat) (Option.none : Option Jvm.ClassFile.FieldType)) ∈ lw_all := lw_g (lw_at lw_m8 31 rfl) rfl
theorem q1849 : (Jvm.Cond.methodLink "ShutDaysModel" (402 : Nat) ({ cls := "ShutDaysModel", name := "putBack", desc := "()V" } : Jvm.MethodName)) ∈ lw_all := lw_g (lw_at lw_m8 32 rfl) rfl
theorem q1850 : (Jvm.Cond.privateMethod ({ cls := "ShutDaysModel", name := "putBack", desc := "()V" } : Jvm.MethodName)) ∈ lw_tbl := lw_at lw_m8 33 rfl
theorem q1851 : (Jvm.Cond.instanceMethod ({ cls := "ShutDaysModel", name := "putBack", desc := "()V" } : Jvm.MethodName)) ∈ lw_all := lw_g (lw_at lw_m8 34 rfl) rfl
theorem q1852 : (Jvm.Cond.code ({ cls := "ShutDaysModel", name := "putBack", desc := "()V" } : Jvm.MethodName) prog_19_method_99_code (2 : Nat) (Option.none : Option Jvm.ClassFile.FieldType)) ∈ lw_all := lw_g (lw_at lw_m8 35 rfl) rfl
theorem q1854 : (Jvm.Cond.instanceMethod ({ cls := "ShutDaysModel", name := "poorest", desc := "(I)I" } : Jvm.MethodName)) ∈ lw_all := lw_g (lw_at lw_m8 37 rfl) rfl
theorem q1855 : (Jvm.Cond.selects "ShutDaysModel" ({ cls := "ShutDaysModel", name := "poorest", desc := "(I)I" } : Jvm.MethodName) ({ cls := "ShutDaysModel", name := "poorest", desc := "(I)I" } : Jvm.MethodName)) ∈ lw_all := lw_g (lw_at lw_m8 38 rfl) rfl
theorem q1856 : (Jvm.Cond.code ({ cls := "ShutDaysModel", name := "poorest", desc := "(I)I" } : Jvm.MethodName) prog_19_method_102_code (4 : Nat) (Option.some Jvm.ClassFile.FieldType.int)) ∈ lw_all := lw_g (lw_at lw_m8 39 rfl) rfl
theorem q1858 : (Jvm.Cond.instanceMethod ({ cls := "ShutDaysModel", name := "whose", desc := "(I)I" } : Jvm.MethodName)) ∈ lw_all := lw_g (lw_at lw_m8 41 rfl) rfl
theorem q1859 : (Jvm.Cond.selects "ShutDaysModel" ({ cls := "ShutDaysModel", name := "whose", desc := "(I)I" } : Jvm.MethodName) ({ cls := "ShutDaysModel", name := "whose", desc := "(I)I" } : Jvm.MethodName)) ∈ lw_all := lw_g (lw_at lw_m8 42 rfl) rfl
theorem q1860 : (Jvm.Cond.code ({ cls := "ShutDaysModel", name := "whose", desc := "(I)I" } : Jvm.MethodName) prog_19_method_103_code (8 : Nat) (Option.some Jvm.ClassFile.FieldType.int)) ∈ lw_all := lw_g (lw_at lw_m8 43 rfl) rfl
theorem q1862 : (Jvm.Cond.instanceMethod ({ cls := "ShutDaysModel", name := "indoors", desc := "(I)I" } : Jvm.MethodName)) ∈ lw_all := lw_g (lw_at lw_m8 45 rfl) rfl
theorem q1863 : (Jvm.Cond.selects "ShutDaysModel" ({ cls := "ShutDaysModel", name := "indoors", desc := "(I)I" } : Jvm.MethodName) ({ cls := "ShutDaysModel", name := "indoors", desc := "(I)I" } : Jvm.MethodName)) ∈ lw_all := lw_g (lw_at lw_m8 46 rfl) rfl
theorem q1864 : (Jvm.Cond.code ({ cls := "ShutDaysModel", name := "indoors", desc := "(I)I" } : Jvm.MethodName) prog_19_method_105_code (3 : Nat) (Option.some Jvm.ClassFile.FieldType.int)) ∈ lw_all := lw_g (lw_at lw_m8 47 rfl) rfl
theorem q1865 : (Jvm.Cond.methodLink "ShutDaysModel" (405 : Nat) ({ cls := "ShutDaysModel", name := "shutOn", desc := "(I)I" } : Jvm.MethodName)) ∈ lw_all := lw_g (lw_at lw_m8 48 rfl) rfl
theorem q1866 : (Jvm.Cond.privateMethod ({ cls := "ShutDaysModel", name := "shutOn", desc := "(I)I" } : Jvm.MethodName)) ∈ lw_tbl := lw_at lw_m8 49 rfl
theorem q1867 : (Jvm.Cond.instanceMethod ({ cls := "ShutDaysModel", name := "shutOn", desc := "(I)I" } : Jvm.MethodName)) ∈ lw_all := lw_g (lw_at lw_m8 50 rfl) rfl
theorem q1868 : (Jvm.Cond.code ({ cls := "ShutDaysModel", name := "shutOn", desc := "(I)I" } : Jvm.MethodName) prog_19_method_104_code (4 : Nat) (Option.some Jvm.ClassFile.FieldType.int)) ∈ lw_all := lw_g (lw_at lw_m8 51 rfl) rfl
theorem q1870 : (Jvm.Cond.instanceMethod ({ cls := "ShutDaysModel", name := "crowded", desc := "(Z)I" } : Jvm.MethodName)) ∈ lw_all := lw_g (lw_at lw_m8 53 rfl) rfl
theorem q1871 : (Jvm.Cond.selects "ShutDaysModel" ({ cls := "ShutDaysModel", name := "crowded", desc := "(Z)I" } : Jvm.MethodName) ({ cls := "ShutDaysModel", name := "crowded", desc := "(Z)I" } : Jvm.MethodName)) ∈ lw_all := lw_g (lw_at lw_m8 54 rfl) rfl
theorem q1872 : (Jvm.Cond.code ({ cls := "ShutDaysModel", name := "crowded", desc := "(Z)I" } : Jvm.MethodName) prog_19_method_106_code (4 : Nat) (Option.some Jvm.ClassFile.FieldType.int)) ∈ lw_all := lw_g (lw_at lw_m8 55 rfl) rfl
theorem q1874 : (Jvm.Cond.instanceMethod ({ cls := "ShutDaysModel", name := "feast", desc := "(Z)I" } : Jvm.MethodName)) ∈ lw_all := lw_g (lw_at lw_m8 57 rfl) rfl
theorem q1875 : (Jvm.Cond.selects "ShutDaysModel" ({ cls := "ShutDaysModel", name := "feast", desc := "(Z)I" } : Jvm.MethodName) ({ cls := "ShutDaysModel", name := "feast", desc := "(Z)I" } : Jvm.MethodName)) ∈ lw_all := lw_g (lw_at lw_m8 58 rfl) rfl
theorem q1876 : (Jvm.Cond.code ({ cls := "ShutDaysModel", name := "feast", desc := "(Z)I" } : Jvm.MethodName) prog_19_method_108_code (4 : Nat) (Option.some Jvm.ClassFile.FieldType.int)) ∈ lw_all := lw_g (lw_at lw_m8 59 rfl) rfl
theorem q1877 : (Jvm.Cond.methodLink "ShutDaysModel" (408 : Nat) ({ cls := "ShutDaysModel", name := "friendsOn", desc := "(I)I" } : Jvm.MethodName)) ∈ lw_all := lw_g (lw_at lw_m8 60 rfl) rfl
theorem q1878 : (Jvm.Cond.privateMethod ({ cls := "ShutDaysModel", name := "friendsOn", desc := "(I)I" } : Jvm.MethodName)) ∈ lw_tbl := lw_at lw_m8 61 rfl
theorem q1879 : (Jvm.Cond.instanceMethod ({ cls := "ShutDaysModel", name := "friendsOn", desc := "(I)I" } : Jvm.MethodName)) ∈ lw_all := lw_g (lw_at lw_m8 62 rfl) rfl
theorem q1880 : (Jvm.Cond.code ({ cls := "ShutDaysModel", name := "friendsOn", desc := "(I)I" } : Jvm.MethodName) prog_19_method_107_code (4 : Nat) (Option.some Jvm.ClassFile.FieldType.int)) ∈ lw_all := lw_g (lw_at lw_m8 63 rfl) rfl
theorem q1882 : (Jvm.Cond.instanceMethod ({ cls := "ShutDaysModel", name := "alone", desc := "()I" } : Jvm.MethodName)) ∈ lw_all := lw_g (lw_at lw_m8 65 rfl) rfl
theorem q1883 : (Jvm.Cond.selects "ShutDaysModel" ({ cls := "ShutDaysModel", name := "alone", desc := "()I" } : Jvm.MethodName) ({ cls := "ShutDaysModel", name := "alone", desc := "()I" } : Jvm.MethodName)) ∈ lw_all := lw_g (lw_at lw_m8 66 rfl) rfl
theorem q1884 : (Jvm.Cond.code ({ cls := "ShutDaysModel", name := "alone", desc := "()I" } : Jvm.MethodName) prog_19_method_109_code (5 : Nat) (Option.some Jvm.ClassFile.FieldType.int)) ∈ lw_all := lw_g (lw_at lw_m8 67 rfl) rfl
theorem q1886 : (Jvm.Cond.instanceMethod ({ cls := "ShutDaysModel", name := "nobodys", desc := "()I" } : Jvm.MethodName)) ∈ lw_all := lw_g (lw_at lw_m8 69 rfl) rfl
theorem q1887 : (Jvm.Cond.selects "ShutDaysModel" ({ cls := "ShutDaysModel", name := "nobodys", desc := "()I" } : Jvm.MethodName) ({ cls := "ShutDaysModel", name := "nobodys", desc := "()I" } : Jvm.MethodName)) ∈ lw_all := lw_g (lw_at lw_m8 70 rfl) rfl
theorem q1888 : (Jvm.Cond.code ({ cls := "ShutDaysModel", name := "nobodys", desc := "()I" } : Jvm.MethodName) prog_19_method_110_code (3 : Nat) (Option.some Jvm.ClassFile.FieldType.int)) ∈ lw_all := lw_g (lw_at lw_m8 71 rfl) rfl
theorem q1890 : (Jvm.Cond.instanceMethod ({ cls := "ShutDaysModel", name := "seen", desc := "(IIZ)I" } : Jvm.MethodName)) ∈ lw_all := lw_g (lw_at lw_m8 73 rfl) rfl
theorem q1891 : (Jvm.Cond.selects "ShutDaysModel" ({ cls := "ShutDaysModel", name := "seen", desc := "(IIZ)I" } : Jvm.MethodName) ({ cls := "ShutDaysModel", name := "seen", desc := "(IIZ)I" } : Jvm.MethodName)) ∈ lw_all := lw_g (lw_at lw_m8 74 rfl) rfl
theorem q1892 : (Jvm.Cond.code ({ cls := "ShutDaysModel", name := "seen", desc := "(IIZ)I" } : Jvm.MethodName) prog_19_method_111_code (5 : Nat) (Option.some Jvm.ClassFile.FieldType.int)) ∈ lw_all := lw_g (lw_at lw_m8 75 rfl) rfl
theorem q1894 : (Jvm.Cond.instanceMethod ({ cls := "ShutDaysModel", name := "sets", desc := "(IIZ)I" } : Jvm.MethodName)) ∈ lw_all := lw_g (lw_at lw_m8 77 rfl) rfl
theorem q1895 : (Jvm.Cond.selects "ShutDaysModel" ({ cls := "ShutDaysModel", name := "sets", desc := "(IIZ)I" } : Jvm.MethodName) ({ cls := "ShutDaysModel", name := "sets", desc := "(IIZ)I" } : Jvm.MethodName)) ∈ lw_all := lw_g (lw_at lw_m8 78 rfl) rfl
theorem q1896 : (Jvm.Cond.code ({ cls := "ShutDaysModel", name := "sets", desc := "(IIZ)I" } : Jvm.MethodName) prog_19_method_115_code (4 : Nat) (Option.some Jvm.ClassFile.FieldType.int)) ∈ lw_all := lw_g (lw_at lw_m8 79 rfl) rfl
theorem q1897 : (Jvm.Cond.methodLink "ShutDaysModel" (430 : Nat) ({ cls := "ShutDaysModel", name := "laySets", desc := "(II)V" } : Jvm.MethodName)) ∈ lw_all := lw_g (lw_at lw_m8 80 rfl) rfl
theorem q1898 : (Jvm.Cond.privateMethod ({ cls := "ShutDaysModel", name := "laySets", desc := "(II)V" } : Jvm.MethodName)) ∈ lw_tbl := lw_at lw_m8 81 rfl
theorem q1899 : (Jvm.Cond.instanceMethod ({ cls := "ShutDaysModel", name := "laySets", desc := "(II)V" } : Jvm.MethodName)) ∈ lw_all := lw_g (lw_at lw_m8 82 rfl) rfl
theorem q1900 : (Jvm.Cond.code ({ cls := "ShutDaysModel", name := "laySets", desc := "(II)V" } : Jvm.MethodName) prog_19_method_114_code (6 : Nat) (Option.none : Option Jvm.ClassFile.FieldType)) ∈ lw_all := lw_g (lw_at lw_m8 83 rfl) rfl
theorem q1901 : (Jvm.Cond.methodLink "ShutDaysModel" (423 : Nat) ({ cls := "ShutDaysModel", name := "note", desc := "(II)V" } : Jvm.MethodName)) ∈ lw_all := lw_g (lw_at lw_m8 84 rfl) rfl
theorem q1902 : (Jvm.Cond.privateMethod ({ cls := "ShutDaysModel", name := "note", desc := "(II)V" } : Jvm.MethodName)) ∈ lw_tbl := lw_at lw_m8 85 rfl
theorem q1903 : (Jvm.Cond.instanceMethod ({ cls := "ShutDaysModel", name := "note", desc := "(II)V" } : Jvm.MethodName)) ∈ lw_all := lw_g (lw_at lw_m8 86 rfl) rfl
theorem q1904 : (Jvm.Cond.code ({ cls := "ShutDaysModel", name := "note", desc := "(II)V" } : Jvm.MethodName) prog_19_method_112_code (3 : Nat) (Option.none : Option Jvm.ClassFile.FieldType)) ∈ lw_all := lw_g (lw_at lw_m8 87 rfl) rfl
theorem q1905 : (Jvm.Cond.constant "ShutDaysModel" (426 : Nat) (1048575 : Int32)) ∈ lw_all := lw_g (lw_at lw_m8 88 rfl) rfl
theorem q1906 : (Jvm.Cond.methodLink "ShutDaysModel" (427 : Nat) ({ cls := "ShutDaysModel", name := "count", desc := "(I)V" } : Jvm.MethodName)) ∈ lw_all := lw_g (lw_at lw_m8 89 rfl) rfl
theorem q1907 : (Jvm.Cond.privateMethod ({ cls := "ShutDaysModel", name := "count", desc := "(I)V" } : Jvm.MethodName)) ∈ lw_tbl := lw_at lw_m8 90 rfl
theorem q1908 : (Jvm.Cond.instanceMethod ({ cls := "ShutDaysModel", name := "count", desc := "(I)V" } : Jvm.MethodName)) ∈ lw_all := lw_g (lw_at lw_m8 91 rfl) rfl
theorem q1909 : (Jvm.Cond.code ({ cls := "ShutDaysModel", name := "count", desc := "(I)V" } : Jvm.MethodName) prog_19_method_113_code (3 : Nat) (Option.none : Option Jvm.ClassFile.FieldType)) ∈ lw_all := lw_g (lw_at lw_m8 92 rfl) rfl
theorem q1911 : (Jvm.Cond.instanceMethod ({ cls := "ShutDaysModel", name := "odds", desc := "(IIIZ)I" } : Jvm.MethodName)) ∈ lw_all := lw_g (lw_at lw_m8 94 rfl) rfl
theorem q1912 : (Jvm.Cond.selects "ShutDaysModel" ({ cls := "ShutDaysModel", name := "odds", desc := "(IIIZ)I" } : Jvm.MethodName) ({ cls := "ShutDaysModel", name := "odds", desc := "(IIIZ)I" } : Jvm.MethodName)) ∈ lw_all := lw_g (lw_at lw_m8 95 rfl) rfl
theorem q1913 : (Jvm.Cond.code ({ cls := "ShutDaysModel", name := "odds", desc := "(IIIZ)I" } : Jvm.MethodName) prog_19_method_117_code (5 : Nat) (Option.some Jvm.ClassFile.FieldType.int)) ∈ lw_all := lw_g (lw_at lw_m8 96 rfl) rfl
theorem q1914 : (Jvm.Cond.methodLink "ShutDaysModel" (433 : Nat) ({ cls := "ShutDaysModel", name := "common", desc := "(II)I" } : Jvm.MethodName)) ∈ lw_all := lw_g (lw_at lw_m8 97 rfl) rfl
theorem q1915 : (Jvm.Cond.static ({ cls := "ShutDaysModel", name := "common", desc := "(II)I" } : Jvm.MethodName)) ∈ lw_all := lw_g (lw_at lw_m8 98 rfl) rfl
theorem q1916 : (Jvm.Cond.code ({ cls := "ShutDaysModel", name := "common", desc := "(II)I" } : Jvm.MethodName) prog_19_method_116_code (5 : Nat) (Option.some Jvm.ClassFile.FieldType.int)) ∈ lw_all := lw_g (lw_at lw_m8 99 rfl) rfl
theorem q1918 : (Jvm.Cond.instanceMethod ({ cls := "ShutDaysModel", name := "nextKnock", desc := "(II)I" } : Jvm.MethodName)) ∈ lw_all := lw_g (lw_at lw_m8 101 rfl) rfl
theorem q1919 : (Jvm.Cond.selects "ShutDaysModel" ({ cls := "ShutDaysModel", name := "nextKnock", desc := "(II)I" } : Jvm.MethodName) ({ cls := "ShutDaysModel", name := "nextKnock", desc := "(II)I" } : Jvm.MethodName)) ∈ lw_all := lw_g (lw_at lw_m8 102 rfl) rfl
theorem q1920 : (Jvm.Cond.code ({ cls := "ShutDaysModel", name := "nextKnock", desc := "(II)I" } : Jvm.MethodName) prog_19_method_118_code (7 : Nat) (Option.some Jvm.ClassFile.FieldType.int)) ∈ lw_all := lw_g (lw_at lw_m8 103 rfl) rfl
theorem q1921 : (Jvm.Cond.constant "ShutDaysModel" (436 : Nat) (1000000000 : Int32)) ∈ lw_all := lw_g (lw_at lw_m8 104 rfl) rfl
theorem q1923 : (Jvm.Cond.instanceMethod ({ cls := "ShutDaysModel", name := "thieves", desc := "(IIZ)I" } : Jvm.MethodName)) ∈ lw_all := lw_g (lw_at lw_m8 106 rfl) rfl
theorem q1924 : (Jvm.Cond.selects "ShutDaysModel" ({ cls := "ShutDaysModel", name := "thieves", desc := "(IIZ)I" } : Jvm.MethodName) ({ cls := "ShutDaysModel", name := "thieves", desc := "(IIZ)I" } : Jvm.MethodName)) ∈ lw_all := lw_g (lw_at lw_m8 107 rfl) rfl
theorem q1925 : (Jvm.Cond.code ({ cls := "ShutDaysModel", name := "thieves", desc := "(IIZ)I" } : Jvm.MethodName) prog_19_method_120_code (4 : Nat) (Option.some Jvm.ClassFile.FieldType.int)) ∈ lw_all := lw_g (lw_at lw_m8 108 rfl) rfl
theorem q1926 : (Jvm.Cond.methodLink "ShutDaysModel" (443 : Nat) ({ cls := "ShutDaysModel", name := "layThieves", desc := "(II)V" } : Jvm.MethodName)) ∈ lw_all := lw_g (lw_at lw_m8 109 rfl) rfl
theorem q1927 : (Jvm.Cond.privateMethod ({ cls := "ShutDaysModel", name := "layThieves", desc := "(II)V" } : Jvm.MethodName)) ∈ lw_tbl := lw_at lw_m8 110 rfl
theorem q1928 : (Jvm.Cond.instanceMethod ({ cls := "ShutDaysModel", name := "layThieves", desc := "(II)V" } : Jvm.MethodName)) ∈ lw_all := lw_g (lw_at lw_m8 111 rfl) rfl
theorem q1929 : (Jvm.Cond.code ({ cls := "ShutDaysModel", name := "layThieves", desc := "(II)V" } : Jvm.MethodName) prog_19_method_119_code (7 : Nat) (Option.none : Option Jvm.ClassFile.FieldType)) ∈ lw_all := lw_g (lw_at lw_m8 112 rfl) rfl
theorem q1931 : (Jvm.Cond.instanceMethod ({ cls := "ShutDaysModel", name := "night", desc := "(I)I" } : Jvm.MethodName)) ∈ lw_all := lw_g (lw_at lw_m8 114 rfl) rfl
theorem q1932 : (Jvm.Cond.selects "ShutDaysModel" ({ cls := "ShutDaysModel", name := "night", desc := "(I)I" } : Jvm.MethodName) ({ cls := "ShutDaysModel", name := "night", desc := "(I)I" } : Jvm.MethodName)) ∈ lw_all := lw_g (lw_at lw_m8 115 rfl) rfl
theorem q1933 : (Jvm.Cond.code ({ cls := "ShutDaysModel", name := "night", desc := "(I)I" } : Jvm.MethodName) prog_19_method_121_code (5 : Nat) (Option.some Jvm.ClassFile.FieldType.int)) ∈ lw_all := lw_g (lw_at lw_m8 116 rfl) rfl
theorem q1935 : (Jvm.Cond.instanceMethod ({ cls := "ShutDaysModel", name := "appointments", desc := "(II)I" } : Jvm.MethodName)) ∈ lw_all := lw_g (lw_at lw_m8 118 rfl) rfl
theorem q1936 : (Jvm.Cond.selects "ShutDaysModel" ({ cls := "ShutDaysModel", name := "appointments", desc := "(II)I" } : Jvm.MethodName) ({ cls := "ShutDaysModel", name := "appointments", desc := "(II)I" } : Jvm.MethodName)) ∈ lw_all := lw_g (lw_at lw_m8 119 rfl) rfl
theorem q1937 : (Jvm.Cond.code ({ cls := "ShutDaysModel", name := "appointments", desc := "(II)I" } : Jvm.MethodName) prog_19_method_125_code (7 : Nat) (Option.some Jvm.ClassFile.FieldType.int)) ∈ lw_all := lw_g (lw_at lw_m8 120 rfl) rfl
theorem q1938 : (Jvm.Cond.methodLink "ShutDaysModel" (446 : Nat) ({ cls := "ShutDaysModel", name := "areHere", desc := "(I)Z" } : Jvm.MethodName)) ∈ lw_all := lw_g (lw_at lw_m8 121 rfl) rfl
theorem q1939 : (Jvm.Cond.privateMethod ({ cls := "ShutDaysModel", name := "areHere", desc := "(I)Z" } : Jvm.MethodName)) ∈ lw_tbl := lw_at lw_m8 122 rfl
theorem q1940 : (Jvm.Cond.instanceMethod ({ cls := "ShutDaysModel", name := "areHere", desc := "(I)Z" } : Jvm.MethodName)) ∈ lw_all := lw_g (lw_at lw_m8 123 rfl) rfl
theorem q1941 : (Jvm.Cond.code ({ cls := "ShutDaysModel", name := "areHere", desc := "(I)Z" } : Jvm.MethodName) prog_19_method_124_code (3 : Nat) (Option.some Jvm.ClassFile.FieldType.boolean)) ∈ lw_all := lw_g (lw_at lw_m8 124 rfl) rfl
theorem q1942 : (Jvm.Cond.methodLink "ShutDaysModel" (449 : Nat) ({ cls := "ShutDaysModel", name := "layMembers", desc := "(I)I" } : Jvm.MethodName)) ∈ lw_all := lw_g (lw_at lw_m8 125 rfl) rfl
theorem q1943 : (Jvm.Cond.privateMethod ({ cls := "ShutDaysModel", name := "layMembers", desc := "(I)I" } : Jvm.MethodName)) ∈ lw_tbl := lw_at lw_m8 126 rfl
theorem q1944 : (Jvm.Cond.instanceMethod ({ cls := "ShutDaysModel", name := "layMembers", desc := "(I)I" } : Jvm.MethodName)) ∈ lw_all := lw_g (lw_at lw_m8 127 rfl) rfl
theorem q1945 : (Jvm.Cond.code ({ cls := "ShutDaysModel", name := "layMembers", desc := "(I)I" } : Jvm.MethodName) prog_19_method_123_code (4 : Nat) (Option.some Jvm.ClassFile.FieldType.int)) ∈ lw_all := lw_g (lw_at lw_m8 128 rfl) rfl
theorem q1946 : (Jvm.Cond.methodLink "ShutDaysModel" (452 : Nat) ({ cls := "ShutDaysModel", name := "isLaid", desc := "(III)Z" } : Jvm.MethodName)) ∈ lw_all := lw_g (lw_at lw_m8 129 rfl) rfl
theorem q1947 : (Jvm.Cond.privateMethod ({ cls := "ShutDaysModel", name := "isLaid", desc := "(III)Z" } : Jvm.MethodName)) ∈ lw_tbl := lw_at lw_m8 130 rfl
theorem q1948 : (Jvm.Cond.instanceMethod ({ cls := "ShutDaysModel", name := "isLaid", desc := "(III)Z" } : Jvm.MethodName)) ∈ lw_all := lw_g (lw_at lw_m8 131 rfl) rfl
theorem q1949 : (Jvm.Cond.code ({ cls := "ShutDaysModel", name := "isLaid", desc := "(III)Z" } : Jvm.MethodName) prog_19_method_122_code (8 : Nat) (Option.some Jvm.ClassFile.FieldType.boolean)) ∈ lw_all := lw_g (lw_at lw_m8 132 rfl) rfl
theorem q1951 : (Jvm.Cond.instanceMethod ({ cls := "ShutDaysModel", name := "rounds", desc := "()I" } : Jvm.MethodName)) ∈ lw_all := lw_g (lw_at lw_m8 134 rfl) rfl
theorem q1952 : (Jvm.Cond.selects "ShutDaysModel" ({ cls := "ShutDaysModel", name := "rounds", desc := "()I" } : Jvm.MethodName) ({ cls := "ShutDaysModel", name := "rounds", desc := "()I" } : Jvm.MethodName)) ∈ lw_all := lw_g (lw_at lw_m8 135 rfl) rfl
theorem q1953 : (Jvm.Cond.code ({ cls := "ShutDaysModel", name := "rounds", desc := "()I" } : Jvm.MethodName) prog_19_method_127_code (4 : Nat) (Option.some Jvm.ClassFile.FieldType.int)) ∈ lw_all := lw_g (lw_at lw_m8 136 rfl) rfl
theorem q1954 : (Jvm.Cond.methodLink "ShutDaysModel" (455 : Nat) ({ cls := "ShutDaysModel", name := "isRound", desc := "(I)Z" } : Jvm.MethodName)) ∈ lw_all := lw_g (lw_at lw_m8 137 rfl) rfl
theorem q1955 : (Jvm.Cond.privateMethod ({ cls := "ShutDaysModel", name := "isRound", desc := "(I)Z" } : Jvm.MethodName)) ∈ lw_tbl := lw_at lw_m8 138 rfl
theorem q1956 : (Jvm.Cond.instanceMethod ({ cls := "ShutDaysModel", name := "isRound", desc := "(I)Z" } : Jvm.MethodName)) ∈ lw_all := lw_g (lw_at lw_m8 139 rfl) rfl
theorem q1957 : (Jvm.Cond.code ({ cls := "ShutDaysModel", name := "isRound", desc := "(I)Z" } : Jvm.MethodName) prog_19_method_126_code (3 : Nat) (Option.some Jvm.ClassFile.FieldType.boolean)) ∈ lw_all := lw_g (lw_at lw_m8 140 rfl) rfl
theorem q1959 : (Jvm.Cond.instanceMethod ({ cls := "ShutDaysModel", name := "weddings", desc := "(I)I" } : Jvm.MethodName)) ∈ lw_all := lw_g (lw_at lw_m8 142 rfl) rfl
theorem q1960 : (Jvm.Cond.selects "ShutDaysModel" ({ cls := "ShutDaysModel", name := "weddings", desc := "(I)I" } : Jvm.MethodName) ({ cls := "ShutDaysModel", name := "weddings", desc := "(I)I" } : Jvm.MethodName)) ∈ lw_all := lw_g (lw_at lw_m8 143 rfl) rfl
theorem q1961 : (Jvm.Cond.code ({ cls := "ShutDaysModel", name := "weddings", desc := "(I)I" } : Jvm.MethodName) prog_19_method_132_code (3 : Nat) (Option.some Jvm.ClassFile.FieldType.int)) ∈ lw_all := lw_g (lw_at lw_m8 144 rfl) rfl
theorem q1962 : (Jvm.Cond.methodLink "ShutDaysModel" (467 : Nat) ({ cls := "ShutDaysModel", name := "wed", desc := "()I" } : Jvm.MethodName)) ∈ lw_all := lw_g (lw_at lw_m8 145 rfl) rfl
theorem q1963 : (Jvm.Cond.privateMethod ({ cls := "ShutDaysModel", name := "wed", desc := "()I" } : Jvm.MethodName)) ∈ lw_tbl := lw_at lw_m8 146 rfl
theorem q1964 : (Jvm.Cond.instanceMethod ({ cls := "ShutDaysModel", name := "wed", desc := "()I" } : Jvm.MethodName)) ∈ lw_all := lw_g (lw_at lw_m8 147 rfl) rfl
theorem q1965 : (Jvm.Cond.code ({ cls := "ShutDaysModel", name := "wed", desc := "()I" } : Jvm.MethodName) prog_19_method_131_code (5 : Nat) (Option.some Jvm.ClassFile.FieldType.int)) ∈ lw_all := lw_g (lw_at lw_m8 148 rfl) rfl
theorem q1966 : (Jvm.Cond.methodLink "ShutDaysModel" (461 : Nat) ({ cls := "ShutDaysModel", name := "sharedNow", desc := "()I" } : Jvm.MethodName)) ∈ lw_all := lw_g (lw_at lw_m8 149 rfl) rfl
theorem q1967 : (Jvm.Cond.privateMethod ({ cls := "ShutDaysModel", name := "sharedNow", desc := "()I" } : Jvm.MethodName)) ∈ lw_tbl := lw_at lw_m8 150 rfl
theorem q1968 : (Jvm.Cond.instanceMethod ({ cls := "ShutDaysModel", name := "sharedNow", desc := "()I" } : Jvm.MethodName)) ∈ lw_all := lw_g (lw_at lw_m8 151 rfl) rfl
theorem q1969 : (Jvm.Cond.code ({ cls := "ShutDaysModel", name := "sharedNow", desc := "()I" } : Jvm.MethodName) prog_19_method_128_code (3 : Nat) (Option.some Jvm.ClassFile.FieldType.int)) ∈ lw_all := lw_g (lw_at lw_m8 152 rfl) rfl
theorem q1970 : (Jvm.Cond.methodLink "ShutDaysModel" (464 : Nat) ({ cls := "ShutDaysModel", name := "nextRow", desc := "()Z" } : Jvm.MethodName)) ∈ lw_all := lw_g (lw_at lw_m8 153 rfl) rfl
theorem q1971 : (Jvm.Cond.privateMethod ({ cls := "ShutDaysModel", name := "nextRow", desc := "()Z" } : Jvm.MethodName)) ∈ lw_tbl := lw_at lw_m8 154 rfl
theorem q1972 : (Jvm.Cond.instanceMethod ({ cls := "ShutDaysModel", name := "nextRow", desc := "()Z" } : Jvm.MethodName)) ∈ lw_all := lw_g (lw_at lw_m8 155 rfl) rfl
theorem q1973 : (Jvm.Cond.code ({ cls := "ShutDaysModel", name := "nextRow", desc := "()Z" } : Jvm.MethodName) prog_19_method_130_code (4 : Nat) (Option.some Jvm.ClassFile.FieldType.boolean)) ∈ lw_all := lw_g (lw_at lw_m8 156 rfl) rfl
theorem q1974 : (Jvm.Cond.methodLink "ShutDaysModel" (458 : Nat) ({ cls := "ShutDaysModel", name := "nextMate", desc := "(II)I" } : Jvm.MethodName)) ∈ lw_all := lw_g (lw_at lw_m8 157 rfl) rfl
theorem q1975 : (Jvm.Cond.privateMethod ({ cls := "ShutDaysModel", name := "nextMate", desc := "(II)I" } : Jvm.MethodName)) ∈ lw_tbl := lw_at lw_m8 158 rfl
theorem q1976 : (Jvm.Cond.instanceMethod ({ cls := "ShutDaysModel", name := "nextMate", desc := "(II)I" } : Jvm.MethodName)) ∈ lw_all := lw_g (lw_at lw_m8 159 rfl) rfl
theorem q1977 : (Jvm.Cond.code ({ cls := "ShutDaysModel", name := "nextMate", desc := "(II)I" } : Jvm.MethodName) prog_19_method_129_code (4 : Nat) (Option.some Jvm.ClassFile.FieldType.int)) ∈ lw_all := lw_g (lw_at lw_m8 160 rfl) rfl
theorem q1979 : (Jvm.Cond.instanceMethod ({ cls := "ShutDaysModel", name := "twins", desc := "()I" } : Jvm.MethodName)) ∈ lw_all := lw_g (lw_at lw_m8 162 rfl) rfl
theorem q1980 : (Jvm.Cond.selects "ShutDaysModel" ({ cls := "ShutDaysModel", name := "twins", desc := "()I" } : Jvm.MethodName) ({ cls := "ShutDaysModel", name := "twins", desc := "()I" } : Jvm.MethodName)) ∈ lw_all := lw_g (lw_at lw_m8 163 rfl) rfl
theorem q1981 : (Jvm.Cond.code ({ cls := "ShutDaysModel", name := "twins", desc := "()I" } : Jvm.MethodName) prog_19_method_133_code (4 : Nat) (Option.some Jvm.ClassFile.FieldType.int)) ∈ lw_all := lw_g (lw_at lw_m8 164 rfl) rfl
theorem q1983 : (Jvm.Cond.instanceMethod ({ cls := "ShutDaysModel", name := "gossip", desc := "(II)I" } : Jvm.MethodName)) ∈ lw_all := lw_g (lw_at lw_m8 166 rfl) rfl
theorem q1984 : (Jvm.Cond.selects "ShutDaysModel" ({ cls := "ShutDaysModel", name := "gossip", desc := "(II)I" } : Jvm.MethodName) ({ cls := "ShutDaysModel", name := "gossip", desc := "(II)I" } : Jvm.MethodName)) ∈ lw_all := lw_g (lw_at lw_m8 167 rfl) rfl
theorem q1985 : (Jvm.Cond.code ({ cls := "ShutDaysModel", name := "gossip", desc := "(II)I" } : Jvm.MethodName) prog_19_method_134_code (3 : Nat) (Option.some Jvm.ClassFile.FieldType.int)) ∈ lw_all := lw_g (lw_at lw_m8 168 rfl) rfl
theorem q1987 : (Jvm.Cond.instanceMethod ({ cls := "ShutDaysModel", name := "knows", desc := "(II)I" } : Jvm.MethodName)) ∈ lw_all := lw_g (lw_at lw_m8 170 rfl) rfl
theorem q1988 : (Jvm.Cond.selects "ShutDaysModel" ({ cls := "ShutDaysModel", name := "knows", desc := "(II)I" } : Jvm.MethodName) ({ cls := "ShutDaysModel", name := "knows", desc := "(II)I" } : Jvm.MethodName)) ∈ lw_all := lw_g (lw_at lw_m8 171 rfl) rfl
theorem q1989 : (Jvm.Cond.code ({ cls := "ShutDaysModel", name := "knows", desc := "(II)I" } : Jvm.MethodName) prog_19_method_136_code (5 : Nat) (Option.some Jvm.ClassFile.FieldType.int)) ∈ lw_all := lw_g (lw_at lw_m8 172 rfl) rfl
theorem q1990 : (Jvm.Cond.methodLink "ShutDaysModel" (470 : Nat) ({ cls := "ShutDaysModel", name := "spread", desc := "(I)I" } : Jvm.MethodName)) ∈ lw_all := lw_g (lw_at lw_m8 173 rfl) rfl
theorem q1991 : (Jvm.Cond.privateMethod ({ cls := "ShutDaysModel", name := "spread", desc := "(I)I" } : Jvm.MethodName)) ∈ lw_tbl := lw_at lw_m8 174 rfl
theorem q1992 : (Jvm.Cond.instanceMethod ({ cls := "ShutDaysModel", name := "spread", desc := "(I)I" } : Jvm.MethodName)) ∈ lw_all := lw_g (lw_at lw_m8 175 rfl) rfl
theorem q1993 : (Jvm.Cond.code ({ cls := "ShutDaysModel", name := "spread", desc := "(I)I" } : Jvm.MethodName) prog_19_method_135_code (4 : Nat) (Option.some Jvm.ClassFile.FieldType.int)) ∈ lw_all := lw_g (lw_at lw_m8 176 rfl) rfl
theorem q1995 : (Jvm.Cond.instanceMethod ({ cls := "ShutDaysModel", name := "never", desc := "(I)I" } : Jvm.MethodName)) ∈ lw_all := lw_g (lw_at lw_m8 178 rfl) rfl
theorem q1996 : (Jvm.Cond.selects "ShutDaysModel" ({ cls := "ShutDaysModel", name := "never", desc := "(I)I" } : Jvm.MethodName) ({ cls := "ShutDaysModel", name := "never", desc := "(I)I" } : Jvm.MethodName)) ∈ lw_all := lw_g (lw_at lw_m8 179 rfl) rfl
theorem q1997 : (Jvm.Cond.code ({ cls := "ShutDaysModel", name := "never", desc := "(I)I" } : Jvm.MethodName) prog_19_method_137_code (4 : Nat) (Option.some Jvm.ClassFile.FieldType.int)) ∈ lw_all := lw_g (lw_at lw_m8 180 rfl) rfl
theorem q1999 : (Jvm.Cond.instanceMethod ({ cls := "ShutDaysModel", name := "richest", desc := "(Z)I" } : Jvm.MethodName)) ∈ lw_all := lw_g (lw_at lw_m8 182 rfl) rfl
theorem q2000 : (Jvm.Cond.selects "ShutDaysModel" ({ cls := "ShutDaysModel", name := "richest", desc := "(Z)I" } : Jvm.MethodName) ({ cls := "ShutDaysModel", name := "richest", desc := "(Z)I" } : Jvm.MethodName)) ∈ lw_all := lw_g (lw_at lw_m8 183 rfl) rfl
theorem q2001 : (Jvm.Cond.code ({ cls := "ShutDaysModel", name := "richest", desc := "(Z)I" } : Jvm.MethodName) prog_19_method_139_code (4 : Nat) (Option.some Jvm.ClassFile.FieldType.int)) ∈ lw_all := lw_g (lw_at lw_m8 184 rfl) rfl
theorem q2002 : (Jvm.Cond.methodLink "ShutDaysModel" (473 : Nat) ({ cls := "ShutDaysModel", name := "earnedOn", desc := "(I)I" } : Jvm.MethodName)) ∈ lw_all := lw_g (lw_at lw_m8 185 rfl) rfl
theorem q2003 : (Jvm.Cond.privateMethod ({ cls := "ShutDaysModel", name := "earnedOn", desc := "(I)I" } : Jvm.MethodName)) ∈ lw_tbl := lw_at lw_m8 186 rfl
theorem q2004 : (Jvm.Cond.instanceMethod ({ cls := "ShutDaysModel", name := "earnedOn", desc := "(I)I" } : Jvm.MethodName)) ∈ lw_all := lw_g (lw_at lw_m8 187 rfl) rfl
theorem q2005 : (Jvm.Cond.code ({ cls := "ShutDaysModel", name := "earnedOn", desc := "(I)I" } : Jvm.MethodName) prog_19_method_138_code (5 : Nat) (Option.some Jvm.ClassFile.FieldType.int)) ∈ lw_all := lw_g (lw_at lw_m8 188 rfl) rfl
theorem q2007 : (Jvm.Cond.instanceMethod ({ cls := "ShutDaysModel", name := "leap", desc := "(II)I" } : Jvm.MethodName)) ∈ lw_all := lw_g (lw_at lw_m8 190 rfl) rfl
theorem q2008 : (Jvm.Cond.selects "ShutDaysModel" ({ cls := "ShutDaysModel", name := "leap", desc := "(II)I" } : Jvm.MethodName) ({ cls := "ShutDaysModel", name := "leap", desc := "(II)I" } : Jvm.MethodName)) ∈ lw_all := lw_g (lw_at lw_m8 191 rfl) rfl
theorem q2009 : (Jvm.Cond.code ({ cls := "ShutDaysModel", name := "leap", desc := "(II)I" } : Jvm.MethodName) prog_19_method_141_code (4 : Nat) (Option.some Jvm.ClassFile.FieldType.int)) ∈ lw_all := lw_g (lw_at lw_m8 192 rfl) rfl
theorem q2010 : (Jvm.Cond.methodLink "ShutDaysModel" (476 : Nat) ({ cls := "ShutDaysModel", name := "later", desc := "(II)I" } : Jvm.MethodName)) ∈ lw_all := lw_g (lw_at lw_m8 193 rfl) rfl
theorem q2011 : (Jvm.Cond.static ({ cls := "ShutDaysModel", name := "later", desc := "(II)I" } : Jvm.MethodName)) ∈ lw_all := lw_g (lw_at lw_m8 194 rfl) rfl
theorem q2012 : (Jvm.Cond.code ({ cls := "ShutDaysModel", name := "later", desc := "(II)I" } : Jvm.MethodName) prog_19_method_140_code (4 : Nat) (Option.some Jvm.ClassFile.FieldType.int)) ∈ lw_all := lw_g (lw_at lw_m8 195 rfl) rfl
theorem q2014 : (Jvm.Cond.instanceMethod ({ cls := "ShutDaysModel", name := "image", desc := "()I" } : Jvm.MethodName)) ∈ lw_all := lw_g (lw_at lw_m8 197 rfl) rfl
theorem q2015 : (Jvm.Cond.selects "ShutDaysModel" ({ cls := "ShutDaysModel", name := "image", desc := "()I" } : Jvm.MethodName) ({ cls := "ShutDaysModel", name := "image", desc := "()I" } : Jvm.MethodName)) ∈ lw_all := lw_g (lw_at lw_m8 198 rfl) rfl
theorem q2016 : (Jvm.Cond.code ({ cls := "ShutDaysModel", name := "image", desc := "()I" } : Jvm.MethodName) prog_19_method_142_code (1 : Nat) (Option.some Jvm.ClassFile.FieldType.int)) ∈ lw_all := lw_g (lw_at lw_m8 199 rfl) rfl
theorem q2018 : (Jvm.Cond.instanceMethod ({ cls := "ShutDaysModel", name := "back", desc := "()I" } : Jvm.MethodName)) ∈ lw_all := lw_g (lw_at lw_m8 201 rfl) rfl
theorem q2019 : (Jvm.Cond.selects "ShutDaysModel" ({ cls := "ShutDaysModel", name := "back", desc := "()I" } : Jvm.MethodName) ({ cls := "ShutDaysModel", name := "back", desc := "()I" } : Jvm.MethodName)) ∈ lw_all := lw_g (lw_at lw_m8 202 rfl) rfl
theorem q2020 : (Jvm.Cond.code ({ cls := "ShutDaysModel", name := "back", desc := "()I" } : Jvm.MethodName) prog_19_method_143_code (1 : Nat) (Option.some Jvm.ClassFile.FieldType.int)) ∈ lw_all := lw_g (lw_at lw_m8 203 rfl) rfl
theorem q2022 : (Jvm.Cond.instanceMethod ({ cls := "ShutDaysModel", name := "about", desc := "(I)I" } : Jvm.MethodName)) ∈ lw_all := lw_g (lw_at lw_m8 205 rfl) rfl
theorem q2023 : (Jvm.Cond.selects "ShutDaysModel" ({ cls := "ShutDaysModel", name := "about", desc := "(I)I" } : Jvm.MethodName) ({ cls := "ShutDaysModel", name := "about", desc := "(I)I" } : Jvm.MethodName)) ∈ lw_all := lw_g (lw_at lw_m8 206 rfl) rfl
theorem q2024 : (Jvm.Cond.code ({ cls := "ShutDaysModel", name := "about", desc := "(I)I" } : Jvm.MethodName) prog_19_method_144_code (2 : Nat) (Option.some Jvm.ClassFile.FieldType.int)) ∈ lw_all := lw_g (lw_at lw_m8 207 rfl) rfl
theorem q2031 : (Jvm.Cond.castable "ShutDaysModel" "java/lang/Object") ∈ lw_tbl := lw_at lw_m8 214 rfl
theorem in_X2 : ∀ w ∈ wsX20, w ∈ lw_all := lw_in wsX20 [1387, 1389, 1391, 1393, 1395, 1397, 1399, 1401, 1403, 1405, 1407, 1409, 1411, 1413, 1415, 1417, 1419, 1421, 1423, 1425, 1427, 1429, 1431, 1433, 1435, 1437, 1439, 1441, 1443, 1445, 1447, 1449, 1451, 1453, 1455, 1457] (by decide +kernel) (by decide +kernel)
