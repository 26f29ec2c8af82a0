/-! CopyPricesModel -/
set_option maxRecDepth 100000
def RX4 : String := "CopyPricesModel"
def TX4 : u_T := fun k => match k with
  | 0 => ("CopyPricesModel", "told0", "I", false)
  | 1 => ("CopyPricesModel", "s", "[I", true)
  | 2 => ("CopyPricesModel", "draft", "[I", true)
  | 3 => ("CopyPricesModel", "aside", "[I", true)
  | 4 => ("CopyPricesModel", "kept", "[I", true)
  | 5 => ("CopyPricesModel", "past", "[I", true)
  | 6 => ("CopyPricesModel", "pastMany", "I", false)
  | 7 => ("CopyPricesModel", "isKept", "Z", false)
  | 8 => ("CopyPricesModel", "longest", "[I", true)
  | 9 => ("CopyPricesModel", "rest", "[I", true)
  | 10 => ("CopyPricesModel", "fore", "[I", true)
  | 11 => ("CopyPricesModel", "from", "[I", true)
  | 12 => ("CopyPricesModel", "length", "[I", true)
  | 13 => ("CopyPricesModel", "distance", "[I", true)
  | 14 => ("CopyPricesModel", "stepMany", "I", false)
  | 15 => ("CopyPricesModel", "input", "[B", true)
  | 16 => ("CopyPricesModel", "inputLong", "I", false)
  | 17 => ("CopyPricesModel", "errorCode", "I", false)
  | 18 => ("CopyPricesModel", "errorOffset", "I", false)
  | 19 => ("CopyPricesModel", "begin", "I", false)
  | 20 => ("CopyPricesModel", "next", "I", false)
  | 21 => ("CopyPricesModel", "token", "I", false)
  | 22 => ("CopyPricesModel", "value", "I", false)
  | 23 => ("CopyPricesModel", "isTold", "[Z", true)
  | 24 => ("CopyPricesModel", "done", "[I", true)
  | 25 => ("CopyPricesModel", "output", "[B", true)
  | _ => ("CopyPricesModel", "outputLong", "I", false)
def tyX4 : Nat → FieldType := fun k => match k with
  | 0 => .int
  | 1 => .array .int
  | 2 => .array .int
  | 3 => .array .int
  | 4 => .array .int
  | 5 => .array .int
  | 6 => .int
  | 7 => .boolean
  | 8 => .array .int
  | 9 => .array .int
  | 10 => .array .int
  | 11 => .array .int
  | 12 => .array .int
  | 13 => .array .int
  | 14 => .int
  | 15 => .array .byte
  | 16 => .int
  | 17 => .int
  | 18 => .int
  | 19 => .int
  | 20 => .int
  | 21 => .int
  | 22 => .int
  | 23 => .array .boolean
  | 24 => .array .int
  | 25 => .array .byte
  | _ => .int
abbrev wsX40 : List Cond := u_ws RX4 TX4 27
set_option maxRecDepth 100000 in
theorem nmX4 : ∀ a, a < 27 → ∀ b, b < 27 → a ≠ b → (TX4 a).2.1 ≠ (TX4 b).2.1 := by decide +kernel
set_option maxRecDepth 100000 in
theorem tyX4_ok : ∀ k, k < 27 → parseFieldDescriptor (TX4 k).2.2.1 = some (tyX4 k) := by decide +kernel
abbrev cX4_thrown : ByteArray := prog_14_method_1_code
def yX4_thrown : MethodName := ⟨RX4, "thrown", "()I"⟩
theorem dX4_thrown_0 : decode cX4_thrown 0 = .ok (.aload_n 0, 1) := by decide +kernel
theorem dX4_thrown_1 : decode cX4_thrown 1 = .ok (.getfield 1, 3) := by decide +kernel
theorem dX4_thrown_4 : decode cX4_thrown 4 = .ok (.ireturn, 1) := by decide +kernel
abbrev cX4_init : ByteArray := prog_14_method_7_code
def yX4_init : MethodName := ⟨RX4, "<init>", "()V"⟩
def dkwX4_init_6 : List UInt8 := [42, 182, 0, 64, 42, 18, 67, 182, 0, 69, 177]
abbrev dktX4_init_6 : List UInt8 := dkwX4_init_6 ++ []
def dkwX4_init_5 : List UInt8 := [16, 36, 188, 4, 181, 0, 54, 42, 16, 64, 188, 10, 181, 0, 58, 42, 17, 2, 88, 188, 8, 181, 0, 61]
abbrev dktX4_init_5 : List UInt8 := dkwX4_init_5 ++ dktX4_init_6
def dkwX4_init_4 : List UInt8 := [42, 16, 64, 188, 10, 181, 0, 44, 42, 17, 1, 244, 188, 8, 181, 0, 47, 42, 2, 181, 0, 51, 42]
abbrev dktX4_init_4 : List UInt8 := dkwX4_init_4 ++ dktX4_init_5
def dkwX4_init_3 : List UInt8 := [17, 16, 194, 188, 10, 181, 0, 35, 42, 16, 64, 188, 10, 181, 0, 38, 42, 16, 64, 188, 10, 181, 0, 41]
abbrev dktX4_init_3 : List UInt8 := dkwX4_init_3 ++ dktX4_init_4
def dkwX4_init_2 : List UInt8 := [181, 0, 26, 42, 17, 8, 64, 188, 10, 181, 0, 29, 42, 17, 16, 194, 188, 10, 181, 0, 32, 42]
abbrev dktX4_init_2 : List UInt8 := dkwX4_init_2 ++ dktX4_init_3
def dkwX4_init_1 : List UInt8 := [17, 0, 171, 188, 10, 181, 0, 20, 42, 17, 0, 171, 188, 10, 181, 0, 23, 42, 17, 5, 88, 188, 10]
abbrev dktX4_init_1 : List UInt8 := dkwX4_init_1 ++ dktX4_init_2
def dkwX4_init_0 : List UInt8 := [42, 183, 0, 7, 42, 17, 0, 171, 188, 10, 181, 0, 13, 42, 17, 0, 171, 188, 10, 181, 0, 17, 42]
abbrev dktX4_init_0 : List UInt8 := dkwX4_init_0 ++ dktX4_init_1
theorem dksX4_init_0 : cX4_init.data.toList.drop 0 = dktX4_init_0 := by decide +kernel
theorem dksX4_init_1 : cX4_init.data.toList.drop 23 = dktX4_init_1 := dk_seg dksX4_init_0 23 rfl rfl
theorem dksX4_init_2 : cX4_init.data.toList.drop 46 = dktX4_init_2 := dk_seg dksX4_init_1 23 rfl rfl
theorem dksX4_init_3 : cX4_init.data.toList.drop 68 = dktX4_init_3 := dk_seg dksX4_init_2 22 rfl rfl
theorem dksX4_init_4 : cX4_init.data.toList.drop 92 = dktX4_init_4 := dk_seg dksX4_init_3 24 rfl rfl
theorem dksX4_init_5 : cX4_init.data.toList.drop 115 = dktX4_init_5 := dk_seg dksX4_init_4 23 rfl rfl
theorem dksX4_init_6 : cX4_init.data.toList.drop 139 = dktX4_init_6 := dk_seg dksX4_init_5 24 rfl rfl
theorem dX4_init_0 : decode cX4_init 0 = .ok (.aload_n 0, 1) := dk_42 (dk_at dksX4_init_0 0 rfl rfl)
theorem dX4_init_1 : decode cX4_init 1 = .ok (.invokespecial 7, 3) := dk_183 0 7 (dk_at dksX4_init_0 1 rfl rfl)
theorem dX4_init_4 : decode cX4_init 4 = .ok (.aload_n 0, 1) := dk_42 (dk_at dksX4_init_0 4 rfl rfl)
theorem dX4_init_5 : decode cX4_init 5 = .ok (.sipush 171, 3) := dk_17 0 171 (dk_at dksX4_init_0 5 rfl rfl)
theorem dX4_init_8 : decode cX4_init 8 = .ok (.newarray .int, 2) := dk_188_10 (dk_at dksX4_init_0 8 rfl rfl)
theorem dX4_init_10 : decode cX4_init 10 = .ok (.putfield 13, 3) := dk_181 0 13 (dk_at dksX4_init_0 10 rfl rfl)
theorem dX4_init_13 : decode cX4_init 13 = .ok (.aload_n 0, 1) := dk_42 (dk_at dksX4_init_0 13 rfl rfl)
theorem dX4_init_14 : decode cX4_init 14 = .ok (.sipush 171, 3) := dk_17 0 171 (dk_at dksX4_init_0 14 rfl rfl)
theorem dX4_init_17 : decode cX4_init 17 = .ok (.newarray .int, 2) := dk_188_10 (dk_at dksX4_init_0 17 rfl rfl)
theorem dX4_init_19 : decode cX4_init 19 = .ok (.putfield 17, 3) := dk_181 0 17 (dk_at dksX4_init_0 19 rfl rfl)
theorem dX4_init_22 : decode cX4_init 22 = .ok (.aload_n 0, 1) := dk_42 (dk_at dksX4_init_0 22 rfl rfl)
theorem dX4_init_23 : decode cX4_init 23 = .ok (.sipush 171, 3) := dk_17 0 171 (dk_at dksX4_init_1 0 rfl rfl)
theorem dX4_init_26 : decode cX4_init 26 = .ok (.newarray .int, 2) := dk_188_10 (dk_at dksX4_init_1 3 rfl rfl)
theorem dX4_init_28 : decode cX4_init 28 = .ok (.putfield 20, 3) := dk_181 0 20 (dk_at dksX4_init_1 5 rfl rfl)
theorem dX4_init_31 : decode cX4_init 31 = .ok (.aload_n 0, 1) := dk_42 (dk_at dksX4_init_1 8 rfl rfl)
theorem dX4_init_32 : decode cX4_init 32 = .ok (.sipush 171, 3) := dk_17 0 171 (dk_at dksX4_init_1 9 rfl rfl)
theorem dX4_init_35 : decode cX4_init 35 = .ok (.newarray .int, 2) := dk_188_10 (dk_at dksX4_init_1 12 rfl rfl)
theorem dX4_init_37 : decode cX4_init 37 = .ok (.putfield 23, 3) := dk_181 0 23 (dk_at dksX4_init_1 14 rfl rfl)
theorem dX4_init_40 : decode cX4_init 40 = .ok (.aload_n 0, 1) := dk_42 (dk_at dksX4_init_1 17 rfl rfl)
theorem dX4_init_41 : decode cX4_init 41 = .ok (.sipush 1368, 3) := dk_17 5 88 (dk_at dksX4_init_1 18 rfl rfl)
theorem dX4_init_44 : decode cX4_init 44 = .ok (.newarray .int, 2) := dk_188_10 (dk_at dksX4_init_1 21 rfl rfl)
theorem dX4_init_46 : decode cX4_init 46 = .ok (.putfield 26, 3) := dk_181 0 26 (dk_at dksX4_init_2 0 rfl rfl)
theorem dX4_init_49 : decode cX4_init 49 = .ok (.aload_n 0, 1) := dk_42 (dk_at dksX4_init_2 3 rfl rfl)
theorem dX4_init_50 : decode cX4_init 50 = .ok (.sipush 2112, 3) := dk_17 8 64 (dk_at dksX4_init_2 4 rfl rfl)
theorem dX4_init_53 : decode cX4_init 53 = .ok (.newarray .int, 2) := dk_188_10 (dk_at dksX4_init_2 7 rfl rfl)
theorem dX4_init_55 : decode cX4_init 55 = .ok (.putfield 29, 3) := dk_181 0 29 (dk_at dksX4_init_2 9 rfl rfl)
theorem dX4_init_58 : decode cX4_init 58 = .ok (.aload_n 0, 1) := dk_42 (dk_at dksX4_init_2 12 rfl rfl)
theorem dX4_init_59 : decode cX4_init 59 = .ok (.sipush 4290, 3) := dk_17 16 194 (dk_at dksX4_init_2 13 rfl rfl)
theorem dX4_init_62 : decode cX4_init 62 = .ok (.newarray .int, 2) := dk_188_10 (dk_at dksX4_init_2 16 rfl rfl)
theorem dX4_init_64 : decode cX4_init 64 = .ok (.putfield 32, 3) := dk_181 0 32 (dk_at dksX4_init_2 18 rfl rfl)
theorem dX4_init_67 : decode cX4_init 67 = .ok (.aload_n 0, 1) := dk_42 (dk_at dksX4_init_2 21 rfl rfl)
theorem dX4_init_68 : decode cX4_init 68 = .ok (.sipush 4290, 3) := dk_17 16 194 (dk_at dksX4_init_3 0 rfl rfl)
theorem dX4_init_71 : decode cX4_init 71 = .ok (.newarray .int, 2) := dk_188_10 (dk_at dksX4_init_3 3 rfl rfl)
theorem dX4_init_73 : decode cX4_init 73 = .ok (.putfield 35, 3) := dk_181 0 35 (dk_at dksX4_init_3 5 rfl rfl)
theorem dX4_init_76 : decode cX4_init 76 = .ok (.aload_n 0, 1) := dk_42 (dk_at dksX4_init_3 8 rfl rfl)
theorem dX4_init_77 : decode cX4_init 77 = .ok (.bipush 64, 2) := dk_16 64 (dk_at dksX4_init_3 9 rfl rfl)
theorem dX4_init_79 : decode cX4_init 79 = .ok (.newarray .int, 2) := dk_188_10 (dk_at dksX4_init_3 11 rfl rfl)
theorem dX4_init_81 : decode cX4_init 81 = .ok (.putfield 38, 3) := dk_181 0 38 (dk_at dksX4_init_3 13 rfl rfl)
theorem dX4_init_84 : decode cX4_init 84 = .ok (.aload_n 0, 1) := dk_42 (dk_at dksX4_init_3 16 rfl rfl)
theorem dX4_init_85 : decode cX4_init 85 = .ok (.bipush 64, 2) := dk_16 64 (dk_at dksX4_init_3 17 rfl rfl)
theorem dX4_init_87 : decode cX4_init 87 = .ok (.newarray .int, 2) := dk_188_10 (dk_at dksX4_init_3 19 rfl rfl)
theorem dX4_init_89 : decode cX4_init 89 = .ok (.putfield 41, 3) := dk_181 0 41 (dk_at dksX4_init_3 21 rfl rfl)
theorem dX4_init_92 : decode cX4_init 92 = .ok (.aload_n 0, 1) := dk_42 (dk_at dksX4_init_4 0 rfl rfl)
theorem dX4_init_93 : decode cX4_init 93 = .ok (.bipush 64, 2) := dk_16 64 (dk_at dksX4_init_4 1 rfl rfl)
theorem dX4_init_95 : decode cX4_init 95 = .ok (.newarray .int, 2) := dk_188_10 (dk_at dksX4_init_4 3 rfl rfl)
theorem dX4_init_97 : decode cX4_init 97 = .ok (.putfield 44, 3) := dk_181 0 44 (dk_at dksX4_init_4 5 rfl rfl)
theorem dX4_init_100 : decode cX4_init 100 = .ok (.aload_n 0, 1) := dk_42 (dk_at dksX4_init_4 8 rfl rfl)
theorem dX4_init_101 : decode cX4_init 101 = .ok (.sipush 500, 3) := dk_17 1 244 (dk_at dksX4_init_4 9 rfl rfl)
theorem dX4_init_104 : decode cX4_init 104 = .ok (.newarray .byte, 2) := dk_188_8 (dk_at dksX4_init_4 12 rfl rfl)
theorem dX4_init_106 : decode cX4_init 106 = .ok (.putfield 47, 3) := dk_181 0 47 (dk_at dksX4_init_4 14 rfl rfl)
theorem dX4_init_109 : decode cX4_init 109 = .ok (.aload_n 0, 1) := dk_42 (dk_at dksX4_init_4 17 rfl rfl)
theorem dX4_init_110 : decode cX4_init 110 = .ok (.iconst (-1), 1) := dk_2 (dk_at dksX4_init_4 18 rfl rfl)
theorem dX4_init_111 : decode cX4_init 111 = .ok (.putfield 51, 3) := dk_181 0 51 (dk_at dksX4_init_4 19 rfl rfl)
theorem dX4_init_114 : decode cX4_init 114 = .ok (.aload_n 0, 1) := dk_42 (dk_at dksX4_init_4 22 rfl rfl)
theorem dX4_init_115 : decode cX4_init 115 = .ok (.bipush 36, 2) := dk_16 36 (dk_at dksX4_init_5 0 rfl rfl)
theorem dX4_init_117 : decode cX4_init 117 = .ok (.newarray .boolean, 2) := dk_188_4 (dk_at dksX4_init_5 2 rfl rfl)
theorem dX4_init_119 : decode cX4_init 119 = .ok (.putfield 54, 3) := dk_181 0 54 (dk_at dksX4_init_5 4 rfl rfl)
theorem dX4_init_122 : decode cX4_init 122 = .ok (.aload_n 0, 1) := dk_42 (dk_at dksX4_init_5 7 rfl rfl)
theorem dX4_init_123 : decode cX4_init 123 = .ok (.bipush 64, 2) := dk_16 64 (dk_at dksX4_init_5 8 rfl rfl)
theorem dX4_init_125 : decode cX4_init 125 = .ok (.newarray .int, 2) := dk_188_10 (dk_at dksX4_init_5 10 rfl rfl)
theorem dX4_init_127 : decode cX4_init 127 = .ok (.putfield 58, 3) := dk_181 0 58 (dk_at dksX4_init_5 12 rfl rfl)
theorem dX4_init_130 : decode cX4_init 130 = .ok (.aload_n 0, 1) := dk_42 (dk_at dksX4_init_5 15 rfl rfl)
theorem dX4_init_131 : decode cX4_init 131 = .ok (.sipush 600, 3) := dk_17 2 88 (dk_at dksX4_init_5 16 rfl rfl)
theorem dX4_init_134 : decode cX4_init 134 = .ok (.newarray .byte, 2) := dk_188_8 (dk_at dksX4_init_5 19 rfl rfl)
theorem dX4_init_136 : decode cX4_init 136 = .ok (.putfield 61, 3) := dk_181 0 61 (dk_at dksX4_init_5 21 rfl rfl)
theorem dX4_init_139 : decode cX4_init 139 = .ok (.aload_n 0, 1) := dk_42 (dk_at dksX4_init_6 0 rfl rfl)
theorem dX4_init_140 : decode cX4_init 140 = .ok (.invokevirtual 64, 3) := dk_182 0 64 (dk_at dksX4_init_6 1 rfl rfl)
theorem dX4_init_143 : decode cX4_init 143 = .ok (.aload_n 0, 1) := dk_42 (dk_at dksX4_init_6 4 rfl rfl)
theorem dX4_init_144 : decode cX4_init 144 = .ok (.ldc 67, 2) := dk_18 67 (dk_at dksX4_init_6 5 rfl rfl)
theorem dX4_init_146 : decode cX4_init 146 = .ok (.invokevirtual 69, 3) := dk_182 0 69 (dk_at dksX4_init_6 7 rfl rfl)
theorem dX4_init_149 : decode cX4_init 149 = .ok (.return_, 1) := dk_177 (dk_at dksX4_init_6 10 rfl rfl)
abbrev cX4_clears : ByteArray := prog_14_method_9_code
def yX4_clears : MethodName := ⟨RX4, "clears", "()V"⟩
def dkwX4_clears_5 : List UInt8 := [16, 9, 79, 132, 1, 1, 167, 255, 236, 177]
abbrev dktX4_clears_5 : List UInt8 := dkwX4_clears_5 ++ []
def dkwX4_clears_4 : List UInt8 := [42, 180, 0, 13, 16, 10, 7, 79, 3, 60, 27, 16, 26, 162, 0, 20, 42, 180, 0, 13, 16, 11, 27, 96]
abbrev dktX4_clears_4 : List UInt8 := dkwX4_clears_4 ++ dktX4_clears_5
def dkwX4_clears_3 : List UInt8 := [180, 0, 13, 16, 7, 16, 8, 79, 42, 180, 0, 13, 16, 8, 5, 79, 42, 180, 0, 13, 16, 9, 4, 79]
abbrev dktX4_clears_3 : List UInt8 := dkwX4_clears_3 ++ dktX4_clears_4
def dkwX4_clears_2 : List UInt8 := [180, 0, 13, 7, 16, 12, 79, 42, 180, 0, 13, 8, 4, 79, 42, 180, 0, 13, 16, 6, 6, 79, 42]
abbrev dktX4_clears_2 : List UInt8 := dkwX4_clears_2 ++ dktX4_clears_3
def dkwX4_clears_1 : List UInt8 := [180, 0, 13, 4, 16, 32, 79, 42, 180, 0, 13, 5, 16, 8, 79, 42, 180, 0, 13, 6, 5, 79, 42]
abbrev dktX4_clears_1 : List UInt8 := dkwX4_clears_1 ++ dktX4_clears_2
def dkwX4_clears_0 : List UInt8 := [3, 60, 27, 17, 0, 171, 162, 0, 16, 42, 180, 0, 13, 27, 3, 79, 132, 1, 1, 167, 255, 239, 42]
abbrev dktX4_clears_0 : List UInt8 := dkwX4_clears_0 ++ dktX4_clears_1
theorem dksX4_clears_0 : cX4_clears.data.toList.drop 0 = dktX4_clears_0 := by decide +kernel
theorem dksX4_clears_1 : cX4_clears.data.toList.drop 23 = dktX4_clears_1 := dk_seg dksX4_clears_0 23 rfl rfl
theorem dksX4_clears_2 : cX4_clears.data.toList.drop 46 = dktX4_clears_2 := dk_seg dksX4_clears_1 23 rfl rfl
theorem dksX4_clears_3 : cX4_clears.data.toList.drop 69 = dktX4_clears_3 := dk_seg dksX4_clears_2 23 rfl rfl
theorem dksX4_clears_4 : cX4_clears.data.toList.drop 93 = dktX4_clears_4 := dk_seg dksX4_clears_3 24 rfl rfl
theorem dksX4_clears_5 : cX4_clears.data.toList.drop 117 = dktX4_clears_5 := dk_seg dksX4_clears_4 24 rfl rfl
theorem dX4_clears_0 : decode cX4_clears 0 = .ok (.iconst 0, 1) := dk_3 (dk_at dksX4_clears_0 0 rfl rfl)
theorem dX4_clears_1 : decode cX4_clears 1 = .ok (.istore_n 1, 1) := dk_60 (dk_at dksX4_clears_0 1 rfl rfl)
theorem dX4_clears_2 : decode cX4_clears 2 = .ok (.iload_n 1, 1) := dk_27 (dk_at dksX4_clears_0 2 rfl rfl)
theorem dX4_clears_3 : decode cX4_clears 3 = .ok (.sipush 171, 3) := dk_17 0 171 (dk_at dksX4_clears_0 3 rfl rfl)
theorem dX4_clears_6 : decode cX4_clears 6 = .ok (.if_icmp .ge 16, 3) := dk_162 0 16 (dk_at dksX4_clears_0 6 rfl rfl)
theorem dX4_clears_9 : decode cX4_clears 9 = .ok (.aload_n 0, 1) := dk_42 (dk_at dksX4_clears_0 9 rfl rfl)
theorem dX4_clears_10 : decode cX4_clears 10 = .ok (.getfield 13, 3) := dk_180 0 13 (dk_at dksX4_clears_0 10 rfl rfl)
theorem dX4_clears_13 : decode cX4_clears 13 = .ok (.iload_n 1, 1) := dk_27 (dk_at dksX4_clears_0 13 rfl rfl)
theorem dX4_clears_14 : decode cX4_clears 14 = .ok (.iconst 0, 1) := dk_3 (dk_at dksX4_clears_0 14 rfl rfl)
theorem dX4_clears_15 : decode cX4_clears 15 = .ok (.iastore, 1) := dk_79 (dk_at dksX4_clears_0 15 rfl rfl)
theorem dX4_clears_16 : decode cX4_clears 16 = .ok (.iinc 1 1, 3) := dk_132 1 1 (dk_at dksX4_clears_0 16 rfl rfl)
theorem dX4_clears_19 : decode cX4_clears 19 = .ok (.goto (-17), 3) := dk_167 255 239 (dk_at dksX4_clears_0 19 rfl rfl)
theorem dX4_clears_22 : decode cX4_clears 22 = .ok (.aload_n 0, 1) := dk_42 (dk_at dksX4_clears_0 22 rfl rfl)
theorem dX4_clears_23 : decode cX4_clears 23 = .ok (.getfield 13, 3) := dk_180 0 13 (dk_at dksX4_clears_1 0 rfl rfl)
theorem dX4_clears_26 : decode cX4_clears 26 = .ok (.iconst 1, 1) := dk_4 (dk_at dksX4_clears_1 3 rfl rfl)
theorem dX4_clears_27 : decode cX4_clears 27 = .ok (.bipush 32, 2) := dk_16 32 (dk_at dksX4_clears_1 4 rfl rfl)
theorem dX4_clears_29 : decode cX4_clears 29 = .ok (.iastore, 1) := dk_79 (dk_at dksX4_clears_1 6 rfl rfl)
theorem dX4_clears_30 : decode cX4_clears 30 = .ok (.aload_n 0, 1) := dk_42 (dk_at dksX4_clears_1 7 rfl rfl)
theorem dX4_clears_31 : decode cX4_clears 31 = .ok (.getfield 13, 3) := dk_180 0 13 (dk_at dksX4_clears_1 8 rfl rfl)
theorem dX4_clears_34 : decode cX4_clears 34 = .ok (.iconst 2, 1) := dk_5 (dk_at dksX4_clears_1 11 rfl rfl)
theorem dX4_clears_35 : decode cX4_clears 35 = .ok (.bipush 8, 2) := dk_16 8 (dk_at dksX4_clears_1 12 rfl rfl)
theorem dX4_clears_37 : decode cX4_clears 37 = .ok (.iastore, 1) := dk_79 (dk_at dksX4_clears_1 14 rfl rfl)
theorem dX4_clears_38 : decode cX4_clears 38 = .ok (.aload_n 0, 1) := dk_42 (dk_at dksX4_clears_1 15 rfl rfl)
theorem dX4_clears_39 : decode cX4_clears 39 = .ok (.getfield 13, 3) := dk_180 0 13 (dk_at dksX4_clears_1 16 rfl rfl)
theorem dX4_clears_42 : decode cX4_clears 42 = .ok (.iconst 3, 1) := dk_6 (dk_at dksX4_clears_1 19 rfl rfl)
theorem dX4_clears_43 : decode cX4_clears 43 = .ok (.iconst 2, 1) := dk_5 (dk_at dksX4_clears_1 20 rfl rfl)
theorem dX4_clears_44 : decode cX4_clears 44 = .ok (.iastore, 1) := dk_79 (dk_at dksX4_clears_1 21 rfl rfl)
theorem dX4_clears_45 : decode cX4_clears 45 = .ok (.aload_n 0, 1) := dk_42 (dk_at dksX4_clears_1 22 rfl rfl)
theorem dX4_clears_46 : decode cX4_clears 46 = .ok (.getfield 13, 3) := dk_180 0 13 (dk_at dksX4_clears_2 0 rfl rfl)
theorem dX4_clears_49 : decode cX4_clears 49 = .ok (.iconst 4, 1) := dk_7 (dk_at dksX4_clears_2 3 rfl rfl)
theorem dX4_clears_50 : decode cX4_clears 50 = .ok (.bipush 12, 2) := dk_16 12 (dk_at dksX4_clears_2 4 rfl rfl)
theorem dX4_clears_52 : decode cX4_clears 52 = .ok (.iastore, 1) := dk_79 (dk_at dksX4_clears_2 6 rfl rfl)
theorem dX4_clears_53 : decode cX4_clears 53 = .ok (.aload_n 0, 1) := dk_42 (dk_at dksX4_clears_2 7 rfl rfl)
theorem dX4_clears_54 : decode cX4_clears 54 = .ok (.getfield 13, 3) := dk_180 0 13 (dk_at dksX4_clears_2 8 rfl rfl)
theorem dX4_clears_57 : decode cX4_clears 57 = .ok (.iconst 5, 1) := dk_8 (dk_at dksX4_clears_2 11 rfl rfl)
theorem dX4_clears_58 : decode cX4_clears 58 = .ok (.iconst 1, 1) := dk_4 (dk_at dksX4_clears_2 12 rfl rfl)
theorem dX4_clears_59 : decode cX4_clears 59 = .ok (.iastore, 1) := dk_79 (dk_at dksX4_clears_2 13 rfl rfl)
theorem dX4_clears_60 : decode cX4_clears 60 = .ok (.aload_n 0, 1) := dk_42 (dk_at dksX4_clears_2 14 rfl rfl)
theorem dX4_clears_61 : decode cX4_clears 61 = .ok (.getfield 13, 3) := dk_180 0 13 (dk_at dksX4_clears_2 15 rfl rfl)
theorem dX4_clears_64 : decode cX4_clears 64 = .ok (.bipush 6, 2) := dk_16 6 (dk_at dksX4_clears_2 18 rfl rfl)
theorem dX4_clears_66 : decode cX4_clears 66 = .ok (.iconst 3, 1) := dk_6 (dk_at dksX4_clears_2 20 rfl rfl)
theorem dX4_clears_67 : decode cX4_clears 67 = .ok (.iastore, 1) := dk_79 (dk_at dksX4_clears_2 21 rfl rfl)
theorem dX4_clears_68 : decode cX4_clears 68 = .ok (.aload_n 0, 1) := dk_42 (dk_at dksX4_clears_2 22 rfl rfl)
theorem dX4_clears_69 : decode cX4_clears 69 = .ok (.getfield 13, 3) := dk_180 0 13 (dk_at dksX4_clears_3 0 rfl rfl)
theorem dX4_clears_72 : decode cX4_clears 72 = .ok (.bipush 7, 2) := dk_16 7 (dk_at dksX4_clears_3 3 rfl rfl)
theorem dX4_clears_74 : decode cX4_clears 74 = .ok (.bipush 8, 2) := dk_16 8 (dk_at dksX4_clears_3 5 rfl rfl)
theorem dX4_clears_76 : decode cX4_clears 76 = .ok (.iastore, 1) := dk_79 (dk_at dksX4_clears_3 7 rfl rfl)
theorem dX4_clears_77 : decode cX4_clears 77 = .ok (.aload_n 0, 1) := dk_42 (dk_at dksX4_clears_3 8 rfl rfl)
theorem dX4_clears_78 : decode cX4_clears 78 = .ok (.getfield 13, 3) := dk_180 0 13 (dk_at dksX4_clears_3 9 rfl rfl)
theorem dX4_clears_81 : decode cX4_clears 81 = .ok (.bipush 8, 2) := dk_16 8 (dk_at dksX4_clears_3 12 rfl rfl)
theorem dX4_clears_83 : decode cX4_clears 83 = .ok (.iconst 2, 1) := dk_5 (dk_at dksX4_clears_3 14 rfl rfl)
theorem dX4_clears_84 : decode cX4_clears 84 = .ok (.iastore, 1) := dk_79 (dk_at dksX4_clears_3 15 rfl rfl)
theorem dX4_clears_85 : decode cX4_clears 85 = .ok (.aload_n 0, 1) := dk_42 (dk_at dksX4_clears_3 16 rfl rfl)
theorem dX4_clears_86 : decode cX4_clears 86 = .ok (.getfield 13, 3) := dk_180 0 13 (dk_at dksX4_clears_3 17 rfl rfl)
theorem dX4_clears_89 : decode cX4_clears 89 = .ok (.bipush 9, 2) := dk_16 9 (dk_at dksX4_clears_3 20 rfl rfl)
theorem dX4_clears_91 : decode cX4_clears 91 = .ok (.iconst 1, 1) := dk_4 (dk_at dksX4_clears_3 22 rfl rfl)
theorem dX4_clears_92 : decode cX4_clears 92 = .ok (.iastore, 1) := dk_79 (dk_at dksX4_clears_3 23 rfl rfl)
theorem dX4_clears_93 : decode cX4_clears 93 = .ok (.aload_n 0, 1) := dk_42 (dk_at dksX4_clears_4 0 rfl rfl)
theorem dX4_clears_94 : decode cX4_clears 94 = .ok (.getfield 13, 3) := dk_180 0 13 (dk_at dksX4_clears_4 1 rfl rfl)
theorem dX4_clears_97 : decode cX4_clears 97 = .ok (.bipush 10, 2) := dk_16 10 (dk_at dksX4_clears_4 4 rfl rfl)
theorem dX4_clears_99 : decode cX4_clears 99 = .ok (.iconst 4, 1) := dk_7 (dk_at dksX4_clears_4 6 rfl rfl)
theorem dX4_clears_100 : decode cX4_clears 100 = .ok (.iastore, 1) := dk_79 (dk_at dksX4_clears_4 7 rfl rfl)
theorem dX4_clears_101 : decode cX4_clears 101 = .ok (.iconst 0, 1) := dk_3 (dk_at dksX4_clears_4 8 rfl rfl)
theorem dX4_clears_102 : decode cX4_clears 102 = .ok (.istore_n 1, 1) := dk_60 (dk_at dksX4_clears_4 9 rfl rfl)
theorem dX4_clears_103 : decode cX4_clears 103 = .ok (.iload_n 1, 1) := dk_27 (dk_at dksX4_clears_4 10 rfl rfl)
theorem dX4_clears_104 : decode cX4_clears 104 = .ok (.bipush 26, 2) := dk_16 26 (dk_at dksX4_clears_4 11 rfl rfl)
theorem dX4_clears_106 : decode cX4_clears 106 = .ok (.if_icmp .ge 20, 3) := dk_162 0 20 (dk_at dksX4_clears_4 13 rfl rfl)
theorem dX4_clears_109 : decode cX4_clears 109 = .ok (.aload_n 0, 1) := dk_42 (dk_at dksX4_clears_4 16 rfl rfl)
theorem dX4_clears_110 : decode cX4_clears 110 = .ok (.getfield 13, 3) := dk_180 0 13 (dk_at dksX4_clears_4 17 rfl rfl)
theorem dX4_clears_113 : decode cX4_clears 113 = .ok (.bipush 11, 2) := dk_16 11 (dk_at dksX4_clears_4 20 rfl rfl)
theorem dX4_clears_115 : decode cX4_clears 115 = .ok (.iload_n 1, 1) := dk_27 (dk_at dksX4_clears_4 22 rfl rfl)
theorem dX4_clears_116 : decode cX4_clears 116 = .ok (.iadd, 1) := dk_96 (dk_at dksX4_clears_4 23 rfl rfl)
theorem dX4_clears_117 : decode cX4_clears 117 = .ok (.bipush 9, 2) := dk_16 9 (dk_at dksX4_clears_5 0 rfl rfl)
theorem dX4_clears_119 : decode cX4_clears 119 = .ok (.iastore, 1) := dk_79 (dk_at dksX4_clears_5 2 rfl rfl)
theorem dX4_clears_120 : decode cX4_clears 120 = .ok (.iinc 1 1, 3) := dk_132 1 1 (dk_at dksX4_clears_5 3 rfl rfl)
theorem dX4_clears_123 : decode cX4_clears 123 = .ok (.goto (-20), 3) := dk_167 255 236 (dk_at dksX4_clears_5 6 rfl rfl)
theorem dX4_clears_126 : decode cX4_clears 126 = .ok (.return_, 1) := dk_177 (dk_at dksX4_clears_5 9 rfl rfl)
abbrev cX4_adds : ByteArray := prog_14_method_8_code
def yX4_adds : MethodName := ⟨RX4, "adds", "(Ljava/lang/String;)V"⟩
def dkwX4_adds_1 : List UInt8 := [132, 2, 1, 167, 255, 233, 177]
abbrev dktX4_adds_1 : List UInt8 := dkwX4_adds_1 ++ []
def dkwX4_adds_0 : List UInt8 := [3, 61, 28, 43, 182, 0, 73, 162, 0, 21, 42, 43, 28, 182, 0, 78, 16, 97, 100, 182, 0, 82]
abbrev dktX4_adds_0 : List UInt8 := dkwX4_adds_0 ++ dktX4_adds_1
theorem dksX4_adds_0 : cX4_adds.data.toList.drop 0 = dktX4_adds_0 := by decide +kernel
theorem dksX4_adds_1 : cX4_adds.data.toList.drop 22 = dktX4_adds_1 := dk_seg dksX4_adds_0 22 rfl rfl
theorem dX4_adds_0 : decode cX4_adds 0 = .ok (.iconst 0, 1) := dk_3 (dk_at dksX4_adds_0 0 rfl rfl)
theorem dX4_adds_1 : decode cX4_adds 1 = .ok (.istore_n 2, 1) := dk_61 (dk_at dksX4_adds_0 1 rfl rfl)
theorem dX4_adds_2 : decode cX4_adds 2 = .ok (.iload_n 2, 1) := dk_28 (dk_at dksX4_adds_0 2 rfl rfl)
theorem dX4_adds_3 : decode cX4_adds 3 = .ok (.aload_n 1, 1) := dk_43 (dk_at dksX4_adds_0 3 rfl rfl)
theorem dX4_adds_4 : decode cX4_adds 4 = .ok (.invokevirtual 73, 3) := dk_182 0 73 (dk_at dksX4_adds_0 4 rfl rfl)
theorem dX4_adds_7 : decode cX4_adds 7 = .ok (.if_icmp .ge 21, 3) := dk_162 0 21 (dk_at dksX4_adds_0 7 rfl rfl)
theorem dX4_adds_10 : decode cX4_adds 10 = .ok (.aload_n 0, 1) := dk_42 (dk_at dksX4_adds_0 10 rfl rfl)
theorem dX4_adds_11 : decode cX4_adds 11 = .ok (.aload_n 1, 1) := dk_43 (dk_at dksX4_adds_0 11 rfl rfl)
theorem dX4_adds_12 : decode cX4_adds 12 = .ok (.iload_n 2, 1) := dk_28 (dk_at dksX4_adds_0 12 rfl rfl)
theorem dX4_adds_13 : decode cX4_adds 13 = .ok (.invokevirtual 78, 3) := dk_182 0 78 (dk_at dksX4_adds_0 13 rfl rfl)
theorem dX4_adds_16 : decode cX4_adds 16 = .ok (.bipush 97, 2) := dk_16 97 (dk_at dksX4_adds_0 16 rfl rfl)
theorem dX4_adds_18 : decode cX4_adds 18 = .ok (.isub, 1) := dk_100 (dk_at dksX4_adds_0 18 rfl rfl)
theorem dX4_adds_19 : decode cX4_adds 19 = .ok (.invokevirtual 82, 3) := dk_182 0 82 (dk_at dksX4_adds_0 19 rfl rfl)
theorem dX4_adds_22 : decode cX4_adds 22 = .ok (.iinc 2 1, 3) := dk_132 2 1 (dk_at dksX4_adds_1 0 rfl rfl)
theorem dX4_adds_25 : decode cX4_adds 25 = .ok (.goto (-23), 3) := dk_167 255 233 (dk_at dksX4_adds_1 3 rfl rfl)
theorem dX4_adds_28 : decode cX4_adds 28 = .ok (.return_, 1) := dk_177 (dk_at dksX4_adds_1 6 rfl rfl)
abbrev cX4_addsLetter : ByteArray := prog_14_method_10_code
def yX4_addsLetter : MethodName := ⟨RX4, "addsLetter", "(I)V"⟩
def dkwX4_addsLetter_1 : List UInt8 := [180, 0, 13, 3, 46, 96, 3, 79, 42, 180, 0, 13, 3, 42, 180, 0, 13, 3, 46, 4, 96, 79, 177]
abbrev dktX4_addsLetter_1 : List UInt8 := dkwX4_addsLetter_1 ++ []
def dkwX4_addsLetter_0 : List UInt8 := [42, 180, 0, 13, 16, 43, 42, 180, 0, 13, 3, 46, 96, 27, 79, 42, 180, 0, 13, 16, 107, 42]
abbrev dktX4_addsLetter_0 : List UInt8 := dkwX4_addsLetter_0 ++ dktX4_addsLetter_1
theorem dksX4_addsLetter_0 : cX4_addsLetter.data.toList.drop 0 = dktX4_addsLetter_0 := by decide +kernel
theorem dksX4_addsLetter_1 : cX4_addsLetter.data.toList.drop 22 = dktX4_addsLetter_1 := dk_seg dksX4_addsLetter_0 22 rfl rfl
theorem dX4_addsLetter_0 : decode cX4_addsLetter 0 = .ok (.aload_n 0, 1) := dk_42 (dk_at dksX4_addsLetter_0 0 rfl rfl)
theorem dX4_addsLetter_1 : decode cX4_addsLetter 1 = .ok (.getfield 13, 3) := dk_180 0 13 (dk_at dksX4_addsLetter_0 1 rfl rfl)
theorem dX4_addsLetter_4 : decode cX4_addsLetter 4 = .ok (.bipush 43, 2) := dk_16 43 (dk_at dksX4_addsLetter_0 4 rfl rfl)
theorem dX4_addsLetter_6 : decode cX4_addsLetter 6 = .ok (.aload_n 0, 1) := dk_42 (dk_at dksX4_addsLetter_0 6 rfl rfl)
theorem dX4_addsLetter_7 : decode cX4_addsLetter 7 = .ok (.getfield 13, 3) := dk_180 0 13 (dk_at dksX4_addsLetter_0 7 rfl rfl)
theorem dX4_addsLetter_10 : decode cX4_addsLetter 10 = .ok (.iconst 0, 1) := dk_3 (dk_at dksX4_addsLetter_0 10 rfl rfl)
theorem dX4_addsLetter_11 : decode cX4_addsLetter 11 = .ok (.iaload, 1) := dk_46 (dk_at dksX4_addsLetter_0 11 rfl rfl)
theorem dX4_addsLetter_12 : decode cX4_addsLetter 12 = .ok (.iadd, 1) := dk_96 (dk_at dksX4_addsLetter_0 12 rfl rfl)
theorem dX4_addsLetter_13 : decode cX4_addsLetter 13 = .ok (.iload_n 1, 1) := dk_27 (dk_at dksX4_addsLetter_0 13 rfl rfl)
theorem dX4_addsLetter_14 : decode cX4_addsLetter 14 = .ok (.iastore, 1) := dk_79 (dk_at dksX4_addsLetter_0 14 rfl rfl)
theorem dX4_addsLetter_15 : decode cX4_addsLetter 15 = .ok (.aload_n 0, 1) := dk_42 (dk_at dksX4_addsLetter_0 15 rfl rfl)
theorem dX4_addsLetter_16 : decode cX4_addsLetter 16 = .ok (.getfield 13, 3) := dk_180 0 13 (dk_at dksX4_addsLetter_0 16 rfl rfl)
theorem dX4_addsLetter_19 : decode cX4_addsLetter 19 = .ok (.bipush 107, 2) := dk_16 107 (dk_at dksX4_addsLetter_0 19 rfl rfl)
theorem dX4_addsLetter_21 : decode cX4_addsLetter 21 = .ok (.aload_n 0, 1) := dk_42 (dk_at dksX4_addsLetter_0 21 rfl rfl)
theorem dX4_addsLetter_22 : decode cX4_addsLetter 22 = .ok (.getfield 13, 3) := dk_180 0 13 (dk_at dksX4_addsLetter_1 0 rfl rfl)
theorem dX4_addsLetter_25 : decode cX4_addsLetter 25 = .ok (.iconst 0, 1) := dk_3 (dk_at dksX4_addsLetter_1 3 rfl rfl)
theorem dX4_addsLetter_26 : decode cX4_addsLetter 26 = .ok (.iaload, 1) := dk_46 (dk_at dksX4_addsLetter_1 4 rfl rfl)
theorem dX4_addsLetter_27 : decode cX4_addsLetter 27 = .ok (.iadd, 1) := dk_96 (dk_at dksX4_addsLetter_1 5 rfl rfl)
theorem dX4_addsLetter_28 : decode cX4_addsLetter 28 = .ok (.iconst 0, 1) := dk_3 (dk_at dksX4_addsLetter_1 6 rfl rfl)
theorem dX4_addsLetter_29 : decode cX4_addsLetter 29 = .ok (.iastore, 1) := dk_79 (dk_at dksX4_addsLetter_1 7 rfl rfl)
theorem dX4_addsLetter_30 : decode cX4_addsLetter 30 = .ok (.aload_n 0, 1) := dk_42 (dk_at dksX4_addsLetter_1 8 rfl rfl)
theorem dX4_addsLetter_31 : decode cX4_addsLetter 31 = .ok (.getfield 13, 3) := dk_180 0 13 (dk_at dksX4_addsLetter_1 9 rfl rfl)
theorem dX4_addsLetter_34 : decode cX4_addsLetter 34 = .ok (.iconst 0, 1) := dk_3 (dk_at dksX4_addsLetter_1 12 rfl rfl)
theorem dX4_addsLetter_35 : decode cX4_addsLetter 35 = .ok (.aload_n 0, 1) := dk_42 (dk_at dksX4_addsLetter_1 13 rfl rfl)
theorem dX4_addsLetter_36 : decode cX4_addsLetter 36 = .ok (.getfield 13, 3) := dk_180 0 13 (dk_at dksX4_addsLetter_1 14 rfl rfl)
theorem dX4_addsLetter_39 : decode cX4_addsLetter 39 = .ok (.iconst 0, 1) := dk_3 (dk_at dksX4_addsLetter_1 17 rfl rfl)
theorem dX4_addsLetter_40 : decode cX4_addsLetter 40 = .ok (.iaload, 1) := dk_46 (dk_at dksX4_addsLetter_1 18 rfl rfl)
theorem dX4_addsLetter_41 : decode cX4_addsLetter 41 = .ok (.iconst 1, 1) := dk_4 (dk_at dksX4_addsLetter_1 19 rfl rfl)
theorem dX4_addsLetter_42 : decode cX4_addsLetter 42 = .ok (.iadd, 1) := dk_96 (dk_at dksX4_addsLetter_1 20 rfl rfl)
theorem dX4_addsLetter_43 : decode cX4_addsLetter 43 = .ok (.iastore, 1) := dk_79 (dk_at dksX4_addsLetter_1 21 rfl rfl)
theorem dX4_addsLetter_44 : decode cX4_addsLetter 44 = .ok (.return_, 1) := dk_177 (dk_at dksX4_addsLetter_1 22 rfl rfl)
abbrev cX4_appendInput : ByteArray := prog_14_method_56_code
def yX4_appendInput : MethodName := ⟨RX4, "appendInput", "(IIIII)I"⟩
def dkwX4_appendInput_2 : List UInt8 := [172]
abbrev dktX4_appendInput_2 : List UInt8 := dkwX4_appendInput_2 ++ []
def dkwX4_appendInput_1 : List UInt8 := [182, 0, 226, 42, 29, 182, 0, 226, 42, 21, 4, 182, 0, 226, 42, 21, 5, 182, 0, 226, 42, 180, 0, 223]
abbrev dktX4_appendInput_1 : List UInt8 := dkwX4_appendInput_1 ++ dktX4_appendInput_2
def dkwX4_appendInput_0 : List UInt8 := [42, 3, 181, 0, 1, 42, 180, 0, 223, 17, 1, 224, 164, 0, 5, 2, 172, 42, 27, 182, 0, 226, 42, 28]
abbrev dktX4_appendInput_0 : List UInt8 := dkwX4_appendInput_0 ++ dktX4_appendInput_1
theorem dksX4_appendInput_0 : cX4_appendInput.data.toList.drop 0 = dktX4_appendInput_0 := by decide +kernel
theorem dksX4_appendInput_1 : cX4_appendInput.data.toList.drop 24 = dktX4_appendInput_1 := dk_seg dksX4_appendInput_0 24 rfl rfl
theorem dksX4_appendInput_2 : cX4_appendInput.data.toList.drop 48 = dktX4_appendInput_2 := dk_seg dksX4_appendInput_1 24 rfl rfl
theorem dX4_appendInput_0 : decode cX4_appendInput 0 = .ok (.aload_n 0, 1) := dk_42 (dk_at dksX4_appendInput_0 0 rfl rfl)
theorem dX4_appendInput_1 : decode cX4_appendInput 1 = .ok (.iconst 0, 1) := dk_3 (dk_at dksX4_appendInput_0 1 rfl rfl)
theorem dX4_appendInput_2 : decode cX4_appendInput 2 = .ok (.putfield 1, 3) := dk_181 0 1 (dk_at dksX4_appendInput_0 2 rfl rfl)
theorem dX4_appendInput_5 : decode cX4_appendInput 5 = .ok (.aload_n 0, 1) := dk_42 (dk_at dksX4_appendInput_0 5 rfl rfl)
theorem dX4_appendInput_6 : decode cX4_appendInput 6 = .ok (.getfield 223, 3) := dk_180 0 223 (dk_at dksX4_appendInput_0 6 rfl rfl)
theorem dX4_appendInput_9 : decode cX4_appendInput 9 = .ok (.sipush 480, 3) := dk_17 1 224 (dk_at dksX4_appendInput_0 9 rfl rfl)
theorem dX4_appendInput_12 : decode cX4_appendInput 12 = .ok (.if_icmp .le 5, 3) := dk_164 0 5 (dk_at dksX4_appendInput_0 12 rfl rfl)
theorem dX4_appendInput_15 : decode cX4_appendInput 15 = .ok (.iconst (-1), 1) := dk_2 (dk_at dksX4_appendInput_0 15 rfl rfl)
theorem dX4_appendInput_16 : decode cX4_appendInput 16 = .ok (.ireturn, 1) := dk_172 (dk_at dksX4_appendInput_0 16 rfl rfl)
theorem dX4_appendInput_17 : decode cX4_appendInput 17 = .ok (.aload_n 0, 1) := dk_42 (dk_at dksX4_appendInput_0 17 rfl rfl)
theorem dX4_appendInput_18 : decode cX4_appendInput 18 = .ok (.iload_n 1, 1) := dk_27 (dk_at dksX4_appendInput_0 18 rfl rfl)
theorem dX4_appendInput_19 : decode cX4_appendInput 19 = .ok (.invokevirtual 226, 3) := dk_182 0 226 (dk_at dksX4_appendInput_0 19 rfl rfl)
theorem dX4_appendInput_22 : decode cX4_appendInput 22 = .ok (.aload_n 0, 1) := dk_42 (dk_at dksX4_appendInput_0 22 rfl rfl)
theorem dX4_appendInput_23 : decode cX4_appendInput 23 = .ok (.iload_n 2, 1) := dk_28 (dk_at dksX4_appendInput_0 23 rfl rfl)
theorem dX4_appendInput_24 : decode cX4_appendInput 24 = .ok (.invokevirtual 226, 3) := dk_182 0 226 (dk_at dksX4_appendInput_1 0 rfl rfl)
theorem dX4_appendInput_27 : decode cX4_appendInput 27 = .ok (.aload_n 0, 1) := dk_42 (dk_at dksX4_appendInput_1 3 rfl rfl)
theorem dX4_appendInput_28 : decode cX4_appendInput 28 = .ok (.iload_n 3, 1) := dk_29 (dk_at dksX4_appendInput_1 4 rfl rfl)
theorem dX4_appendInput_29 : decode cX4_appendInput 29 = .ok (.invokevirtual 226, 3) := dk_182 0 226 (dk_at dksX4_appendInput_1 5 rfl rfl)
theorem dX4_appendInput_32 : decode cX4_appendInput 32 = .ok (.aload_n 0, 1) := dk_42 (dk_at dksX4_appendInput_1 8 rfl rfl)
theorem dX4_appendInput_33 : decode cX4_appendInput 33 = .ok (.iload 4, 2) := dk_21 4 (dk_at dksX4_appendInput_1 9 rfl rfl)
theorem dX4_appendInput_35 : decode cX4_appendInput 35 = .ok (.invokevirtual 226, 3) := dk_182 0 226 (dk_at dksX4_appendInput_1 11 rfl rfl)
theorem dX4_appendInput_38 : decode cX4_appendInput 38 = .ok (.aload_n 0, 1) := dk_42 (dk_at dksX4_appendInput_1 14 rfl rfl)
theorem dX4_appendInput_39 : decode cX4_appendInput 39 = .ok (.iload 5, 2) := dk_21 5 (dk_at dksX4_appendInput_1 15 rfl rfl)
theorem dX4_appendInput_41 : decode cX4_appendInput 41 = .ok (.invokevirtual 226, 3) := dk_182 0 226 (dk_at dksX4_appendInput_1 17 rfl rfl)
theorem dX4_appendInput_44 : decode cX4_appendInput 44 = .ok (.aload_n 0, 1) := dk_42 (dk_at dksX4_appendInput_1 20 rfl rfl)
theorem dX4_appendInput_45 : decode cX4_appendInput 45 = .ok (.getfield 223, 3) := dk_180 0 223 (dk_at dksX4_appendInput_1 21 rfl rfl)
theorem dX4_appendInput_48 : decode cX4_appendInput 48 = .ok (.ireturn, 1) := dk_172 (dk_at dksX4_appendInput_2 0 rfl rfl)
abbrev cX4_puts4 : ByteArray := prog_14_method_55_code
def yX4_puts4 : MethodName := ⟨RX4, "puts4", "(I)V"⟩
def dkwX4_puts4_1 : List UInt8 := [180, 0, 223, 4, 96, 181, 0, 223, 132, 2, 248, 167, 255, 226, 177]
abbrev dktX4_puts4_1 : List UInt8 := dkwX4_puts4_1 ++ []
def dkwX4_puts4_0 : List UInt8 := [16, 24, 61, 28, 155, 0, 32, 42, 180, 0, 47, 42, 180, 0, 223, 27, 28, 122, 145, 84, 42, 42]
abbrev dktX4_puts4_0 : List UInt8 := dkwX4_puts4_0 ++ dktX4_puts4_1
theorem dksX4_puts4_0 : cX4_puts4.data.toList.drop 0 = dktX4_puts4_0 := by decide +kernel
theorem dksX4_puts4_1 : cX4_puts4.data.toList.drop 22 = dktX4_puts4_1 := dk_seg dksX4_puts4_0 22 rfl rfl
theorem dX4_puts4_0 : decode cX4_puts4 0 = .ok (.bipush 24, 2) := dk_16 24 (dk_at dksX4_puts4_0 0 rfl rfl)
theorem dX4_puts4_2 : decode cX4_puts4 2 = .ok (.istore_n 2, 1) := dk_61 (dk_at dksX4_puts4_0 2 rfl rfl)
theorem dX4_puts4_3 : decode cX4_puts4 3 = .ok (.iload_n 2, 1) := dk_28 (dk_at dksX4_puts4_0 3 rfl rfl)
theorem dX4_puts4_4 : decode cX4_puts4 4 = .ok (.ifCond .lt 32, 3) := dk_155 0 32 (dk_at dksX4_puts4_0 4 rfl rfl)
theorem dX4_puts4_7 : decode cX4_puts4 7 = .ok (.aload_n 0, 1) := dk_42 (dk_at dksX4_puts4_0 7 rfl rfl)
theorem dX4_puts4_8 : decode cX4_puts4 8 = .ok (.getfield 47, 3) := dk_180 0 47 (dk_at dksX4_puts4_0 8 rfl rfl)
theorem dX4_puts4_11 : decode cX4_puts4 11 = .ok (.aload_n 0, 1) := dk_42 (dk_at dksX4_puts4_0 11 rfl rfl)
theorem dX4_puts4_12 : decode cX4_puts4 12 = .ok (.getfield 223, 3) := dk_180 0 223 (dk_at dksX4_puts4_0 12 rfl rfl)
theorem dX4_puts4_15 : decode cX4_puts4 15 = .ok (.iload_n 1, 1) := dk_27 (dk_at dksX4_puts4_0 15 rfl rfl)
theorem dX4_puts4_16 : decode cX4_puts4 16 = .ok (.iload_n 2, 1) := dk_28 (dk_at dksX4_puts4_0 16 rfl rfl)
theorem dX4_puts4_17 : decode cX4_puts4 17 = .ok (.ishr, 1) := dk_122 (dk_at dksX4_puts4_0 17 rfl rfl)
theorem dX4_puts4_18 : decode cX4_puts4 18 = .ok (.i2b, 1) := dk_145 (dk_at dksX4_puts4_0 18 rfl rfl)
theorem dX4_puts4_19 : decode cX4_puts4 19 = .ok (.bastore, 1) := dk_84 (dk_at dksX4_puts4_0 19 rfl rfl)
theorem dX4_puts4_20 : decode cX4_puts4 20 = .ok (.aload_n 0, 1) := dk_42 (dk_at dksX4_puts4_0 20 rfl rfl)
theorem dX4_puts4_21 : decode cX4_puts4 21 = .ok (.aload_n 0, 1) := dk_42 (dk_at dksX4_puts4_0 21 rfl rfl)
theorem dX4_puts4_22 : decode cX4_puts4 22 = .ok (.getfield 223, 3) := dk_180 0 223 (dk_at dksX4_puts4_1 0 rfl rfl)
theorem dX4_puts4_25 : decode cX4_puts4 25 = .ok (.iconst 1, 1) := dk_4 (dk_at dksX4_puts4_1 3 rfl rfl)
theorem dX4_puts4_26 : decode cX4_puts4 26 = .ok (.iadd, 1) := dk_96 (dk_at dksX4_puts4_1 4 rfl rfl)
theorem dX4_puts4_27 : decode cX4_puts4 27 = .ok (.putfield 223, 3) := dk_181 0 223 (dk_at dksX4_puts4_1 5 rfl rfl)
theorem dX4_puts4_30 : decode cX4_puts4 30 = .ok (.iinc 2 (-8), 3) := dk_132 2 248 (dk_at dksX4_puts4_1 8 rfl rfl)
theorem dX4_puts4_33 : decode cX4_puts4 33 = .ok (.goto (-30), 3) := dk_167 255 226 (dk_at dksX4_puts4_1 11 rfl rfl)
theorem dX4_puts4_36 : decode cX4_puts4 36 = .ok (.return_, 1) := dk_177 (dk_at dksX4_puts4_1 14 rfl rfl)
abbrev cX4_truncateInput : ByteArray := prog_14_method_57_code
def yX4_truncateInput : MethodName := ⟨RX4, "truncateInput", "(I)Z"⟩
def dkwX4_truncateInput_1 : List UInt8 := [4, 172]
abbrev dktX4_truncateInput_1 : List UInt8 := dkwX4_truncateInput_1 ++ []
def dkwX4_truncateInput_0 : List UInt8 := [42, 3, 181, 0, 1, 27, 3, 42, 180, 0, 223, 184, 0, 121, 154, 0, 5, 3, 172, 42, 27, 181, 0, 223]
abbrev dktX4_truncateInput_0 : List UInt8 := dkwX4_truncateInput_0 ++ dktX4_truncateInput_1
theorem dksX4_truncateInput_0 : cX4_truncateInput.data.toList.drop 0 = dktX4_truncateInput_0 := by decide +kernel
theorem dksX4_truncateInput_1 : cX4_truncateInput.data.toList.drop 24 = dktX4_truncateInput_1 := dk_seg dksX4_truncateInput_0 24 rfl rfl
theorem dX4_truncateInput_0 : decode cX4_truncateInput 0 = .ok (.aload_n 0, 1) := dk_42 (dk_at dksX4_truncateInput_0 0 rfl rfl)
theorem dX4_truncateInput_1 : decode cX4_truncateInput 1 = .ok (.iconst 0, 1) := dk_3 (dk_at dksX4_truncateInput_0 1 rfl rfl)
theorem dX4_truncateInput_2 : decode cX4_truncateInput 2 = .ok (.putfield 1, 3) := dk_181 0 1 (dk_at dksX4_truncateInput_0 2 rfl rfl)
theorem dX4_truncateInput_5 : decode cX4_truncateInput 5 = .ok (.iload_n 1, 1) := dk_27 (dk_at dksX4_truncateInput_0 5 rfl rfl)
theorem dX4_truncateInput_6 : decode cX4_truncateInput 6 = .ok (.iconst 0, 1) := dk_3 (dk_at dksX4_truncateInput_0 6 rfl rfl)
theorem dX4_truncateInput_7 : decode cX4_truncateInput 7 = .ok (.aload_n 0, 1) := dk_42 (dk_at dksX4_truncateInput_0 7 rfl rfl)
theorem dX4_truncateInput_8 : decode cX4_truncateInput 8 = .ok (.getfield 223, 3) := dk_180 0 223 (dk_at dksX4_truncateInput_0 8 rfl rfl)
theorem dX4_truncateInput_11 : decode cX4_truncateInput 11 = .ok (.invokestatic 121, 3) := dk_184 0 121 (dk_at dksX4_truncateInput_0 11 rfl rfl)
theorem dX4_truncateInput_14 : decode cX4_truncateInput 14 = .ok (.ifCond .ne 5, 3) := dk_154 0 5 (dk_at dksX4_truncateInput_0 14 rfl rfl)
theorem dX4_truncateInput_17 : decode cX4_truncateInput 17 = .ok (.iconst 0, 1) := dk_3 (dk_at dksX4_truncateInput_0 17 rfl rfl)
theorem dX4_truncateInput_18 : decode cX4_truncateInput 18 = .ok (.ireturn, 1) := dk_172 (dk_at dksX4_truncateInput_0 18 rfl rfl)
theorem dX4_truncateInput_19 : decode cX4_truncateInput 19 = .ok (.aload_n 0, 1) := dk_42 (dk_at dksX4_truncateInput_0 19 rfl rfl)
theorem dX4_truncateInput_20 : decode cX4_truncateInput 20 = .ok (.iload_n 1, 1) := dk_27 (dk_at dksX4_truncateInput_0 20 rfl rfl)
theorem dX4_truncateInput_21 : decode cX4_truncateInput 21 = .ok (.putfield 223, 3) := dk_181 0 223 (dk_at dksX4_truncateInput_0 21 rfl rfl)
theorem dX4_truncateInput_24 : decode cX4_truncateInput 24 = .ok (.iconst 1, 1) := dk_4 (dk_at dksX4_truncateInput_1 0 rfl rfl)
theorem dX4_truncateInput_25 : decode cX4_truncateInput 25 = .ok (.ireturn, 1) := dk_172 (dk_at dksX4_truncateInput_1 1 rfl rfl)
abbrev cX4_isIn : ByteArray := prog_14_method_2_code
def yX4_isIn : MethodName := ⟨RX4, "isIn", "(III)Z"⟩
def dkwX4_isIn_0 : List UInt8 := [26, 27, 161, 0, 12, 26, 28, 163, 0, 7, 4, 167, 0, 4, 3, 172]
abbrev dktX4_isIn_0 : List UInt8 := dkwX4_isIn_0 ++ []
theorem dksX4_isIn_0 : cX4_isIn.data.toList.drop 0 = dktX4_isIn_0 := by decide +kernel
theorem dX4_isIn_0 : decode cX4_isIn 0 = .ok (.iload_n 0, 1) := dk_26 (dk_at dksX4_isIn_0 0 rfl rfl)
theorem dX4_isIn_1 : decode cX4_isIn 1 = .ok (.iload_n 1, 1) := dk_27 (dk_at dksX4_isIn_0 1 rfl rfl)
theorem dX4_isIn_2 : decode cX4_isIn 2 = .ok (.if_icmp .lt 12, 3) := dk_161 0 12 (dk_at dksX4_isIn_0 2 rfl rfl)
theorem dX4_isIn_5 : decode cX4_isIn 5 = .ok (.iload_n 0, 1) := dk_26 (dk_at dksX4_isIn_0 5 rfl rfl)
theorem dX4_isIn_6 : decode cX4_isIn 6 = .ok (.iload_n 2, 1) := dk_28 (dk_at dksX4_isIn_0 6 rfl rfl)
theorem dX4_isIn_7 : decode cX4_isIn 7 = .ok (.if_icmp .gt 7, 3) := dk_163 0 7 (dk_at dksX4_isIn_0 7 rfl rfl)
theorem dX4_isIn_10 : decode cX4_isIn 10 = .ok (.iconst 1, 1) := dk_4 (dk_at dksX4_isIn_0 10 rfl rfl)
theorem dX4_isIn_11 : decode cX4_isIn 11 = .ok (.goto 4, 3) := dk_167 0 4 (dk_at dksX4_isIn_0 11 rfl rfl)
theorem dX4_isIn_14 : decode cX4_isIn 14 = .ok (.iconst 0, 1) := dk_3 (dk_at dksX4_isIn_0 14 rfl rfl)
theorem dX4_isIn_15 : decode cX4_isIn 15 = .ok (.ireturn, 1) := dk_172 (dk_at dksX4_isIn_0 15 rfl rfl)
abbrev cX4_errorCode : ByteArray := prog_14_method_58_code
def yX4_errorCode : MethodName := ⟨RX4, "errorCode", "()I"⟩
def dkwX4_errorCode_0 : List UInt8 := [42, 3, 181, 0, 1, 42, 180, 0, 229, 172]
abbrev dktX4_errorCode_0 : List UInt8 := dkwX4_errorCode_0 ++ []
theorem dksX4_errorCode_0 : cX4_errorCode.data.toList.drop 0 = dktX4_errorCode_0 := by decide +kernel
theorem dX4_errorCode_0 : decode cX4_errorCode 0 = .ok (.aload_n 0, 1) := dk_42 (dk_at dksX4_errorCode_0 0 rfl rfl)
theorem dX4_errorCode_1 : decode cX4_errorCode 1 = .ok (.iconst 0, 1) := dk_3 (dk_at dksX4_errorCode_0 1 rfl rfl)
theorem dX4_errorCode_2 : decode cX4_errorCode 2 = .ok (.putfield 1, 3) := dk_181 0 1 (dk_at dksX4_errorCode_0 2 rfl rfl)
theorem dX4_errorCode_5 : decode cX4_errorCode 5 = .ok (.aload_n 0, 1) := dk_42 (dk_at dksX4_errorCode_0 5 rfl rfl)
theorem dX4_errorCode_6 : decode cX4_errorCode 6 = .ok (.getfield 229, 3) := dk_180 0 229 (dk_at dksX4_errorCode_0 6 rfl rfl)
theorem dX4_errorCode_9 : decode cX4_errorCode 9 = .ok (.ireturn, 1) := dk_172 (dk_at dksX4_errorCode_0 9 rfl rfl)
abbrev cX4_errorOffset : ByteArray := prog_14_method_59_code
def yX4_errorOffset : MethodName := ⟨RX4, "errorOffset", "()I"⟩
def dkwX4_errorOffset_0 : List UInt8 := [42, 3, 181, 0, 1, 42, 180, 0, 51, 172]
abbrev dktX4_errorOffset_0 : List UInt8 := dkwX4_errorOffset_0 ++ []
theorem dksX4_errorOffset_0 : cX4_errorOffset.data.toList.drop 0 = dktX4_errorOffset_0 := by decide +kernel
theorem dX4_errorOffset_0 : decode cX4_errorOffset 0 = .ok (.aload_n 0, 1) := dk_42 (dk_at dksX4_errorOffset_0 0 rfl rfl)
theorem dX4_errorOffset_1 : decode cX4_errorOffset 1 = .ok (.iconst 0, 1) := dk_3 (dk_at dksX4_errorOffset_0 1 rfl rfl)
theorem dX4_errorOffset_2 : decode cX4_errorOffset 2 = .ok (.putfield 1, 3) := dk_181 0 1 (dk_at dksX4_errorOffset_0 2 rfl rfl)
theorem dX4_errorOffset_5 : decode cX4_errorOffset 5 = .ok (.aload_n 0, 1) := dk_42 (dk_at dksX4_errorOffset_0 5 rfl rfl)
theorem dX4_errorOffset_6 : decode cX4_errorOffset 6 = .ok (.getfield 51, 3) := dk_180 0 51 (dk_at dksX4_errorOffset_0 6 rfl rfl)
theorem dX4_errorOffset_9 : decode cX4_errorOffset 9 = .ok (.ireturn, 1) := dk_172 (dk_at dksX4_errorOffset_0 9 rfl rfl)
abbrev cX4_loadText : ByteArray := prog_14_method_81_code
def yX4_loadText : MethodName := ⟨RX4, "loadText", "()I"⟩
def dkwX4_loadText_6 : List UInt8 := [42, 182, 0, 86, 172]
abbrev dktX4_loadText_6 : List UInt8 := dkwX4_loadText_6 ++ []
def dkwX4_loadText_5 : List UInt8 := [3, 42, 180, 0, 13, 3, 17, 0, 171, 184, 1, 78, 2, 172, 42, 3, 181, 1, 85, 42, 3, 181, 1, 88]
abbrev dktX4_loadText_5 : List UInt8 := dkwX4_loadText_5 ++ dktX4_loadText_6
def dkwX4_loadText_4 : List UInt8 := [167, 0, 4, 3, 60, 167, 255, 228, 42, 3, 181, 0, 223, 42, 182, 0, 247, 154, 0, 21, 42, 180, 0, 17]
abbrev dktX4_loadText_4 : List UInt8 := dkwX4_loadText_4 ++ dktX4_loadText_5
def dkwX4_loadText_3 : List UInt8 := [27, 153, 0, 30, 42, 182, 1, 82, 42, 182, 0, 247, 153, 0, 14, 42, 180, 0, 241, 153, 0, 7, 4]
abbrev dktX4_loadText_3 : List UInt8 := dkwX4_loadText_3 ++ dktX4_loadText_4
def dkwX4_loadText_2 : List UInt8 := [167, 255, 237, 42, 3, 181, 0, 229, 42, 2, 181, 0, 51, 42, 3, 181, 0, 232, 42, 182, 0, 251, 4, 60]
abbrev dktX4_loadText_2 : List UInt8 := dkwX4_loadText_2 ++ dktX4_loadText_3
def dkwX4_loadText_1 : List UInt8 := [182, 0, 64, 3, 60, 27, 42, 180, 0, 54, 190, 162, 0, 16, 42, 180, 0, 54, 27, 3, 84, 132, 1, 1]
abbrev dktX4_loadText_1 : List UInt8 := dkwX4_loadText_1 ++ dktX4_loadText_2
def dkwX4_loadText_0 : List UInt8 := [42, 3, 181, 0, 1, 42, 180, 0, 13, 3, 42, 180, 0, 17, 3, 17, 0, 171, 184, 1, 78, 42]
abbrev dktX4_loadText_0 : List UInt8 := dkwX4_loadText_0 ++ dktX4_loadText_1
theorem dksX4_loadText_0 : cX4_loadText.data.toList.drop 0 = dktX4_loadText_0 := by decide +kernel
theorem dksX4_loadText_1 : cX4_loadText.data.toList.drop 22 = dktX4_loadText_1 := dk_seg dksX4_loadText_0 22 rfl rfl
theorem dksX4_loadText_2 : cX4_loadText.data.toList.drop 46 = dktX4_loadText_2 := dk_seg dksX4_loadText_1 24 rfl rfl
theorem dksX4_loadText_3 : cX4_loadText.data.toList.drop 70 = dktX4_loadText_3 := dk_seg dksX4_loadText_2 24 rfl rfl
theorem dksX4_loadText_4 : cX4_loadText.data.toList.drop 93 = dktX4_loadText_4 := dk_seg dksX4_loadText_3 23 rfl rfl
theorem dksX4_loadText_5 : cX4_loadText.data.toList.drop 117 = dktX4_loadText_5 := dk_seg dksX4_loadText_4 24 rfl rfl
theorem dksX4_loadText_6 : cX4_loadText.data.toList.drop 141 = dktX4_loadText_6 := dk_seg dksX4_loadText_5 24 rfl rfl
theorem dX4_loadText_0 : decode cX4_loadText 0 = .ok (.aload_n 0, 1) := dk_42 (dk_at dksX4_loadText_0 0 rfl rfl)
theorem dX4_loadText_1 : decode cX4_loadText 1 = .ok (.iconst 0, 1) := dk_3 (dk_at dksX4_loadText_0 1 rfl rfl)
theorem dX4_loadText_2 : decode cX4_loadText 2 = .ok (.putfield 1, 3) := dk_181 0 1 (dk_at dksX4_loadText_0 2 rfl rfl)
theorem dX4_loadText_5 : decode cX4_loadText 5 = .ok (.aload_n 0, 1) := dk_42 (dk_at dksX4_loadText_0 5 rfl rfl)
theorem dX4_loadText_6 : decode cX4_loadText 6 = .ok (.getfield 13, 3) := dk_180 0 13 (dk_at dksX4_loadText_0 6 rfl rfl)
theorem dX4_loadText_9 : decode cX4_loadText 9 = .ok (.iconst 0, 1) := dk_3 (dk_at dksX4_loadText_0 9 rfl rfl)
theorem dX4_loadText_10 : decode cX4_loadText 10 = .ok (.aload_n 0, 1) := dk_42 (dk_at dksX4_loadText_0 10 rfl rfl)
theorem dX4_loadText_11 : decode cX4_loadText 11 = .ok (.getfield 17, 3) := dk_180 0 17 (dk_at dksX4_loadText_0 11 rfl rfl)
theorem dX4_loadText_14 : decode cX4_loadText 14 = .ok (.iconst 0, 1) := dk_3 (dk_at dksX4_loadText_0 14 rfl rfl)
theorem dX4_loadText_15 : decode cX4_loadText 15 = .ok (.sipush 171, 3) := dk_17 0 171 (dk_at dksX4_loadText_0 15 rfl rfl)
theorem dX4_loadText_18 : decode cX4_loadText 18 = .ok (.invokestatic 334, 3) := dk_184 1 78 (dk_at dksX4_loadText_0 18 rfl rfl)
theorem dX4_loadText_21 : decode cX4_loadText 21 = .ok (.aload_n 0, 1) := dk_42 (dk_at dksX4_loadText_0 21 rfl rfl)
theorem dX4_loadText_22 : decode cX4_loadText 22 = .ok (.invokevirtual 64, 3) := dk_182 0 64 (dk_at dksX4_loadText_1 0 rfl rfl)
theorem dX4_loadText_25 : decode cX4_loadText 25 = .ok (.iconst 0, 1) := dk_3 (dk_at dksX4_loadText_1 3 rfl rfl)
theorem dX4_loadText_26 : decode cX4_loadText 26 = .ok (.istore_n 1, 1) := dk_60 (dk_at dksX4_loadText_1 4 rfl rfl)
theorem dX4_loadText_27 : decode cX4_loadText 27 = .ok (.iload_n 1, 1) := dk_27 (dk_at dksX4_loadText_1 5 rfl rfl)
theorem dX4_loadText_28 : decode cX4_loadText 28 = .ok (.aload_n 0, 1) := dk_42 (dk_at dksX4_loadText_1 6 rfl rfl)
theorem dX4_loadText_29 : decode cX4_loadText 29 = .ok (.getfield 54, 3) := dk_180 0 54 (dk_at dksX4_loadText_1 7 rfl rfl)
theorem dX4_loadText_32 : decode cX4_loadText 32 = .ok (.arraylength, 1) := dk_190 (dk_at dksX4_loadText_1 10 rfl rfl)
theorem dX4_loadText_33 : decode cX4_loadText 33 = .ok (.if_icmp .ge 16, 3) := dk_162 0 16 (dk_at dksX4_loadText_1 11 rfl rfl)
theorem dX4_loadText_36 : decode cX4_loadText 36 = .ok (.aload_n 0, 1) := dk_42 (dk_at dksX4_loadText_1 14 rfl rfl)
theorem dX4_loadText_37 : decode cX4_loadText 37 = .ok (.getfield 54, 3) := dk_180 0 54 (dk_at dksX4_loadText_1 15 rfl rfl)
theorem dX4_loadText_40 : decode cX4_loadText 40 = .ok (.iload_n 1, 1) := dk_27 (dk_at dksX4_loadText_1 18 rfl rfl)
theorem dX4_loadText_41 : decode cX4_loadText 41 = .ok (.iconst 0, 1) := dk_3 (dk_at dksX4_loadText_1 19 rfl rfl)
theorem dX4_loadText_42 : decode cX4_loadText 42 = .ok (.bastore, 1) := dk_84 (dk_at dksX4_loadText_1 20 rfl rfl)
theorem dX4_loadText_43 : decode cX4_loadText 43 = .ok (.iinc 1 1, 3) := dk_132 1 1 (dk_at dksX4_loadText_1 21 rfl rfl)
theorem dX4_loadText_46 : decode cX4_loadText 46 = .ok (.goto (-19), 3) := dk_167 255 237 (dk_at dksX4_loadText_2 0 rfl rfl)
theorem dX4_loadText_49 : decode cX4_loadText 49 = .ok (.aload_n 0, 1) := dk_42 (dk_at dksX4_loadText_2 3 rfl rfl)
theorem dX4_loadText_50 : decode cX4_loadText 50 = .ok (.iconst 0, 1) := dk_3 (dk_at dksX4_loadText_2 4 rfl rfl)
theorem dX4_loadText_51 : decode cX4_loadText 51 = .ok (.putfield 229, 3) := dk_181 0 229 (dk_at dksX4_loadText_2 5 rfl rfl)
theorem dX4_loadText_54 : decode cX4_loadText 54 = .ok (.aload_n 0, 1) := dk_42 (dk_at dksX4_loadText_2 8 rfl rfl)
theorem dX4_loadText_55 : decode cX4_loadText 55 = .ok (.iconst (-1), 1) := dk_2 (dk_at dksX4_loadText_2 9 rfl rfl)
theorem dX4_loadText_56 : decode cX4_loadText 56 = .ok (.putfield 51, 3) := dk_181 0 51 (dk_at dksX4_loadText_2 10 rfl rfl)
theorem dX4_loadText_59 : decode cX4_loadText 59 = .ok (.aload_n 0, 1) := dk_42 (dk_at dksX4_loadText_2 13 rfl rfl)
theorem dX4_loadText_60 : decode cX4_loadText 60 = .ok (.iconst 0, 1) := dk_3 (dk_at dksX4_loadText_2 14 rfl rfl)
theorem dX4_loadText_61 : decode cX4_loadText 61 = .ok (.putfield 232, 3) := dk_181 0 232 (dk_at dksX4_loadText_2 15 rfl rfl)
theorem dX4_loadText_64 : decode cX4_loadText 64 = .ok (.aload_n 0, 1) := dk_42 (dk_at dksX4_loadText_2 18 rfl rfl)
theorem dX4_loadText_65 : decode cX4_loadText 65 = .ok (.invokevirtual 251, 3) := dk_182 0 251 (dk_at dksX4_loadText_2 19 rfl rfl)
theorem dX4_loadText_68 : decode cX4_loadText 68 = .ok (.iconst 1, 1) := dk_4 (dk_at dksX4_loadText_2 22 rfl rfl)
theorem dX4_loadText_69 : decode cX4_loadText 69 = .ok (.istore_n 1, 1) := dk_60 (dk_at dksX4_loadText_2 23 rfl rfl)
theorem dX4_loadText_70 : decode cX4_loadText 70 = .ok (.iload_n 1, 1) := dk_27 (dk_at dksX4_loadText_3 0 rfl rfl)
theorem dX4_loadText_71 : decode cX4_loadText 71 = .ok (.ifCond .eq 30, 3) := dk_153 0 30 (dk_at dksX4_loadText_3 1 rfl rfl)
theorem dX4_loadText_74 : decode cX4_loadText 74 = .ok (.aload_n 0, 1) := dk_42 (dk_at dksX4_loadText_3 4 rfl rfl)
theorem dX4_loadText_75 : decode cX4_loadText 75 = .ok (.invokevirtual 338, 3) := dk_182 1 82 (dk_at dksX4_loadText_3 5 rfl rfl)
theorem dX4_loadText_78 : decode cX4_loadText 78 = .ok (.aload_n 0, 1) := dk_42 (dk_at dksX4_loadText_3 8 rfl rfl)
theorem dX4_loadText_79 : decode cX4_loadText 79 = .ok (.invokevirtual 247, 3) := dk_182 0 247 (dk_at dksX4_loadText_3 9 rfl rfl)
theorem dX4_loadText_82 : decode cX4_loadText 82 = .ok (.ifCond .eq 14, 3) := dk_153 0 14 (dk_at dksX4_loadText_3 12 rfl rfl)
theorem dX4_loadText_85 : decode cX4_loadText 85 = .ok (.aload_n 0, 1) := dk_42 (dk_at dksX4_loadText_3 15 rfl rfl)
theorem dX4_loadText_86 : decode cX4_loadText 86 = .ok (.getfield 241, 3) := dk_180 0 241 (dk_at dksX4_loadText_3 16 rfl rfl)
theorem dX4_loadText_89 : decode cX4_loadText 89 = .ok (.ifCond .eq 7, 3) := dk_153 0 7 (dk_at dksX4_loadText_3 19 rfl rfl)
theorem dX4_loadText_92 : decode cX4_loadText 92 = .ok (.iconst 1, 1) := dk_4 (dk_at dksX4_loadText_3 22 rfl rfl)
theorem dX4_loadText_93 : decode cX4_loadText 93 = .ok (.goto 4, 3) := dk_167 0 4 (dk_at dksX4_loadText_4 0 rfl rfl)
theorem dX4_loadText_96 : decode cX4_loadText 96 = .ok (.iconst 0, 1) := dk_3 (dk_at dksX4_loadText_4 3 rfl rfl)
theorem dX4_loadText_97 : decode cX4_loadText 97 = .ok (.istore_n 1, 1) := dk_60 (dk_at dksX4_loadText_4 4 rfl rfl)
theorem dX4_loadText_98 : decode cX4_loadText 98 = .ok (.goto (-28), 3) := dk_167 255 228 (dk_at dksX4_loadText_4 5 rfl rfl)
theorem dX4_loadText_101 : decode cX4_loadText 101 = .ok (.aload_n 0, 1) := dk_42 (dk_at dksX4_loadText_4 8 rfl rfl)
theorem dX4_loadText_102 : decode cX4_loadText 102 = .ok (.iconst 0, 1) := dk_3 (dk_at dksX4_loadText_4 9 rfl rfl)
theorem dX4_loadText_103 : decode cX4_loadText 103 = .ok (.putfield 223, 3) := dk_181 0 223 (dk_at dksX4_loadText_4 10 rfl rfl)
theorem dX4_loadText_106 : decode cX4_loadText 106 = .ok (.aload_n 0, 1) := dk_42 (dk_at dksX4_loadText_4 13 rfl rfl)
theorem dX4_loadText_107 : decode cX4_loadText 107 = .ok (.invokevirtual 247, 3) := dk_182 0 247 (dk_at dksX4_loadText_4 14 rfl rfl)
theorem dX4_loadText_110 : decode cX4_loadText 110 = .ok (.ifCond .ne 21, 3) := dk_154 0 21 (dk_at dksX4_loadText_4 17 rfl rfl)
theorem dX4_loadText_113 : decode cX4_loadText 113 = .ok (.aload_n 0, 1) := dk_42 (dk_at dksX4_loadText_4 20 rfl rfl)
theorem dX4_loadText_114 : decode cX4_loadText 114 = .ok (.getfield 17, 3) := dk_180 0 17 (dk_at dksX4_loadText_4 21 rfl rfl)
theorem dX4_loadText_117 : decode cX4_loadText 117 = .ok (.iconst 0, 1) := dk_3 (dk_at dksX4_loadText_5 0 rfl rfl)
theorem dX4_loadText_118 : decode cX4_loadText 118 = .ok (.aload_n 0, 1) := dk_42 (dk_at dksX4_loadText_5 1 rfl rfl)
theorem dX4_loadText_119 : decode cX4_loadText 119 = .ok (.getfield 13, 3) := dk_180 0 13 (dk_at dksX4_loadText_5 2 rfl rfl)
theorem dX4_loadText_122 : decode cX4_loadText 122 = .ok (.iconst 0, 1) := dk_3 (dk_at dksX4_loadText_5 5 rfl rfl)
theorem dX4_loadText_123 : decode cX4_loadText 123 = .ok (.sipush 171, 3) := dk_17 0 171 (dk_at dksX4_loadText_5 6 rfl rfl)
theorem dX4_loadText_126 : decode cX4_loadText 126 = .ok (.invokestatic 334, 3) := dk_184 1 78 (dk_at dksX4_loadText_5 9 rfl rfl)
theorem dX4_loadText_129 : decode cX4_loadText 129 = .ok (.iconst (-1), 1) := dk_2 (dk_at dksX4_loadText_5 12 rfl rfl)
theorem dX4_loadText_130 : decode cX4_loadText 130 = .ok (.ireturn, 1) := dk_172 (dk_at dksX4_loadText_5 13 rfl rfl)
theorem dX4_loadText_131 : decode cX4_loadText 131 = .ok (.aload_n 0, 1) := dk_42 (dk_at dksX4_loadText_5 14 rfl rfl)
theorem dX4_loadText_132 : decode cX4_loadText 132 = .ok (.iconst 0, 1) := dk_3 (dk_at dksX4_loadText_5 15 rfl rfl)
theorem dX4_loadText_133 : decode cX4_loadText 133 = .ok (.putfield 341, 3) := dk_181 1 85 (dk_at dksX4_loadText_5 16 rfl rfl)
theorem dX4_loadText_136 : decode cX4_loadText 136 = .ok (.aload_n 0, 1) := dk_42 (dk_at dksX4_loadText_5 19 rfl rfl)
theorem dX4_loadText_137 : decode cX4_loadText 137 = .ok (.iconst 0, 1) := dk_3 (dk_at dksX4_loadText_5 20 rfl rfl)
theorem dX4_loadText_138 : decode cX4_loadText 138 = .ok (.putfield 344, 3) := dk_181 1 88 (dk_at dksX4_loadText_5 21 rfl rfl)
theorem dX4_loadText_141 : decode cX4_loadText 141 = .ok (.aload_n 0, 1) := dk_42 (dk_at dksX4_loadText_6 0 rfl rfl)
theorem dX4_loadText_142 : decode cX4_loadText 142 = .ok (.invokevirtual 86, 3) := dk_182 0 86 (dk_at dksX4_loadText_6 1 rfl rfl)
theorem dX4_loadText_145 : decode cX4_loadText 145 = .ok (.ireturn, 1) := dk_172 (dk_at dksX4_loadText_6 4 rfl rfl)
abbrev cX4_copies : ByteArray := prog_14_method_6_code
def yX4_copies : MethodName := ⟨RX4, "copies", "([II[III)V"⟩
def dkwX4_copies_1 : List UInt8 := [132, 5, 1, 167, 255, 234, 177]
abbrev dktX4_copies_1 : List UInt8 := dkwX4_copies_1 ++ []
def dkwX4_copies_0 : List UInt8 := [3, 54, 5, 21, 5, 21, 4, 162, 0, 21, 44, 29, 21, 5, 96, 42, 27, 21, 5, 96, 46, 79]
abbrev dktX4_copies_0 : List UInt8 := dkwX4_copies_0 ++ dktX4_copies_1
theorem dksX4_copies_0 : cX4_copies.data.toList.drop 0 = dktX4_copies_0 := by decide +kernel
theorem dksX4_copies_1 : cX4_copies.data.toList.drop 22 = dktX4_copies_1 := dk_seg dksX4_copies_0 22 rfl rfl
theorem dX4_copies_0 : decode cX4_copies 0 = .ok (.iconst 0, 1) := dk_3 (dk_at dksX4_copies_0 0 rfl rfl)
theorem dX4_copies_1 : decode cX4_copies 1 = .ok (.istore 5, 2) := dk_54 5 (dk_at dksX4_copies_0 1 rfl rfl)
theorem dX4_copies_3 : decode cX4_copies 3 = .ok (.iload 5, 2) := dk_21 5 (dk_at dksX4_copies_0 3 rfl rfl)
theorem dX4_copies_5 : decode cX4_copies 5 = .ok (.iload 4, 2) := dk_21 4 (dk_at dksX4_copies_0 5 rfl rfl)
theorem dX4_copies_7 : decode cX4_copies 7 = .ok (.if_icmp .ge 21, 3) := dk_162 0 21 (dk_at dksX4_copies_0 7 rfl rfl)
theorem dX4_copies_10 : decode cX4_copies 10 = .ok (.aload_n 2, 1) := dk_44 (dk_at dksX4_copies_0 10 rfl rfl)
theorem dX4_copies_11 : decode cX4_copies 11 = .ok (.iload_n 3, 1) := dk_29 (dk_at dksX4_copies_0 11 rfl rfl)
theorem dX4_copies_12 : decode cX4_copies 12 = .ok (.iload 5, 2) := dk_21 5 (dk_at dksX4_copies_0 12 rfl rfl)
theorem dX4_copies_14 : decode cX4_copies 14 = .ok (.iadd, 1) := dk_96 (dk_at dksX4_copies_0 14 rfl rfl)
theorem dX4_copies_15 : decode cX4_copies 15 = .ok (.aload_n 0, 1) := dk_42 (dk_at dksX4_copies_0 15 rfl rfl)
theorem dX4_copies_16 : decode cX4_copies 16 = .ok (.iload_n 1, 1) := dk_27 (dk_at dksX4_copies_0 16 rfl rfl)
theorem dX4_copies_17 : decode cX4_copies 17 = .ok (.iload 5, 2) := dk_21 5 (dk_at dksX4_copies_0 17 rfl rfl)
theorem dX4_copies_19 : decode cX4_copies 19 = .ok (.iadd, 1) := dk_96 (dk_at dksX4_copies_0 19 rfl rfl)
theorem dX4_copies_20 : decode cX4_copies 20 = .ok (.iaload, 1) := dk_46 (dk_at dksX4_copies_0 20 rfl rfl)
theorem dX4_copies_21 : decode cX4_copies 21 = .ok (.iastore, 1) := dk_79 (dk_at dksX4_copies_0 21 rfl rfl)
theorem dX4_copies_22 : decode cX4_copies 22 = .ok (.iinc 5 1, 3) := dk_132 5 1 (dk_at dksX4_copies_1 0 rfl rfl)
theorem dX4_copies_25 : decode cX4_copies 25 = .ok (.goto (-22), 3) := dk_167 255 234 (dk_at dksX4_copies_1 3 rfl rfl)
theorem dX4_copies_28 : decode cX4_copies 28 = .ok (.return_, 1) := dk_177 (dk_at dksX4_copies_1 6 rfl rfl)
abbrev cX4_scans : ByteArray := prog_14_method_61_code
def yX4_scans : MethodName := ⟨RX4, "scans", "()V"⟩
def dkwX4_scans_10 : List UInt8 := [160, 0, 7, 6, 167, 0, 4, 7, 181, 0, 241, 42, 42, 180, 0, 232, 4, 96, 181, 0, 232, 177]
abbrev dktX4_scans_10 : List UInt8 := dkwX4_scans_10 ++ []
def dkwX4_scans_9 : List UInt8 := [180, 0, 238, 100, 5, 164, 0, 7, 7, 167, 0, 4, 5, 181, 0, 241, 167, 0, 28, 42, 27, 16, 59]
abbrev dktX4_scans_9 : List UInt8 := dkwX4_scans_9 ++ dktX4_scans_10
def dkwX4_scans_8 : List UInt8 := [181, 0, 244, 42, 42, 180, 0, 232, 4, 96, 181, 0, 232, 167, 255, 192, 42, 42, 180, 0, 232, 42]
abbrev dktX4_scans_8 : List UInt8 := dkwX4_scans_8 ++ dktX4_scans_9
def dkwX4_scans_7 : List UInt8 := [162, 0, 26, 42, 16, 10, 42, 180, 0, 244, 104, 42, 42, 180, 0, 232, 182, 0, 235, 96, 16, 48, 100]
abbrev dktX4_scans_7 : List UInt8 := dkwX4_scans_7 ++ dktX4_scans_8
def dkwX4_scans_6 : List UInt8 := [182, 0, 235, 16, 48, 16, 57, 184, 0, 121, 153, 0, 52, 42, 180, 0, 232, 42, 180, 0, 238, 100, 5]
abbrev dktX4_scans_6 : List UInt8 := dkwX4_scans_6 ++ dktX4_scans_7
def dkwX4_scans_5 : List UInt8 := [167, 0, 136, 27, 16, 48, 16, 57, 184, 0, 121, 153, 0, 100, 42, 3, 181, 0, 244, 42, 42, 180, 0, 232]
abbrev dktX4_scans_5 : List UInt8 := dkwX4_scans_5 ++ dktX4_scans_6
def dkwX4_scans_4 : List UInt8 := [184, 0, 121, 153, 0, 16, 42, 42, 180, 0, 232, 4, 96, 181, 0, 232, 167, 255, 228, 42, 4, 181, 0, 241]
abbrev dktX4_scans_4 : List UInt8 := dkwX4_scans_4 ++ dktX4_scans_5
def dkwX4_scans_3 : List UInt8 := [16, 97, 16, 122, 184, 0, 121, 153, 0, 42, 42, 42, 180, 0, 232, 182, 0, 235, 16, 97, 16, 122]
abbrev dktX4_scans_3 : List UInt8 := dkwX4_scans_3 ++ dktX4_scans_4
def dkwX4_scans_2 : List UInt8 := [42, 42, 180, 0, 238, 182, 0, 235, 60, 27, 2, 160, 0, 11, 42, 3, 181, 0, 241, 167, 0, 186, 27]
abbrev dktX4_scans_2 : List UInt8 := dkwX4_scans_2 ++ dktX4_scans_3
def dkwX4_scans_1 : List UInt8 := [160, 0, 16, 42, 42, 180, 0, 232, 4, 96, 181, 0, 232, 167, 255, 220, 42, 42, 180, 0, 232, 181, 0, 238]
abbrev dktX4_scans_1 : List UInt8 := dkwX4_scans_1 ++ dktX4_scans_2
def dkwX4_scans_0 : List UInt8 := [42, 42, 180, 0, 232, 182, 0, 235, 16, 32, 159, 0, 16, 42, 42, 180, 0, 232, 182, 0, 235, 16, 10]
abbrev dktX4_scans_0 : List UInt8 := dkwX4_scans_0 ++ dktX4_scans_1
theorem dksX4_scans_0 : cX4_scans.data.toList.drop 0 = dktX4_scans_0 := by decide +kernel
theorem dksX4_scans_1 : cX4_scans.data.toList.drop 23 = dktX4_scans_1 := dk_seg dksX4_scans_0 23 rfl rfl
theorem dksX4_scans_2 : cX4_scans.data.toList.drop 47 = dktX4_scans_2 := dk_seg dksX4_scans_1 24 rfl rfl
theorem dksX4_scans_3 : cX4_scans.data.toList.drop 70 = dktX4_scans_3 := dk_seg dksX4_scans_2 23 rfl rfl
theorem dksX4_scans_4 : cX4_scans.data.toList.drop 92 = dktX4_scans_4 := dk_seg dksX4_scans_3 22 rfl rfl
theorem dksX4_scans_5 : cX4_scans.data.toList.drop 116 = dktX4_scans_5 := dk_seg dksX4_scans_4 24 rfl rfl
theorem dksX4_scans_6 : cX4_scans.data.toList.drop 140 = dktX4_scans_6 := dk_seg dksX4_scans_5 24 rfl rfl
theorem dksX4_scans_7 : cX4_scans.data.toList.drop 163 = dktX4_scans_7 := dk_seg dksX4_scans_6 23 rfl rfl
theorem dksX4_scans_8 : cX4_scans.data.toList.drop 186 = dktX4_scans_8 := dk_seg dksX4_scans_7 23 rfl rfl
theorem dksX4_scans_9 : cX4_scans.data.toList.drop 208 = dktX4_scans_9 := dk_seg dksX4_scans_8 22 rfl rfl
theorem dksX4_scans_10 : cX4_scans.data.toList.drop 231 = dktX4_scans_10 := dk_seg dksX4_scans_9 23 rfl rfl
theorem dX4_scans_0 : decode cX4_scans 0 = .ok (.aload_n 0, 1) := dk_42 (dk_at dksX4_scans_0 0 rfl rfl)
theorem dX4_scans_1 : decode cX4_scans 1 = .ok (.aload_n 0, 1) := dk_42 (dk_at dksX4_scans_0 1 rfl rfl)
theorem dX4_scans_2 : decode cX4_scans 2 = .ok (.getfield 232, 3) := dk_180 0 232 (dk_at dksX4_scans_0 2 rfl rfl)
theorem dX4_scans_5 : decode cX4_scans 5 = .ok (.invokevirtual 235, 3) := dk_182 0 235 (dk_at dksX4_scans_0 5 rfl rfl)
theorem dX4_scans_8 : decode cX4_scans 8 = .ok (.bipush 32, 2) := dk_16 32 (dk_at dksX4_scans_0 8 rfl rfl)
theorem dX4_scans_10 : decode cX4_scans 10 = .ok (.if_icmp .eq 16, 3) := dk_159 0 16 (dk_at dksX4_scans_0 10 rfl rfl)
theorem dX4_scans_13 : decode cX4_scans 13 = .ok (.aload_n 0, 1) := dk_42 (dk_at dksX4_scans_0 13 rfl rfl)
theorem dX4_scans_14 : decode cX4_scans 14 = .ok (.aload_n 0, 1) := dk_42 (dk_at dksX4_scans_0 14 rfl rfl)
theorem dX4_scans_15 : decode cX4_scans 15 = .ok (.getfield 232, 3) := dk_180 0 232 (dk_at dksX4_scans_0 15 rfl rfl)
theorem dX4_scans_18 : decode cX4_scans 18 = .ok (.invokevirtual 235, 3) := dk_182 0 235 (dk_at dksX4_scans_0 18 rfl rfl)
theorem dX4_scans_21 : decode cX4_scans 21 = .ok (.bipush 10, 2) := dk_16 10 (dk_at dksX4_scans_0 21 rfl rfl)
theorem dX4_scans_23 : decode cX4_scans 23 = .ok (.if_icmp .ne 16, 3) := dk_160 0 16 (dk_at dksX4_scans_1 0 rfl rfl)
theorem dX4_scans_26 : decode cX4_scans 26 = .ok (.aload_n 0, 1) := dk_42 (dk_at dksX4_scans_1 3 rfl rfl)
theorem dX4_scans_27 : decode cX4_scans 27 = .ok (.aload_n 0, 1) := dk_42 (dk_at dksX4_scans_1 4 rfl rfl)
theorem dX4_scans_28 : decode cX4_scans 28 = .ok (.getfield 232, 3) := dk_180 0 232 (dk_at dksX4_scans_1 5 rfl rfl)
theorem dX4_scans_31 : decode cX4_scans 31 = .ok (.iconst 1, 1) := dk_4 (dk_at dksX4_scans_1 8 rfl rfl)
theorem dX4_scans_32 : decode cX4_scans 32 = .ok (.iadd, 1) := dk_96 (dk_at dksX4_scans_1 9 rfl rfl)
theorem dX4_scans_33 : decode cX4_scans 33 = .ok (.putfield 232, 3) := dk_181 0 232 (dk_at dksX4_scans_1 10 rfl rfl)
theorem dX4_scans_36 : decode cX4_scans 36 = .ok (.goto (-36), 3) := dk_167 255 220 (dk_at dksX4_scans_1 13 rfl rfl)
theorem dX4_scans_39 : decode cX4_scans 39 = .ok (.aload_n 0, 1) := dk_42 (dk_at dksX4_scans_1 16 rfl rfl)
theorem dX4_scans_40 : decode cX4_scans 40 = .ok (.aload_n 0, 1) := dk_42 (dk_at dksX4_scans_1 17 rfl rfl)
theorem dX4_scans_41 : decode cX4_scans 41 = .ok (.getfield 232, 3) := dk_180 0 232 (dk_at dksX4_scans_1 18 rfl rfl)
theorem dX4_scans_44 : decode cX4_scans 44 = .ok (.putfield 238, 3) := dk_181 0 238 (dk_at dksX4_scans_1 21 rfl rfl)
theorem dX4_scans_47 : decode cX4_scans 47 = .ok (.aload_n 0, 1) := dk_42 (dk_at dksX4_scans_2 0 rfl rfl)
theorem dX4_scans_48 : decode cX4_scans 48 = .ok (.aload_n 0, 1) := dk_42 (dk_at dksX4_scans_2 1 rfl rfl)
theorem dX4_scans_49 : decode cX4_scans 49 = .ok (.getfield 238, 3) := dk_180 0 238 (dk_at dksX4_scans_2 2 rfl rfl)
theorem dX4_scans_52 : decode cX4_scans 52 = .ok (.invokevirtual 235, 3) := dk_182 0 235 (dk_at dksX4_scans_2 5 rfl rfl)
theorem dX4_scans_55 : decode cX4_scans 55 = .ok (.istore_n 1, 1) := dk_60 (dk_at dksX4_scans_2 8 rfl rfl)
theorem dX4_scans_56 : decode cX4_scans 56 = .ok (.iload_n 1, 1) := dk_27 (dk_at dksX4_scans_2 9 rfl rfl)
theorem dX4_scans_57 : decode cX4_scans 57 = .ok (.iconst (-1), 1) := dk_2 (dk_at dksX4_scans_2 10 rfl rfl)
theorem dX4_scans_58 : decode cX4_scans 58 = .ok (.if_icmp .ne 11, 3) := dk_160 0 11 (dk_at dksX4_scans_2 11 rfl rfl)
theorem dX4_scans_61 : decode cX4_scans 61 = .ok (.aload_n 0, 1) := dk_42 (dk_at dksX4_scans_2 14 rfl rfl)
theorem dX4_scans_62 : decode cX4_scans 62 = .ok (.iconst 0, 1) := dk_3 (dk_at dksX4_scans_2 15 rfl rfl)
theorem dX4_scans_63 : decode cX4_scans 63 = .ok (.putfield 241, 3) := dk_181 0 241 (dk_at dksX4_scans_2 16 rfl rfl)
theorem dX4_scans_66 : decode cX4_scans 66 = .ok (.goto 186, 3) := dk_167 0 186 (dk_at dksX4_scans_2 19 rfl rfl)
theorem dX4_scans_69 : decode cX4_scans 69 = .ok (.iload_n 1, 1) := dk_27 (dk_at dksX4_scans_2 22 rfl rfl)
theorem dX4_scans_70 : decode cX4_scans 70 = .ok (.bipush 97, 2) := dk_16 97 (dk_at dksX4_scans_3 0 rfl rfl)
theorem dX4_scans_72 : decode cX4_scans 72 = .ok (.bipush 122, 2) := dk_16 122 (dk_at dksX4_scans_3 2 rfl rfl)
theorem dX4_scans_74 : decode cX4_scans 74 = .ok (.invokestatic 121, 3) := dk_184 0 121 (dk_at dksX4_scans_3 4 rfl rfl)
theorem dX4_scans_77 : decode cX4_scans 77 = .ok (.ifCond .eq 42, 3) := dk_153 0 42 (dk_at dksX4_scans_3 7 rfl rfl)
theorem dX4_scans_80 : decode cX4_scans 80 = .ok (.aload_n 0, 1) := dk_42 (dk_at dksX4_scans_3 10 rfl rfl)
theorem dX4_scans_81 : decode cX4_scans 81 = .ok (.aload_n 0, 1) := dk_42 (dk_at dksX4_scans_3 11 rfl rfl)
theorem dX4_scans_82 : decode cX4_scans 82 = .ok (.getfield 232, 3) := dk_180 0 232 (dk_at dksX4_scans_3 12 rfl rfl)
theorem dX4_scans_85 : decode cX4_scans 85 = .ok (.invokevirtual 235, 3) := dk_182 0 235 (dk_at dksX4_scans_3 15 rfl rfl)
theorem dX4_scans_88 : decode cX4_scans 88 = .ok (.bipush 97, 2) := dk_16 97 (dk_at dksX4_scans_3 18 rfl rfl)
theorem dX4_scans_90 : decode cX4_scans 90 = .ok (.bipush 122, 2) := dk_16 122 (dk_at dksX4_scans_3 20 rfl rfl)
theorem dX4_scans_92 : decode cX4_scans 92 = .ok (.invokestatic 121, 3) := dk_184 0 121 (dk_at dksX4_scans_4 0 rfl rfl)
theorem dX4_scans_95 : decode cX4_scans 95 = .ok (.ifCond .eq 16, 3) := dk_153 0 16 (dk_at dksX4_scans_4 3 rfl rfl)
theorem dX4_scans_98 : decode cX4_scans 98 = .ok (.aload_n 0, 1) := dk_42 (dk_at dksX4_scans_4 6 rfl rfl)
theorem dX4_scans_99 : decode cX4_scans 99 = .ok (.aload_n 0, 1) := dk_42 (dk_at dksX4_scans_4 7 rfl rfl)
theorem dX4_scans_100 : decode cX4_scans 100 = .ok (.getfield 232, 3) := dk_180 0 232 (dk_at dksX4_scans_4 8 rfl rfl)
theorem dX4_scans_103 : decode cX4_scans 103 = .ok (.iconst 1, 1) := dk_4 (dk_at dksX4_scans_4 11 rfl rfl)
theorem dX4_scans_104 : decode cX4_scans 104 = .ok (.iadd, 1) := dk_96 (dk_at dksX4_scans_4 12 rfl rfl)
theorem dX4_scans_105 : decode cX4_scans 105 = .ok (.putfield 232, 3) := dk_181 0 232 (dk_at dksX4_scans_4 13 rfl rfl)
theorem dX4_scans_108 : decode cX4_scans 108 = .ok (.goto (-28), 3) := dk_167 255 228 (dk_at dksX4_scans_4 16 rfl rfl)
theorem dX4_scans_111 : decode cX4_scans 111 = .ok (.aload_n 0, 1) := dk_42 (dk_at dksX4_scans_4 19 rfl rfl)
theorem dX4_scans_112 : decode cX4_scans 112 = .ok (.iconst 1, 1) := dk_4 (dk_at dksX4_scans_4 20 rfl rfl)
theorem dX4_scans_113 : decode cX4_scans 113 = .ok (.putfield 241, 3) := dk_181 0 241 (dk_at dksX4_scans_4 21 rfl rfl)
theorem dX4_scans_116 : decode cX4_scans 116 = .ok (.goto 136, 3) := dk_167 0 136 (dk_at dksX4_scans_5 0 rfl rfl)
theorem dX4_scans_119 : decode cX4_scans 119 = .ok (.iload_n 1, 1) := dk_27 (dk_at dksX4_scans_5 3 rfl rfl)
theorem dX4_scans_120 : decode cX4_scans 120 = .ok (.bipush 48, 2) := dk_16 48 (dk_at dksX4_scans_5 4 rfl rfl)
theorem dX4_scans_122 : decode cX4_scans 122 = .ok (.bipush 57, 2) := dk_16 57 (dk_at dksX4_scans_5 6 rfl rfl)
theorem dX4_scans_124 : decode cX4_scans 124 = .ok (.invokestatic 121, 3) := dk_184 0 121 (dk_at dksX4_scans_5 8 rfl rfl)
theorem dX4_scans_127 : decode cX4_scans 127 = .ok (.ifCond .eq 100, 3) := dk_153 0 100 (dk_at dksX4_scans_5 11 rfl rfl)
theorem dX4_scans_130 : decode cX4_scans 130 = .ok (.aload_n 0, 1) := dk_42 (dk_at dksX4_scans_5 14 rfl rfl)
theorem dX4_scans_131 : decode cX4_scans 131 = .ok (.iconst 0, 1) := dk_3 (dk_at dksX4_scans_5 15 rfl rfl)
theorem dX4_scans_132 : decode cX4_scans 132 = .ok (.putfield 244, 3) := dk_181 0 244 (dk_at dksX4_scans_5 16 rfl rfl)
theorem dX4_scans_135 : decode cX4_scans 135 = .ok (.aload_n 0, 1) := dk_42 (dk_at dksX4_scans_5 19 rfl rfl)
theorem dX4_scans_136 : decode cX4_scans 136 = .ok (.aload_n 0, 1) := dk_42 (dk_at dksX4_scans_5 20 rfl rfl)
theorem dX4_scans_137 : decode cX4_scans 137 = .ok (.getfield 232, 3) := dk_180 0 232 (dk_at dksX4_scans_5 21 rfl rfl)
theorem dX4_scans_140 : decode cX4_scans 140 = .ok (.invokevirtual 235, 3) := dk_182 0 235 (dk_at dksX4_scans_6 0 rfl rfl)
theorem dX4_scans_143 : decode cX4_scans 143 = .ok (.bipush 48, 2) := dk_16 48 (dk_at dksX4_scans_6 3 rfl rfl)
theorem dX4_scans_145 : decode cX4_scans 145 = .ok (.bipush 57, 2) := dk_16 57 (dk_at dksX4_scans_6 5 rfl rfl)
theorem dX4_scans_147 : decode cX4_scans 147 = .ok (.invokestatic 121, 3) := dk_184 0 121 (dk_at dksX4_scans_6 7 rfl rfl)
theorem dX4_scans_150 : decode cX4_scans 150 = .ok (.ifCond .eq 52, 3) := dk_153 0 52 (dk_at dksX4_scans_6 10 rfl rfl)
theorem dX4_scans_153 : decode cX4_scans 153 = .ok (.aload_n 0, 1) := dk_42 (dk_at dksX4_scans_6 13 rfl rfl)
theorem dX4_scans_154 : decode cX4_scans 154 = .ok (.getfield 232, 3) := dk_180 0 232 (dk_at dksX4_scans_6 14 rfl rfl)
theorem dX4_scans_157 : decode cX4_scans 157 = .ok (.aload_n 0, 1) := dk_42 (dk_at dksX4_scans_6 17 rfl rfl)
theorem dX4_scans_158 : decode cX4_scans 158 = .ok (.getfield 238, 3) := dk_180 0 238 (dk_at dksX4_scans_6 18 rfl rfl)
theorem dX4_scans_161 : decode cX4_scans 161 = .ok (.isub, 1) := dk_100 (dk_at dksX4_scans_6 21 rfl rfl)
theorem dX4_scans_162 : decode cX4_scans 162 = .ok (.iconst 2, 1) := dk_5 (dk_at dksX4_scans_6 22 rfl rfl)
theorem dX4_scans_163 : decode cX4_scans 163 = .ok (.if_icmp .ge 26, 3) := dk_162 0 26 (dk_at dksX4_scans_7 0 rfl rfl)
theorem dX4_scans_166 : decode cX4_scans 166 = .ok (.aload_n 0, 1) := dk_42 (dk_at dksX4_scans_7 3 rfl rfl)
theorem dX4_scans_167 : decode cX4_scans 167 = .ok (.bipush 10, 2) := dk_16 10 (dk_at dksX4_scans_7 4 rfl rfl)
theorem dX4_scans_169 : decode cX4_scans 169 = .ok (.aload_n 0, 1) := dk_42 (dk_at dksX4_scans_7 6 rfl rfl)
theorem dX4_scans_170 : decode cX4_scans 170 = .ok (.getfield 244, 3) := dk_180 0 244 (dk_at dksX4_scans_7 7 rfl rfl)
theorem dX4_scans_173 : decode cX4_scans 173 = .ok (.imul, 1) := dk_104 (dk_at dksX4_scans_7 10 rfl rfl)
theorem dX4_scans_174 : decode cX4_scans 174 = .ok (.aload_n 0, 1) := dk_42 (dk_at dksX4_scans_7 11 rfl rfl)
theorem dX4_scans_175 : decode cX4_scans 175 = .ok (.aload_n 0, 1) := dk_42 (dk_at dksX4_scans_7 12 rfl rfl)
theorem dX4_scans_176 : decode cX4_scans 176 = .ok (.getfield 232, 3) := dk_180 0 232 (dk_at dksX4_scans_7 13 rfl rfl)
theorem dX4_scans_179 : decode cX4_scans 179 = .ok (.invokevirtual 235, 3) := dk_182 0 235 (dk_at dksX4_scans_7 16 rfl rfl)
theorem dX4_scans_182 : decode cX4_scans 182 = .ok (.iadd, 1) := dk_96 (dk_at dksX4_scans_7 19 rfl rfl)
theorem dX4_scans_183 : decode cX4_scans 183 = .ok (.bipush 48, 2) := dk_16 48 (dk_at dksX4_scans_7 20 rfl rfl)
theorem dX4_scans_185 : decode cX4_scans 185 = .ok (.isub, 1) := dk_100 (dk_at dksX4_scans_7 22 rfl rfl)
theorem dX4_scans_186 : decode cX4_scans 186 = .ok (.putfield 244, 3) := dk_181 0 244 (dk_at dksX4_scans_8 0 rfl rfl)
theorem dX4_scans_189 : decode cX4_scans 189 = .ok (.aload_n 0, 1) := dk_42 (dk_at dksX4_scans_8 3 rfl rfl)
theorem dX4_scans_190 : decode cX4_scans 190 = .ok (.aload_n 0, 1) := dk_42 (dk_at dksX4_scans_8 4 rfl rfl)
theorem dX4_scans_191 : decode cX4_scans 191 = .ok (.getfield 232, 3) := dk_180 0 232 (dk_at dksX4_scans_8 5 rfl rfl)
theorem dX4_scans_194 : decode cX4_scans 194 = .ok (.iconst 1, 1) := dk_4 (dk_at dksX4_scans_8 8 rfl rfl)
theorem dX4_scans_195 : decode cX4_scans 195 = .ok (.iadd, 1) := dk_96 (dk_at dksX4_scans_8 9 rfl rfl)
theorem dX4_scans_196 : decode cX4_scans 196 = .ok (.putfield 232, 3) := dk_181 0 232 (dk_at dksX4_scans_8 10 rfl rfl)
theorem dX4_scans_199 : decode cX4_scans 199 = .ok (.goto (-64), 3) := dk_167 255 192 (dk_at dksX4_scans_8 13 rfl rfl)
theorem dX4_scans_202 : decode cX4_scans 202 = .ok (.aload_n 0, 1) := dk_42 (dk_at dksX4_scans_8 16 rfl rfl)
theorem dX4_scans_203 : decode cX4_scans 203 = .ok (.aload_n 0, 1) := dk_42 (dk_at dksX4_scans_8 17 rfl rfl)
theorem dX4_scans_204 : decode cX4_scans 204 = .ok (.getfield 232, 3) := dk_180 0 232 (dk_at dksX4_scans_8 18 rfl rfl)
theorem dX4_scans_207 : decode cX4_scans 207 = .ok (.aload_n 0, 1) := dk_42 (dk_at dksX4_scans_8 21 rfl rfl)
theorem dX4_scans_208 : decode cX4_scans 208 = .ok (.getfield 238, 3) := dk_180 0 238 (dk_at dksX4_scans_9 0 rfl rfl)
theorem dX4_scans_211 : decode cX4_scans 211 = .ok (.isub, 1) := dk_100 (dk_at dksX4_scans_9 3 rfl rfl)
theorem dX4_scans_212 : decode cX4_scans 212 = .ok (.iconst 2, 1) := dk_5 (dk_at dksX4_scans_9 4 rfl rfl)
theorem dX4_scans_213 : decode cX4_scans 213 = .ok (.if_icmp .le 7, 3) := dk_164 0 7 (dk_at dksX4_scans_9 5 rfl rfl)
theorem dX4_scans_216 : decode cX4_scans 216 = .ok (.iconst 4, 1) := dk_7 (dk_at dksX4_scans_9 8 rfl rfl)
theorem dX4_scans_217 : decode cX4_scans 217 = .ok (.goto 4, 3) := dk_167 0 4 (dk_at dksX4_scans_9 9 rfl rfl)
theorem dX4_scans_220 : decode cX4_scans 220 = .ok (.iconst 2, 1) := dk_5 (dk_at dksX4_scans_9 12 rfl rfl)
theorem dX4_scans_221 : decode cX4_scans 221 = .ok (.putfield 241, 3) := dk_181 0 241 (dk_at dksX4_scans_9 13 rfl rfl)
theorem dX4_scans_224 : decode cX4_scans 224 = .ok (.goto 28, 3) := dk_167 0 28 (dk_at dksX4_scans_9 16 rfl rfl)
theorem dX4_scans_227 : decode cX4_scans 227 = .ok (.aload_n 0, 1) := dk_42 (dk_at dksX4_scans_9 19 rfl rfl)
theorem dX4_scans_228 : decode cX4_scans 228 = .ok (.iload_n 1, 1) := dk_27 (dk_at dksX4_scans_9 20 rfl rfl)
theorem dX4_scans_229 : decode cX4_scans 229 = .ok (.bipush 59, 2) := dk_16 59 (dk_at dksX4_scans_9 21 rfl rfl)
theorem dX4_scans_231 : decode cX4_scans 231 = .ok (.if_icmp .ne 7, 3) := dk_160 0 7 (dk_at dksX4_scans_10 0 rfl rfl)
theorem dX4_scans_234 : decode cX4_scans 234 = .ok (.iconst 3, 1) := dk_6 (dk_at dksX4_scans_10 3 rfl rfl)
theorem dX4_scans_235 : decode cX4_scans 235 = .ok (.goto 4, 3) := dk_167 0 4 (dk_at dksX4_scans_10 4 rfl rfl)
theorem dX4_scans_238 : decode cX4_scans 238 = .ok (.iconst 4, 1) := dk_7 (dk_at dksX4_scans_10 7 rfl rfl)
theorem dX4_scans_239 : decode cX4_scans 239 = .ok (.putfield 241, 3) := dk_181 0 241 (dk_at dksX4_scans_10 8 rfl rfl)
theorem dX4_scans_242 : decode cX4_scans 242 = .ok (.aload_n 0, 1) := dk_42 (dk_at dksX4_scans_10 11 rfl rfl)
theorem dX4_scans_243 : decode cX4_scans 243 = .ok (.aload_n 0, 1) := dk_42 (dk_at dksX4_scans_10 12 rfl rfl)
theorem dX4_scans_244 : decode cX4_scans 244 = .ok (.getfield 232, 3) := dk_180 0 232 (dk_at dksX4_scans_10 13 rfl rfl)
theorem dX4_scans_247 : decode cX4_scans 247 = .ok (.iconst 1, 1) := dk_4 (dk_at dksX4_scans_10 16 rfl rfl)
theorem dX4_scans_248 : decode cX4_scans 248 = .ok (.iadd, 1) := dk_96 (dk_at dksX4_scans_10 17 rfl rfl)
theorem dX4_scans_249 : decode cX4_scans 249 = .ok (.putfield 232, 3) := dk_181 0 232 (dk_at dksX4_scans_10 18 rfl rfl)
theorem dX4_scans_252 : decode cX4_scans 252 = .ok (.return_, 1) := dk_177 (dk_at dksX4_scans_10 21 rfl rfl)
abbrev cX4_byteAt : ByteArray := prog_14_method_60_code
def yX4_byteAt : MethodName := ⟨RX4, "byteAt", "(I)I"⟩
def dkwX4_byteAt_0 : List UInt8 := [27, 42, 180, 0, 223, 162, 0, 16, 42, 180, 0, 47, 27, 51, 17, 0, 255, 126, 167, 0, 4, 2, 172]
abbrev dktX4_byteAt_0 : List UInt8 := dkwX4_byteAt_0 ++ []
theorem dksX4_byteAt_0 : cX4_byteAt.data.toList.drop 0 = dktX4_byteAt_0 := by decide +kernel
theorem dX4_byteAt_0 : decode cX4_byteAt 0 = .ok (.iload_n 1, 1) := dk_27 (dk_at dksX4_byteAt_0 0 rfl rfl)
theorem dX4_byteAt_1 : decode cX4_byteAt 1 = .ok (.aload_n 0, 1) := dk_42 (dk_at dksX4_byteAt_0 1 rfl rfl)
theorem dX4_byteAt_2 : decode cX4_byteAt 2 = .ok (.getfield 223, 3) := dk_180 0 223 (dk_at dksX4_byteAt_0 2 rfl rfl)
theorem dX4_byteAt_5 : decode cX4_byteAt 5 = .ok (.if_icmp .ge 16, 3) := dk_162 0 16 (dk_at dksX4_byteAt_0 5 rfl rfl)
theorem dX4_byteAt_8 : decode cX4_byteAt 8 = .ok (.aload_n 0, 1) := dk_42 (dk_at dksX4_byteAt_0 8 rfl rfl)
theorem dX4_byteAt_9 : decode cX4_byteAt 9 = .ok (.getfield 47, 3) := dk_180 0 47 (dk_at dksX4_byteAt_0 9 rfl rfl)
theorem dX4_byteAt_12 : decode cX4_byteAt 12 = .ok (.iload_n 1, 1) := dk_27 (dk_at dksX4_byteAt_0 12 rfl rfl)
theorem dX4_byteAt_13 : decode cX4_byteAt 13 = .ok (.baload, 1) := dk_51 (dk_at dksX4_byteAt_0 13 rfl rfl)
theorem dX4_byteAt_14 : decode cX4_byteAt 14 = .ok (.sipush 255, 3) := dk_17 0 255 (dk_at dksX4_byteAt_0 14 rfl rfl)
theorem dX4_byteAt_17 : decode cX4_byteAt 17 = .ok (.iand, 1) := dk_126 (dk_at dksX4_byteAt_0 17 rfl rfl)
theorem dX4_byteAt_18 : decode cX4_byteAt 18 = .ok (.goto 4, 3) := dk_167 0 4 (dk_at dksX4_byteAt_0 18 rfl rfl)
theorem dX4_byteAt_21 : decode cX4_byteAt 21 = .ok (.iconst (-1), 1) := dk_2 (dk_at dksX4_byteAt_0 21 rfl rfl)
theorem dX4_byteAt_22 : decode cX4_byteAt 22 = .ok (.ireturn, 1) := dk_172 (dk_at dksX4_byteAt_0 22 rfl rfl)
abbrev cX4_readsStatement : ByteArray := prog_14_method_80_code
def yX4_readsStatement : MethodName := ⟨RX4, "readsStatement", "()V"⟩
def dkwX4_readsStatement_5 : List UInt8 := [182, 1, 75, 177]
abbrev dktX4_readsStatement_5 : List UInt8 := dkwX4_readsStatement_5 ++ []
def dkwX4_readsStatement_4 : List UInt8 := [182, 1, 69, 2, 159, 0, 14, 42, 42, 182, 1, 69, 182, 1, 72, 167, 0, 8, 42, 4, 182, 0, 254, 42]
abbrev dktX4_readsStatement_4 : List UInt8 := dkwX4_readsStatement_4 ++ dktX4_readsStatement_5
def dkwX4_readsStatement_3 : List UInt8 := [167, 0, 46, 42, 182, 1, 63, 2, 159, 0, 14, 42, 42, 182, 1, 63, 182, 1, 66, 167, 0, 27, 42]
abbrev dktX4_readsStatement_3 : List UInt8 := dkwX4_readsStatement_3 ++ dktX4_readsStatement_4
def dkwX4_readsStatement_2 : List UInt8 := [153, 0, 10, 42, 182, 1, 55, 167, 0, 63, 42, 19, 1, 58, 182, 1, 9, 153, 0, 10, 42, 182, 1, 60]
abbrev dktX4_readsStatement_2 : List UInt8 := dkwX4_readsStatement_2 ++ dktX4_readsStatement_3
def dkwX4_readsStatement_1 : List UInt8 := [19, 1, 49, 182, 1, 9, 153, 0, 10, 42, 182, 1, 51, 167, 0, 80, 42, 19, 1, 54, 182, 1, 9]
abbrev dktX4_readsStatement_1 : List UInt8 := dkwX4_readsStatement_1 ++ dktX4_readsStatement_2
def dkwX4_readsStatement_0 : List UInt8 := [42, 182, 0, 86, 154, 0, 18, 42, 19, 1, 49, 182, 1, 9, 154, 0, 8, 42, 4, 182, 0, 254, 42]
abbrev dktX4_readsStatement_0 : List UInt8 := dkwX4_readsStatement_0 ++ dktX4_readsStatement_1
theorem dksX4_readsStatement_0 : cX4_readsStatement.data.toList.drop 0 = dktX4_readsStatement_0 := by decide +kernel
theorem dksX4_readsStatement_1 : cX4_readsStatement.data.toList.drop 23 = dktX4_readsStatement_1 := dk_seg dksX4_readsStatement_0 23 rfl rfl
theorem dksX4_readsStatement_2 : cX4_readsStatement.data.toList.drop 46 = dktX4_readsStatement_2 := dk_seg dksX4_readsStatement_1 23 rfl rfl
theorem dksX4_readsStatement_3 : cX4_readsStatement.data.toList.drop 70 = dktX4_readsStatement_3 := dk_seg dksX4_readsStatement_2 24 rfl rfl
theorem dksX4_readsStatement_4 : cX4_readsStatement.data.toList.drop 93 = dktX4_readsStatement_4 := dk_seg dksX4_readsStatement_3 23 rfl rfl
theorem dksX4_readsStatement_5 : cX4_readsStatement.data.toList.drop 117 = dktX4_readsStatement_5 := dk_seg dksX4_readsStatement_4 24 rfl rfl
theorem dX4_readsStatement_0 : decode cX4_readsStatement 0 = .ok (.aload_n 0, 1) := dk_42 (dk_at dksX4_readsStatement_0 0 rfl rfl)
theorem dX4_readsStatement_1 : decode cX4_readsStatement 1 = .ok (.invokevirtual 86, 3) := dk_182 0 86 (dk_at dksX4_readsStatement_0 1 rfl rfl)
theorem dX4_readsStatement_4 : decode cX4_readsStatement 4 = .ok (.ifCond .ne 18, 3) := dk_154 0 18 (dk_at dksX4_readsStatement_0 4 rfl rfl)
theorem dX4_readsStatement_7 : decode cX4_readsStatement 7 = .ok (.aload_n 0, 1) := dk_42 (dk_at dksX4_readsStatement_0 7 rfl rfl)
theorem dX4_readsStatement_8 : decode cX4_readsStatement 8 = .ok (.ldc_w 305, 3) := dk_19 1 49 (dk_at dksX4_readsStatement_0 8 rfl rfl)
theorem dX4_readsStatement_11 : decode cX4_readsStatement 11 = .ok (.invokevirtual 265, 3) := dk_182 1 9 (dk_at dksX4_readsStatement_0 11 rfl rfl)
theorem dX4_readsStatement_14 : decode cX4_readsStatement 14 = .ok (.ifCond .ne 8, 3) := dk_154 0 8 (dk_at dksX4_readsStatement_0 14 rfl rfl)
theorem dX4_readsStatement_17 : decode cX4_readsStatement 17 = .ok (.aload_n 0, 1) := dk_42 (dk_at dksX4_readsStatement_0 17 rfl rfl)
theorem dX4_readsStatement_18 : decode cX4_readsStatement 18 = .ok (.iconst 1, 1) := dk_4 (dk_at dksX4_readsStatement_0 18 rfl rfl)
theorem dX4_readsStatement_19 : decode cX4_readsStatement 19 = .ok (.invokevirtual 254, 3) := dk_182 0 254 (dk_at dksX4_readsStatement_0 19 rfl rfl)
theorem dX4_readsStatement_22 : decode cX4_readsStatement 22 = .ok (.aload_n 0, 1) := dk_42 (dk_at dksX4_readsStatement_0 22 rfl rfl)
theorem dX4_readsStatement_23 : decode cX4_readsStatement 23 = .ok (.ldc_w 305, 3) := dk_19 1 49 (dk_at dksX4_readsStatement_1 0 rfl rfl)
theorem dX4_readsStatement_26 : decode cX4_readsStatement 26 = .ok (.invokevirtual 265, 3) := dk_182 1 9 (dk_at dksX4_readsStatement_1 3 rfl rfl)
theorem dX4_readsStatement_29 : decode cX4_readsStatement 29 = .ok (.ifCond .eq 10, 3) := dk_153 0 10 (dk_at dksX4_readsStatement_1 6 rfl rfl)
theorem dX4_readsStatement_32 : decode cX4_readsStatement 32 = .ok (.aload_n 0, 1) := dk_42 (dk_at dksX4_readsStatement_1 9 rfl rfl)
theorem dX4_readsStatement_33 : decode cX4_readsStatement 33 = .ok (.invokevirtual 307, 3) := dk_182 1 51 (dk_at dksX4_readsStatement_1 10 rfl rfl)
theorem dX4_readsStatement_36 : decode cX4_readsStatement 36 = .ok (.goto 80, 3) := dk_167 0 80 (dk_at dksX4_readsStatement_1 13 rfl rfl)
theorem dX4_readsStatement_39 : decode cX4_readsStatement 39 = .ok (.aload_n 0, 1) := dk_42 (dk_at dksX4_readsStatement_1 16 rfl rfl)
theorem dX4_readsStatement_40 : decode cX4_readsStatement 40 = .ok (.ldc_w 310, 3) := dk_19 1 54 (dk_at dksX4_readsStatement_1 17 rfl rfl)
theorem dX4_readsStatement_43 : decode cX4_readsStatement 43 = .ok (.invokevirtual 265, 3) := dk_182 1 9 (dk_at dksX4_readsStatement_1 20 rfl rfl)
theorem dX4_readsStatement_46 : decode cX4_readsStatement 46 = .ok (.ifCond .eq 10, 3) := dk_153 0 10 (dk_at dksX4_readsStatement_2 0 rfl rfl)
theorem dX4_readsStatement_49 : decode cX4_readsStatement 49 = .ok (.aload_n 0, 1) := dk_42 (dk_at dksX4_readsStatement_2 3 rfl rfl)
theorem dX4_readsStatement_50 : decode cX4_readsStatement 50 = .ok (.invokevirtual 311, 3) := dk_182 1 55 (dk_at dksX4_readsStatement_2 4 rfl rfl)
theorem dX4_readsStatement_53 : decode cX4_readsStatement 53 = .ok (.goto 63, 3) := dk_167 0 63 (dk_at dksX4_readsStatement_2 7 rfl rfl)
theorem dX4_readsStatement_56 : decode cX4_readsStatement 56 = .ok (.aload_n 0, 1) := dk_42 (dk_at dksX4_readsStatement_2 10 rfl rfl)
theorem dX4_readsStatement_57 : decode cX4_readsStatement 57 = .ok (.ldc_w 314, 3) := dk_19 1 58 (dk_at dksX4_readsStatement_2 11 rfl rfl)
theorem dX4_readsStatement_60 : decode cX4_readsStatement 60 = .ok (.invokevirtual 265, 3) := dk_182 1 9 (dk_at dksX4_readsStatement_2 14 rfl rfl)
theorem dX4_readsStatement_63 : decode cX4_readsStatement 63 = .ok (.ifCond .eq 10, 3) := dk_153 0 10 (dk_at dksX4_readsStatement_2 17 rfl rfl)
theorem dX4_readsStatement_66 : decode cX4_readsStatement 66 = .ok (.aload_n 0, 1) := dk_42 (dk_at dksX4_readsStatement_2 20 rfl rfl)
theorem dX4_readsStatement_67 : decode cX4_readsStatement 67 = .ok (.invokevirtual 316, 3) := dk_182 1 60 (dk_at dksX4_readsStatement_2 21 rfl rfl)
theorem dX4_readsStatement_70 : decode cX4_readsStatement 70 = .ok (.goto 46, 3) := dk_167 0 46 (dk_at dksX4_readsStatement_3 0 rfl rfl)
theorem dX4_readsStatement_73 : decode cX4_readsStatement 73 = .ok (.aload_n 0, 1) := dk_42 (dk_at dksX4_readsStatement_3 3 rfl rfl)
theorem dX4_readsStatement_74 : decode cX4_readsStatement 74 = .ok (.invokevirtual 319, 3) := dk_182 1 63 (dk_at dksX4_readsStatement_3 4 rfl rfl)
theorem dX4_readsStatement_77 : decode cX4_readsStatement 77 = .ok (.iconst (-1), 1) := dk_2 (dk_at dksX4_readsStatement_3 7 rfl rfl)
theorem dX4_readsStatement_78 : decode cX4_readsStatement 78 = .ok (.if_icmp .eq 14, 3) := dk_159 0 14 (dk_at dksX4_readsStatement_3 8 rfl rfl)
theorem dX4_readsStatement_81 : decode cX4_readsStatement 81 = .ok (.aload_n 0, 1) := dk_42 (dk_at dksX4_readsStatement_3 11 rfl rfl)
theorem dX4_readsStatement_82 : decode cX4_readsStatement 82 = .ok (.aload_n 0, 1) := dk_42 (dk_at dksX4_readsStatement_3 12 rfl rfl)
theorem dX4_readsStatement_83 : decode cX4_readsStatement 83 = .ok (.invokevirtual 319, 3) := dk_182 1 63 (dk_at dksX4_readsStatement_3 13 rfl rfl)
theorem dX4_readsStatement_86 : decode cX4_readsStatement 86 = .ok (.invokevirtual 322, 3) := dk_182 1 66 (dk_at dksX4_readsStatement_3 16 rfl rfl)
theorem dX4_readsStatement_89 : decode cX4_readsStatement 89 = .ok (.goto 27, 3) := dk_167 0 27 (dk_at dksX4_readsStatement_3 19 rfl rfl)
theorem dX4_readsStatement_92 : decode cX4_readsStatement 92 = .ok (.aload_n 0, 1) := dk_42 (dk_at dksX4_readsStatement_3 22 rfl rfl)
theorem dX4_readsStatement_93 : decode cX4_readsStatement 93 = .ok (.invokevirtual 325, 3) := dk_182 1 69 (dk_at dksX4_readsStatement_4 0 rfl rfl)
theorem dX4_readsStatement_96 : decode cX4_readsStatement 96 = .ok (.iconst (-1), 1) := dk_2 (dk_at dksX4_readsStatement_4 3 rfl rfl)
theorem dX4_readsStatement_97 : decode cX4_readsStatement 97 = .ok (.if_icmp .eq 14, 3) := dk_159 0 14 (dk_at dksX4_readsStatement_4 4 rfl rfl)
theorem dX4_readsStatement_100 : decode cX4_readsStatement 100 = .ok (.aload_n 0, 1) := dk_42 (dk_at dksX4_readsStatement_4 7 rfl rfl)
theorem dX4_readsStatement_101 : decode cX4_readsStatement 101 = .ok (.aload_n 0, 1) := dk_42 (dk_at dksX4_readsStatement_4 8 rfl rfl)
theorem dX4_readsStatement_102 : decode cX4_readsStatement 102 = .ok (.invokevirtual 325, 3) := dk_182 1 69 (dk_at dksX4_readsStatement_4 9 rfl rfl)
theorem dX4_readsStatement_105 : decode cX4_readsStatement 105 = .ok (.invokevirtual 328, 3) := dk_182 1 72 (dk_at dksX4_readsStatement_4 12 rfl rfl)
theorem dX4_readsStatement_108 : decode cX4_readsStatement 108 = .ok (.goto 8, 3) := dk_167 0 8 (dk_at dksX4_readsStatement_4 15 rfl rfl)
theorem dX4_readsStatement_111 : decode cX4_readsStatement 111 = .ok (.aload_n 0, 1) := dk_42 (dk_at dksX4_readsStatement_4 18 rfl rfl)
theorem dX4_readsStatement_112 : decode cX4_readsStatement 112 = .ok (.iconst 1, 1) := dk_4 (dk_at dksX4_readsStatement_4 19 rfl rfl)
theorem dX4_readsStatement_113 : decode cX4_readsStatement 113 = .ok (.invokevirtual 254, 3) := dk_182 0 254 (dk_at dksX4_readsStatement_4 20 rfl rfl)
theorem dX4_readsStatement_116 : decode cX4_readsStatement 116 = .ok (.aload_n 0, 1) := dk_42 (dk_at dksX4_readsStatement_4 23 rfl rfl)
theorem dX4_readsStatement_117 : decode cX4_readsStatement 117 = .ok (.invokevirtual 331, 3) := dk_182 1 75 (dk_at dksX4_readsStatement_5 0 rfl rfl)
theorem dX4_readsStatement_120 : decode cX4_readsStatement 120 = .ok (.return_, 1) := dk_177 (dk_at dksX4_readsStatement_5 3 rfl rfl)
abbrev cX4_many : ByteArray := prog_14_method_12_code
def yX4_many : MethodName := ⟨RX4, "many", "()I"⟩
def dkwX4_many_0 : List UInt8 := [42, 180, 0, 13, 3, 46, 172]
abbrev dktX4_many_0 : List UInt8 := dkwX4_many_0 ++ []
theorem dksX4_many_0 : cX4_many.data.toList.drop 0 = dktX4_many_0 := by decide +kernel
theorem dX4_many_0 : decode cX4_many 0 = .ok (.aload_n 0, 1) := dk_42 (dk_at dksX4_many_0 0 rfl rfl)
theorem dX4_many_1 : decode cX4_many 1 = .ok (.getfield 13, 3) := dk_180 0 13 (dk_at dksX4_many_0 1 rfl rfl)
theorem dX4_many_4 : decode cX4_many 4 = .ok (.iconst 0, 1) := dk_3 (dk_at dksX4_many_0 4 rfl rfl)
theorem dX4_many_5 : decode cX4_many 5 = .ok (.iaload, 1) := dk_46 (dk_at dksX4_many_0 5 rfl rfl)
theorem dX4_many_6 : decode cX4_many 6 = .ok (.ireturn, 1) := dk_172 (dk_at dksX4_many_0 6 rfl rfl)
abbrev cX4_isWord : ByteArray := prog_14_method_65_code
def yX4_isWord : MethodName := ⟨RX4, "isWord", "(Ljava/lang/String;)Z"⟩
def dkwX4_isWord_2 : List UInt8 := [28, 96, 182, 0, 235, 43, 28, 182, 0, 78, 159, 0, 5, 3, 172, 132, 2, 1, 167, 255, 225, 4, 172]
abbrev dktX4_isWord_2 : List UInt8 := dkwX4_isWord_2 ++ []
def dkwX4_isWord_1 : List UInt8 := [43, 182, 0, 73, 159, 0, 5, 3, 172, 3, 61, 28, 43, 182, 0, 73, 162, 0, 29, 42, 42, 180, 0, 238]
abbrev dktX4_isWord_1 : List UInt8 := dkwX4_isWord_1 ++ dktX4_isWord_2
def dkwX4_isWord_0 : List UInt8 := [42, 182, 0, 247, 153, 0, 27, 42, 180, 0, 241, 4, 160, 0, 19, 42, 180, 0, 232, 42, 180, 0, 238, 100]
abbrev dktX4_isWord_0 : List UInt8 := dkwX4_isWord_0 ++ dktX4_isWord_1
theorem dksX4_isWord_0 : cX4_isWord.data.toList.drop 0 = dktX4_isWord_0 := by decide +kernel
theorem dksX4_isWord_1 : cX4_isWord.data.toList.drop 24 = dktX4_isWord_1 := dk_seg dksX4_isWord_0 24 rfl rfl
theorem dksX4_isWord_2 : cX4_isWord.data.toList.drop 48 = dktX4_isWord_2 := dk_seg dksX4_isWord_1 24 rfl rfl
theorem dX4_isWord_0 : decode cX4_isWord 0 = .ok (.aload_n 0, 1) := dk_42 (dk_at dksX4_isWord_0 0 rfl rfl)
theorem dX4_isWord_1 : decode cX4_isWord 1 = .ok (.invokevirtual 247, 3) := dk_182 0 247 (dk_at dksX4_isWord_0 1 rfl rfl)
theorem dX4_isWord_4 : decode cX4_isWord 4 = .ok (.ifCond .eq 27, 3) := dk_153 0 27 (dk_at dksX4_isWord_0 4 rfl rfl)
theorem dX4_isWord_7 : decode cX4_isWord 7 = .ok (.aload_n 0, 1) := dk_42 (dk_at dksX4_isWord_0 7 rfl rfl)
theorem dX4_isWord_8 : decode cX4_isWord 8 = .ok (.getfield 241, 3) := dk_180 0 241 (dk_at dksX4_isWord_0 8 rfl rfl)
theorem dX4_isWord_11 : decode cX4_isWord 11 = .ok (.iconst 1, 1) := dk_4 (dk_at dksX4_isWord_0 11 rfl rfl)
theorem dX4_isWord_12 : decode cX4_isWord 12 = .ok (.if_icmp .ne 19, 3) := dk_160 0 19 (dk_at dksX4_isWord_0 12 rfl rfl)
theorem dX4_isWord_15 : decode cX4_isWord 15 = .ok (.aload_n 0, 1) := dk_42 (dk_at dksX4_isWord_0 15 rfl rfl)
theorem dX4_isWord_16 : decode cX4_isWord 16 = .ok (.getfield 232, 3) := dk_180 0 232 (dk_at dksX4_isWord_0 16 rfl rfl)
theorem dX4_isWord_19 : decode cX4_isWord 19 = .ok (.aload_n 0, 1) := dk_42 (dk_at dksX4_isWord_0 19 rfl rfl)
theorem dX4_isWord_20 : decode cX4_isWord 20 = .ok (.getfield 238, 3) := dk_180 0 238 (dk_at dksX4_isWord_0 20 rfl rfl)
theorem dX4_isWord_23 : decode cX4_isWord 23 = .ok (.isub, 1) := dk_100 (dk_at dksX4_isWord_0 23 rfl rfl)
theorem dX4_isWord_24 : decode cX4_isWord 24 = .ok (.aload_n 1, 1) := dk_43 (dk_at dksX4_isWord_1 0 rfl rfl)
theorem dX4_isWord_25 : decode cX4_isWord 25 = .ok (.invokevirtual 73, 3) := dk_182 0 73 (dk_at dksX4_isWord_1 1 rfl rfl)
theorem dX4_isWord_28 : decode cX4_isWord 28 = .ok (.if_icmp .eq 5, 3) := dk_159 0 5 (dk_at dksX4_isWord_1 4 rfl rfl)
theorem dX4_isWord_31 : decode cX4_isWord 31 = .ok (.iconst 0, 1) := dk_3 (dk_at dksX4_isWord_1 7 rfl rfl)
theorem dX4_isWord_32 : decode cX4_isWord 32 = .ok (.ireturn, 1) := dk_172 (dk_at dksX4_isWord_1 8 rfl rfl)
theorem dX4_isWord_33 : decode cX4_isWord 33 = .ok (.iconst 0, 1) := dk_3 (dk_at dksX4_isWord_1 9 rfl rfl)
theorem dX4_isWord_34 : decode cX4_isWord 34 = .ok (.istore_n 2, 1) := dk_61 (dk_at dksX4_isWord_1 10 rfl rfl)
theorem dX4_isWord_35 : decode cX4_isWord 35 = .ok (.iload_n 2, 1) := dk_28 (dk_at dksX4_isWord_1 11 rfl rfl)
theorem dX4_isWord_36 : decode cX4_isWord 36 = .ok (.aload_n 1, 1) := dk_43 (dk_at dksX4_isWord_1 12 rfl rfl)
theorem dX4_isWord_37 : decode cX4_isWord 37 = .ok (.invokevirtual 73, 3) := dk_182 0 73 (dk_at dksX4_isWord_1 13 rfl rfl)
theorem dX4_isWord_40 : decode cX4_isWord 40 = .ok (.if_icmp .ge 29, 3) := dk_162 0 29 (dk_at dksX4_isWord_1 16 rfl rfl)
theorem dX4_isWord_43 : decode cX4_isWord 43 = .ok (.aload_n 0, 1) := dk_42 (dk_at dksX4_isWord_1 19 rfl rfl)
theorem dX4_isWord_44 : decode cX4_isWord 44 = .ok (.aload_n 0, 1) := dk_42 (dk_at dksX4_isWord_1 20 rfl rfl)
theorem dX4_isWord_45 : decode cX4_isWord 45 = .ok (.getfield 238, 3) := dk_180 0 238 (dk_at dksX4_isWord_1 21 rfl rfl)
theorem dX4_isWord_48 : decode cX4_isWord 48 = .ok (.iload_n 2, 1) := dk_28 (dk_at dksX4_isWord_2 0 rfl rfl)
theorem dX4_isWord_49 : decode cX4_isWord 49 = .ok (.iadd, 1) := dk_96 (dk_at dksX4_isWord_2 1 rfl rfl)
theorem dX4_isWord_50 : decode cX4_isWord 50 = .ok (.invokevirtual 235, 3) := dk_182 0 235 (dk_at dksX4_isWord_2 2 rfl rfl)
theorem dX4_isWord_53 : decode cX4_isWord 53 = .ok (.aload_n 1, 1) := dk_43 (dk_at dksX4_isWord_2 5 rfl rfl)
theorem dX4_isWord_54 : decode cX4_isWord 54 = .ok (.iload_n 2, 1) := dk_28 (dk_at dksX4_isWord_2 6 rfl rfl)
theorem dX4_isWord_55 : decode cX4_isWord 55 = .ok (.invokevirtual 78, 3) := dk_182 0 78 (dk_at dksX4_isWord_2 7 rfl rfl)
theorem dX4_isWord_58 : decode cX4_isWord 58 = .ok (.if_icmp .eq 5, 3) := dk_159 0 5 (dk_at dksX4_isWord_2 10 rfl rfl)
theorem dX4_isWord_61 : decode cX4_isWord 61 = .ok (.iconst 0, 1) := dk_3 (dk_at dksX4_isWord_2 13 rfl rfl)
theorem dX4_isWord_62 : decode cX4_isWord 62 = .ok (.ireturn, 1) := dk_172 (dk_at dksX4_isWord_2 14 rfl rfl)
theorem dX4_isWord_63 : decode cX4_isWord 63 = .ok (.iinc 2 1, 3) := dk_132 2 1 (dk_at dksX4_isWord_2 15 rfl rfl)
theorem dX4_isWord_66 : decode cX4_isWord 66 = .ok (.goto (-31), 3) := dk_167 255 225 (dk_at dksX4_isWord_2 18 rfl rfl)
theorem dX4_isWord_69 : decode cX4_isWord 69 = .ok (.iconst 1, 1) := dk_4 (dk_at dksX4_isWord_2 21 rfl rfl)
theorem dX4_isWord_70 : decode cX4_isWord 70 = .ok (.ireturn, 1) := dk_172 (dk_at dksX4_isWord_2 22 rfl rfl)
abbrev cX4_isGood : ByteArray := prog_14_method_62_code
def yX4_isGood : MethodName := ⟨RX4, "isGood", "()Z"⟩
def dkwX4_isGood_0 : List UInt8 := [42, 180, 0, 229, 154, 0, 7, 4, 167, 0, 4, 3, 172]
abbrev dktX4_isGood_0 : List UInt8 := dkwX4_isGood_0 ++ []
theorem dksX4_isGood_0 : cX4_isGood.data.toList.drop 0 = dktX4_isGood_0 := by decide +kernel
theorem dX4_isGood_0 : decode cX4_isGood 0 = .ok (.aload_n 0, 1) := dk_42 (dk_at dksX4_isGood_0 0 rfl rfl)
theorem dX4_isGood_1 : decode cX4_isGood 1 = .ok (.getfield 229, 3) := dk_180 0 229 (dk_at dksX4_isGood_0 1 rfl rfl)
theorem dX4_isGood_4 : decode cX4_isGood 4 = .ok (.ifCond .ne 7, 3) := dk_154 0 7 (dk_at dksX4_isGood_0 4 rfl rfl)
theorem dX4_isGood_7 : decode cX4_isGood 7 = .ok (.iconst 1, 1) := dk_4 (dk_at dksX4_isGood_0 7 rfl rfl)
theorem dX4_isGood_8 : decode cX4_isGood 8 = .ok (.goto 4, 3) := dk_167 0 4 (dk_at dksX4_isGood_0 8 rfl rfl)
theorem dX4_isGood_11 : decode cX4_isGood 11 = .ok (.iconst 0, 1) := dk_3 (dk_at dksX4_isGood_0 11 rfl rfl)
theorem dX4_isGood_12 : decode cX4_isGood 12 = .ok (.ireturn, 1) := dk_172 (dk_at dksX4_isGood_0 12 rfl rfl)
abbrev cX4_errs : ByteArray := prog_14_method_63_code
def yX4_errs : MethodName := ⟨RX4, "errs", "(I)V"⟩
def dkwX4_errs_0 : List UInt8 := [42, 182, 0, 247, 154, 0, 4, 177, 42, 27, 181, 0, 229, 42, 42, 180, 0, 238, 181, 0, 51, 177]
abbrev dktX4_errs_0 : List UInt8 := dkwX4_errs_0 ++ []
theorem dksX4_errs_0 : cX4_errs.data.toList.drop 0 = dktX4_errs_0 := by decide +kernel
theorem dX4_errs_0 : decode cX4_errs 0 = .ok (.aload_n 0, 1) := dk_42 (dk_at dksX4_errs_0 0 rfl rfl)
theorem dX4_errs_1 : decode cX4_errs 1 = .ok (.invokevirtual 247, 3) := dk_182 0 247 (dk_at dksX4_errs_0 1 rfl rfl)
theorem dX4_errs_4 : decode cX4_errs 4 = .ok (.ifCond .ne 4, 3) := dk_154 0 4 (dk_at dksX4_errs_0 4 rfl rfl)
theorem dX4_errs_7 : decode cX4_errs 7 = .ok (.return_, 1) := dk_177 (dk_at dksX4_errs_0 7 rfl rfl)
theorem dX4_errs_8 : decode cX4_errs 8 = .ok (.aload_n 0, 1) := dk_42 (dk_at dksX4_errs_0 8 rfl rfl)
theorem dX4_errs_9 : decode cX4_errs 9 = .ok (.iload_n 1, 1) := dk_27 (dk_at dksX4_errs_0 9 rfl rfl)
theorem dX4_errs_10 : decode cX4_errs 10 = .ok (.putfield 229, 3) := dk_181 0 229 (dk_at dksX4_errs_0 10 rfl rfl)
theorem dX4_errs_13 : decode cX4_errs 13 = .ok (.aload_n 0, 1) := dk_42 (dk_at dksX4_errs_0 13 rfl rfl)
theorem dX4_errs_14 : decode cX4_errs 14 = .ok (.aload_n 0, 1) := dk_42 (dk_at dksX4_errs_0 14 rfl rfl)
theorem dX4_errs_15 : decode cX4_errs 15 = .ok (.getfield 238, 3) := dk_180 0 238 (dk_at dksX4_errs_0 15 rfl rfl)
theorem dX4_errs_18 : decode cX4_errs 18 = .ok (.putfield 51, 3) := dk_181 0 51 (dk_at dksX4_errs_0 18 rfl rfl)
theorem dX4_errs_21 : decode cX4_errs 21 = .ok (.return_, 1) := dk_177 (dk_at dksX4_errs_0 21 rfl rfl)
abbrev cX4_readsText : ByteArray := prog_14_method_74_code
def yX4_readsText : MethodName := ⟨RX4, "readsText", "()V"⟩
def dkwX4_readsText_1 : List UInt8 := [153, 0, 18, 42, 180, 0, 241, 4, 160, 0, 10, 42, 182, 1, 31, 167, 255, 237, 177]
abbrev dktX4_readsText_1 : List UInt8 := dkwX4_readsText_1 ++ []
def dkwX4_readsText_0 : List UInt8 := [42, 182, 0, 86, 158, 0, 8, 42, 6, 182, 0, 254, 42, 182, 1, 1, 42, 182, 1, 31, 42, 182, 0, 247]
abbrev dktX4_readsText_0 : List UInt8 := dkwX4_readsText_0 ++ dktX4_readsText_1
theorem dksX4_readsText_0 : cX4_readsText.data.toList.drop 0 = dktX4_readsText_0 := by decide +kernel
theorem dksX4_readsText_1 : cX4_readsText.data.toList.drop 24 = dktX4_readsText_1 := dk_seg dksX4_readsText_0 24 rfl rfl
theorem dX4_readsText_0 : decode cX4_readsText 0 = .ok (.aload_n 0, 1) := dk_42 (dk_at dksX4_readsText_0 0 rfl rfl)
theorem dX4_readsText_1 : decode cX4_readsText 1 = .ok (.invokevirtual 86, 3) := dk_182 0 86 (dk_at dksX4_readsText_0 1 rfl rfl)
theorem dX4_readsText_4 : decode cX4_readsText 4 = .ok (.ifCond .le 8, 3) := dk_158 0 8 (dk_at dksX4_readsText_0 4 rfl rfl)
theorem dX4_readsText_7 : decode cX4_readsText 7 = .ok (.aload_n 0, 1) := dk_42 (dk_at dksX4_readsText_0 7 rfl rfl)
theorem dX4_readsText_8 : decode cX4_readsText 8 = .ok (.iconst 3, 1) := dk_6 (dk_at dksX4_readsText_0 8 rfl rfl)
theorem dX4_readsText_9 : decode cX4_readsText 9 = .ok (.invokevirtual 254, 3) := dk_182 0 254 (dk_at dksX4_readsText_0 9 rfl rfl)
theorem dX4_readsText_12 : decode cX4_readsText 12 = .ok (.aload_n 0, 1) := dk_42 (dk_at dksX4_readsText_0 12 rfl rfl)
theorem dX4_readsText_13 : decode cX4_readsText 13 = .ok (.invokevirtual 257, 3) := dk_182 1 1 (dk_at dksX4_readsText_0 13 rfl rfl)
theorem dX4_readsText_16 : decode cX4_readsText 16 = .ok (.aload_n 0, 1) := dk_42 (dk_at dksX4_readsText_0 16 rfl rfl)
theorem dX4_readsText_17 : decode cX4_readsText 17 = .ok (.invokevirtual 287, 3) := dk_182 1 31 (dk_at dksX4_readsText_0 17 rfl rfl)
theorem dX4_readsText_20 : decode cX4_readsText 20 = .ok (.aload_n 0, 1) := dk_42 (dk_at dksX4_readsText_0 20 rfl rfl)
theorem dX4_readsText_21 : decode cX4_readsText 21 = .ok (.invokevirtual 247, 3) := dk_182 0 247 (dk_at dksX4_readsText_0 21 rfl rfl)
theorem dX4_readsText_24 : decode cX4_readsText 24 = .ok (.ifCond .eq 18, 3) := dk_153 0 18 (dk_at dksX4_readsText_1 0 rfl rfl)
theorem dX4_readsText_27 : decode cX4_readsText 27 = .ok (.aload_n 0, 1) := dk_42 (dk_at dksX4_readsText_1 3 rfl rfl)
theorem dX4_readsText_28 : decode cX4_readsText 28 = .ok (.getfield 241, 3) := dk_180 0 241 (dk_at dksX4_readsText_1 4 rfl rfl)
theorem dX4_readsText_31 : decode cX4_readsText 31 = .ok (.iconst 1, 1) := dk_4 (dk_at dksX4_readsText_1 7 rfl rfl)
theorem dX4_readsText_32 : decode cX4_readsText 32 = .ok (.if_icmp .ne 10, 3) := dk_160 0 10 (dk_at dksX4_readsText_1 8 rfl rfl)
theorem dX4_readsText_35 : decode cX4_readsText 35 = .ok (.aload_n 0, 1) := dk_42 (dk_at dksX4_readsText_1 11 rfl rfl)
theorem dX4_readsText_36 : decode cX4_readsText 36 = .ok (.invokevirtual 287, 3) := dk_182 1 31 (dk_at dksX4_readsText_1 12 rfl rfl)
theorem dX4_readsText_39 : decode cX4_readsText 39 = .ok (.goto (-19), 3) := dk_167 255 237 (dk_at dksX4_readsText_1 15 rfl rfl)
theorem dX4_readsText_42 : decode cX4_readsText 42 = .ok (.return_, 1) := dk_177 (dk_at dksX4_readsText_1 18 rfl rfl)
abbrev cX4_goesOn : ByteArray := prog_14_method_64_code
def yX4_goesOn : MethodName := ⟨RX4, "goesOn", "()V"⟩
def dkwX4_goesOn_0 : List UInt8 := [42, 182, 0, 247, 153, 0, 7, 42, 182, 0, 251, 177]
abbrev dktX4_goesOn_0 : List UInt8 := dkwX4_goesOn_0 ++ []
theorem dksX4_goesOn_0 : cX4_goesOn.data.toList.drop 0 = dktX4_goesOn_0 := by decide +kernel
theorem dX4_goesOn_0 : decode cX4_goesOn 0 = .ok (.aload_n 0, 1) := dk_42 (dk_at dksX4_goesOn_0 0 rfl rfl)
theorem dX4_goesOn_1 : decode cX4_goesOn 1 = .ok (.invokevirtual 247, 3) := dk_182 0 247 (dk_at dksX4_goesOn_0 1 rfl rfl)
theorem dX4_goesOn_4 : decode cX4_goesOn 4 = .ok (.ifCond .eq 7, 3) := dk_153 0 7 (dk_at dksX4_goesOn_0 4 rfl rfl)
theorem dX4_goesOn_7 : decode cX4_goesOn 7 = .ok (.aload_n 0, 1) := dk_42 (dk_at dksX4_goesOn_0 7 rfl rfl)
theorem dX4_goesOn_8 : decode cX4_goesOn 8 = .ok (.invokevirtual 251, 3) := dk_182 0 251 (dk_at dksX4_goesOn_0 8 rfl rfl)
theorem dX4_goesOn_11 : decode cX4_goesOn 11 = .ok (.return_, 1) := dk_177 (dk_at dksX4_goesOn_0 11 rfl rfl)
abbrev cX4_readsWord : ByteArray := prog_14_method_73_code
def yX4_readsWord : MethodName := ⟨RX4, "readsWord", "()V"⟩
def dkwX4_readsWord_3 : List UInt8 := [182, 0, 82, 132, 1, 1, 167, 255, 226, 42, 182, 1, 1, 177]
abbrev dktX4_readsWord_3 : List UInt8 := dkwX4_readsWord_3 ++ []
def dkwX4_readsWord_2 : List UInt8 := [180, 0, 232, 162, 0, 28, 42, 182, 0, 247, 153, 0, 21, 42, 42, 27, 182, 0, 235, 16, 97, 100]
abbrev dktX4_readsWord_2 : List UInt8 := dkwX4_readsWord_2 ++ dktX4_readsWord_3
def dkwX4_readsWord_1 : List UInt8 := [96, 42, 180, 0, 238, 100, 16, 64, 164, 0, 8, 42, 7, 182, 0, 254, 42, 180, 0, 238, 60, 27, 42]
abbrev dktX4_readsWord_1 : List UInt8 := dkwX4_readsWord_1 ++ dktX4_readsWord_2
def dkwX4_readsWord_0 : List UInt8 := [42, 180, 0, 241, 4, 159, 0, 11, 42, 4, 182, 0, 254, 167, 0, 27, 42, 182, 0, 86, 42, 180, 0, 232]
abbrev dktX4_readsWord_0 : List UInt8 := dkwX4_readsWord_0 ++ dktX4_readsWord_1
theorem dksX4_readsWord_0 : cX4_readsWord.data.toList.drop 0 = dktX4_readsWord_0 := by decide +kernel
theorem dksX4_readsWord_1 : cX4_readsWord.data.toList.drop 24 = dktX4_readsWord_1 := dk_seg dksX4_readsWord_0 24 rfl rfl
theorem dksX4_readsWord_2 : cX4_readsWord.data.toList.drop 47 = dktX4_readsWord_2 := dk_seg dksX4_readsWord_1 23 rfl rfl
theorem dksX4_readsWord_3 : cX4_readsWord.data.toList.drop 69 = dktX4_readsWord_3 := dk_seg dksX4_readsWord_2 22 rfl rfl
theorem dX4_readsWord_0 : decode cX4_readsWord 0 = .ok (.aload_n 0, 1) := dk_42 (dk_at dksX4_readsWord_0 0 rfl rfl)
theorem dX4_readsWord_1 : decode cX4_readsWord 1 = .ok (.getfield 241, 3) := dk_180 0 241 (dk_at dksX4_readsWord_0 1 rfl rfl)
theorem dX4_readsWord_4 : decode cX4_readsWord 4 = .ok (.iconst 1, 1) := dk_4 (dk_at dksX4_readsWord_0 4 rfl rfl)
theorem dX4_readsWord_5 : decode cX4_readsWord 5 = .ok (.if_icmp .eq 11, 3) := dk_159 0 11 (dk_at dksX4_readsWord_0 5 rfl rfl)
theorem dX4_readsWord_8 : decode cX4_readsWord 8 = .ok (.aload_n 0, 1) := dk_42 (dk_at dksX4_readsWord_0 8 rfl rfl)
theorem dX4_readsWord_9 : decode cX4_readsWord 9 = .ok (.iconst 1, 1) := dk_4 (dk_at dksX4_readsWord_0 9 rfl rfl)
theorem dX4_readsWord_10 : decode cX4_readsWord 10 = .ok (.invokevirtual 254, 3) := dk_182 0 254 (dk_at dksX4_readsWord_0 10 rfl rfl)
theorem dX4_readsWord_13 : decode cX4_readsWord 13 = .ok (.goto 27, 3) := dk_167 0 27 (dk_at dksX4_readsWord_0 13 rfl rfl)
theorem dX4_readsWord_16 : decode cX4_readsWord 16 = .ok (.aload_n 0, 1) := dk_42 (dk_at dksX4_readsWord_0 16 rfl rfl)
theorem dX4_readsWord_17 : decode cX4_readsWord 17 = .ok (.invokevirtual 86, 3) := dk_182 0 86 (dk_at dksX4_readsWord_0 17 rfl rfl)
theorem dX4_readsWord_20 : decode cX4_readsWord 20 = .ok (.aload_n 0, 1) := dk_42 (dk_at dksX4_readsWord_0 20 rfl rfl)
theorem dX4_readsWord_21 : decode cX4_readsWord 21 = .ok (.getfield 232, 3) := dk_180 0 232 (dk_at dksX4_readsWord_0 21 rfl rfl)
theorem dX4_readsWord_24 : decode cX4_readsWord 24 = .ok (.iadd, 1) := dk_96 (dk_at dksX4_readsWord_1 0 rfl rfl)
theorem dX4_readsWord_25 : decode cX4_readsWord 25 = .ok (.aload_n 0, 1) := dk_42 (dk_at dksX4_readsWord_1 1 rfl rfl)
theorem dX4_readsWord_26 : decode cX4_readsWord 26 = .ok (.getfield 238, 3) := dk_180 0 238 (dk_at dksX4_readsWord_1 2 rfl rfl)
theorem dX4_readsWord_29 : decode cX4_readsWord 29 = .ok (.isub, 1) := dk_100 (dk_at dksX4_readsWord_1 5 rfl rfl)
theorem dX4_readsWord_30 : decode cX4_readsWord 30 = .ok (.bipush 64, 2) := dk_16 64 (dk_at dksX4_readsWord_1 6 rfl rfl)
theorem dX4_readsWord_32 : decode cX4_readsWord 32 = .ok (.if_icmp .le 8, 3) := dk_164 0 8 (dk_at dksX4_readsWord_1 8 rfl rfl)
theorem dX4_readsWord_35 : decode cX4_readsWord 35 = .ok (.aload_n 0, 1) := dk_42 (dk_at dksX4_readsWord_1 11 rfl rfl)
theorem dX4_readsWord_36 : decode cX4_readsWord 36 = .ok (.iconst 4, 1) := dk_7 (dk_at dksX4_readsWord_1 12 rfl rfl)
theorem dX4_readsWord_37 : decode cX4_readsWord 37 = .ok (.invokevirtual 254, 3) := dk_182 0 254 (dk_at dksX4_readsWord_1 13 rfl rfl)
theorem dX4_readsWord_40 : decode cX4_readsWord 40 = .ok (.aload_n 0, 1) := dk_42 (dk_at dksX4_readsWord_1 16 rfl rfl)
theorem dX4_readsWord_41 : decode cX4_readsWord 41 = .ok (.getfield 238, 3) := dk_180 0 238 (dk_at dksX4_readsWord_1 17 rfl rfl)
theorem dX4_readsWord_44 : decode cX4_readsWord 44 = .ok (.istore_n 1, 1) := dk_60 (dk_at dksX4_readsWord_1 20 rfl rfl)
theorem dX4_readsWord_45 : decode cX4_readsWord 45 = .ok (.iload_n 1, 1) := dk_27 (dk_at dksX4_readsWord_1 21 rfl rfl)
theorem dX4_readsWord_46 : decode cX4_readsWord 46 = .ok (.aload_n 0, 1) := dk_42 (dk_at dksX4_readsWord_1 22 rfl rfl)
theorem dX4_readsWord_47 : decode cX4_readsWord 47 = .ok (.getfield 232, 3) := dk_180 0 232 (dk_at dksX4_readsWord_2 0 rfl rfl)
theorem dX4_readsWord_50 : decode cX4_readsWord 50 = .ok (.if_icmp .ge 28, 3) := dk_162 0 28 (dk_at dksX4_readsWord_2 3 rfl rfl)
theorem dX4_readsWord_53 : decode cX4_readsWord 53 = .ok (.aload_n 0, 1) := dk_42 (dk_at dksX4_readsWord_2 6 rfl rfl)
theorem dX4_readsWord_54 : decode cX4_readsWord 54 = .ok (.invokevirtual 247, 3) := dk_182 0 247 (dk_at dksX4_readsWord_2 7 rfl rfl)
theorem dX4_readsWord_57 : decode cX4_readsWord 57 = .ok (.ifCond .eq 21, 3) := dk_153 0 21 (dk_at dksX4_readsWord_2 10 rfl rfl)
theorem dX4_readsWord_60 : decode cX4_readsWord 60 = .ok (.aload_n 0, 1) := dk_42 (dk_at dksX4_readsWord_2 13 rfl rfl)
theorem dX4_readsWord_61 : decode cX4_readsWord 61 = .ok (.aload_n 0, 1) := dk_42 (dk_at dksX4_readsWord_2 14 rfl rfl)
theorem dX4_readsWord_62 : decode cX4_readsWord 62 = .ok (.iload_n 1, 1) := dk_27 (dk_at dksX4_readsWord_2 15 rfl rfl)
theorem dX4_readsWord_63 : decode cX4_readsWord 63 = .ok (.invokevirtual 235, 3) := dk_182 0 235 (dk_at dksX4_readsWord_2 16 rfl rfl)
theorem dX4_readsWord_66 : decode cX4_readsWord 66 = .ok (.bipush 97, 2) := dk_16 97 (dk_at dksX4_readsWord_2 19 rfl rfl)
theorem dX4_readsWord_68 : decode cX4_readsWord 68 = .ok (.isub, 1) := dk_100 (dk_at dksX4_readsWord_2 21 rfl rfl)
theorem dX4_readsWord_69 : decode cX4_readsWord 69 = .ok (.invokevirtual 82, 3) := dk_182 0 82 (dk_at dksX4_readsWord_3 0 rfl rfl)
theorem dX4_readsWord_72 : decode cX4_readsWord 72 = .ok (.iinc 1 1, 3) := dk_132 1 1 (dk_at dksX4_readsWord_3 3 rfl rfl)
theorem dX4_readsWord_75 : decode cX4_readsWord 75 = .ok (.goto (-30), 3) := dk_167 255 226 (dk_at dksX4_readsWord_3 6 rfl rfl)
theorem dX4_readsWord_78 : decode cX4_readsWord 78 = .ok (.aload_n 0, 1) := dk_42 (dk_at dksX4_readsWord_3 9 rfl rfl)
theorem dX4_readsWord_79 : decode cX4_readsWord 79 = .ok (.invokevirtual 257, 3) := dk_182 1 1 (dk_at dksX4_readsWord_3 10 rfl rfl)
theorem dX4_readsWord_82 : decode cX4_readsWord 82 = .ok (.return_, 1) := dk_177 (dk_at dksX4_readsWord_3 13 rfl rfl)
abbrev cX4_readsLetter : ByteArray := prog_14_method_78_code
def yX4_readsLetter : MethodName := ⟨RX4, "readsLetter", "()V"⟩
def dkwX4_readsLetter_3 : List UInt8 := [16, 6, 27, 96, 42, 3, 16, 40, 182, 1, 43, 79, 177]
abbrev dktX4_readsLetter_3 : List UInt8 := dkwX4_readsLetter_3 ++ []
def dkwX4_readsLetter_2 : List UInt8 := [182, 0, 235, 96, 16, 97, 100, 60, 42, 8, 27, 96, 182, 1, 34, 42, 182, 1, 1, 42, 180, 0, 13]
abbrev dktX4_readsLetter_2 : List UInt8 := dkwX4_readsLetter_2 ++ dktX4_readsLetter_3
def dkwX4_readsLetter_1 : List UInt8 := [164, 0, 8, 42, 4, 182, 0, 254, 42, 182, 0, 247, 154, 0, 4, 177, 8, 42, 42, 180, 0, 238]
abbrev dktX4_readsLetter_1 : List UInt8 := dkwX4_readsLetter_1 ++ dktX4_readsLetter_2
def dkwX4_readsLetter_0 : List UInt8 := [42, 182, 1, 1, 42, 180, 0, 241, 4, 160, 0, 16, 42, 180, 0, 232, 42, 180, 0, 238, 100, 4]
abbrev dktX4_readsLetter_0 : List UInt8 := dkwX4_readsLetter_0 ++ dktX4_readsLetter_1
theorem dksX4_readsLetter_0 : cX4_readsLetter.data.toList.drop 0 = dktX4_readsLetter_0 := by decide +kernel
theorem dksX4_readsLetter_1 : cX4_readsLetter.data.toList.drop 22 = dktX4_readsLetter_1 := dk_seg dksX4_readsLetter_0 22 rfl rfl
theorem dksX4_readsLetter_2 : cX4_readsLetter.data.toList.drop 44 = dktX4_readsLetter_2 := dk_seg dksX4_readsLetter_1 22 rfl rfl
theorem dksX4_readsLetter_3 : cX4_readsLetter.data.toList.drop 67 = dktX4_readsLetter_3 := dk_seg dksX4_readsLetter_2 23 rfl rfl
theorem dX4_readsLetter_0 : decode cX4_readsLetter 0 = .ok (.aload_n 0, 1) := dk_42 (dk_at dksX4_readsLetter_0 0 rfl rfl)
theorem dX4_readsLetter_1 : decode cX4_readsLetter 1 = .ok (.invokevirtual 257, 3) := dk_182 1 1 (dk_at dksX4_readsLetter_0 1 rfl rfl)
theorem dX4_readsLetter_4 : decode cX4_readsLetter 4 = .ok (.aload_n 0, 1) := dk_42 (dk_at dksX4_readsLetter_0 4 rfl rfl)
theorem dX4_readsLetter_5 : decode cX4_readsLetter 5 = .ok (.getfield 241, 3) := dk_180 0 241 (dk_at dksX4_readsLetter_0 5 rfl rfl)
theorem dX4_readsLetter_8 : decode cX4_readsLetter 8 = .ok (.iconst 1, 1) := dk_4 (dk_at dksX4_readsLetter_0 8 rfl rfl)
theorem dX4_readsLetter_9 : decode cX4_readsLetter 9 = .ok (.if_icmp .ne 16, 3) := dk_160 0 16 (dk_at dksX4_readsLetter_0 9 rfl rfl)
theorem dX4_readsLetter_12 : decode cX4_readsLetter 12 = .ok (.aload_n 0, 1) := dk_42 (dk_at dksX4_readsLetter_0 12 rfl rfl)
theorem dX4_readsLetter_13 : decode cX4_readsLetter 13 = .ok (.getfield 232, 3) := dk_180 0 232 (dk_at dksX4_readsLetter_0 13 rfl rfl)
theorem dX4_readsLetter_16 : decode cX4_readsLetter 16 = .ok (.aload_n 0, 1) := dk_42 (dk_at dksX4_readsLetter_0 16 rfl rfl)
theorem dX4_readsLetter_17 : decode cX4_readsLetter 17 = .ok (.getfield 238, 3) := dk_180 0 238 (dk_at dksX4_readsLetter_0 17 rfl rfl)
theorem dX4_readsLetter_20 : decode cX4_readsLetter 20 = .ok (.isub, 1) := dk_100 (dk_at dksX4_readsLetter_0 20 rfl rfl)
theorem dX4_readsLetter_21 : decode cX4_readsLetter 21 = .ok (.iconst 1, 1) := dk_4 (dk_at dksX4_readsLetter_0 21 rfl rfl)
theorem dX4_readsLetter_22 : decode cX4_readsLetter 22 = .ok (.if_icmp .le 8, 3) := dk_164 0 8 (dk_at dksX4_readsLetter_1 0 rfl rfl)
theorem dX4_readsLetter_25 : decode cX4_readsLetter 25 = .ok (.aload_n 0, 1) := dk_42 (dk_at dksX4_readsLetter_1 3 rfl rfl)
theorem dX4_readsLetter_26 : decode cX4_readsLetter 26 = .ok (.iconst 1, 1) := dk_4 (dk_at dksX4_readsLetter_1 4 rfl rfl)
theorem dX4_readsLetter_27 : decode cX4_readsLetter 27 = .ok (.invokevirtual 254, 3) := dk_182 0 254 (dk_at dksX4_readsLetter_1 5 rfl rfl)
theorem dX4_readsLetter_30 : decode cX4_readsLetter 30 = .ok (.aload_n 0, 1) := dk_42 (dk_at dksX4_readsLetter_1 8 rfl rfl)
theorem dX4_readsLetter_31 : decode cX4_readsLetter 31 = .ok (.invokevirtual 247, 3) := dk_182 0 247 (dk_at dksX4_readsLetter_1 9 rfl rfl)
theorem dX4_readsLetter_34 : decode cX4_readsLetter 34 = .ok (.ifCond .ne 4, 3) := dk_154 0 4 (dk_at dksX4_readsLetter_1 12 rfl rfl)
theorem dX4_readsLetter_37 : decode cX4_readsLetter 37 = .ok (.return_, 1) := dk_177 (dk_at dksX4_readsLetter_1 15 rfl rfl)
theorem dX4_readsLetter_38 : decode cX4_readsLetter 38 = .ok (.iconst 5, 1) := dk_8 (dk_at dksX4_readsLetter_1 16 rfl rfl)
theorem dX4_readsLetter_39 : decode cX4_readsLetter 39 = .ok (.aload_n 0, 1) := dk_42 (dk_at dksX4_readsLetter_1 17 rfl rfl)
theorem dX4_readsLetter_40 : decode cX4_readsLetter 40 = .ok (.aload_n 0, 1) := dk_42 (dk_at dksX4_readsLetter_1 18 rfl rfl)
theorem dX4_readsLetter_41 : decode cX4_readsLetter 41 = .ok (.getfield 238, 3) := dk_180 0 238 (dk_at dksX4_readsLetter_1 19 rfl rfl)
theorem dX4_readsLetter_44 : decode cX4_readsLetter 44 = .ok (.invokevirtual 235, 3) := dk_182 0 235 (dk_at dksX4_readsLetter_2 0 rfl rfl)
theorem dX4_readsLetter_47 : decode cX4_readsLetter 47 = .ok (.iadd, 1) := dk_96 (dk_at dksX4_readsLetter_2 3 rfl rfl)
theorem dX4_readsLetter_48 : decode cX4_readsLetter 48 = .ok (.bipush 97, 2) := dk_16 97 (dk_at dksX4_readsLetter_2 4 rfl rfl)
theorem dX4_readsLetter_50 : decode cX4_readsLetter 50 = .ok (.isub, 1) := dk_100 (dk_at dksX4_readsLetter_2 6 rfl rfl)
theorem dX4_readsLetter_51 : decode cX4_readsLetter 51 = .ok (.istore_n 1, 1) := dk_60 (dk_at dksX4_readsLetter_2 7 rfl rfl)
theorem dX4_readsLetter_52 : decode cX4_readsLetter 52 = .ok (.aload_n 0, 1) := dk_42 (dk_at dksX4_readsLetter_2 8 rfl rfl)
theorem dX4_readsLetter_53 : decode cX4_readsLetter 53 = .ok (.iconst 5, 1) := dk_8 (dk_at dksX4_readsLetter_2 9 rfl rfl)
theorem dX4_readsLetter_54 : decode cX4_readsLetter 54 = .ok (.iload_n 1, 1) := dk_27 (dk_at dksX4_readsLetter_2 10 rfl rfl)
theorem dX4_readsLetter_55 : decode cX4_readsLetter 55 = .ok (.iadd, 1) := dk_96 (dk_at dksX4_readsLetter_2 11 rfl rfl)
theorem dX4_readsLetter_56 : decode cX4_readsLetter 56 = .ok (.invokevirtual 290, 3) := dk_182 1 34 (dk_at dksX4_readsLetter_2 12 rfl rfl)
theorem dX4_readsLetter_59 : decode cX4_readsLetter 59 = .ok (.aload_n 0, 1) := dk_42 (dk_at dksX4_readsLetter_2 15 rfl rfl)
theorem dX4_readsLetter_60 : decode cX4_readsLetter 60 = .ok (.invokevirtual 257, 3) := dk_182 1 1 (dk_at dksX4_readsLetter_2 16 rfl rfl)
theorem dX4_readsLetter_63 : decode cX4_readsLetter 63 = .ok (.aload_n 0, 1) := dk_42 (dk_at dksX4_readsLetter_2 19 rfl rfl)
theorem dX4_readsLetter_64 : decode cX4_readsLetter 64 = .ok (.getfield 13, 3) := dk_180 0 13 (dk_at dksX4_readsLetter_2 20 rfl rfl)
theorem dX4_readsLetter_67 : decode cX4_readsLetter 67 = .ok (.bipush 6, 2) := dk_16 6 (dk_at dksX4_readsLetter_3 0 rfl rfl)
theorem dX4_readsLetter_69 : decode cX4_readsLetter 69 = .ok (.iload_n 1, 1) := dk_27 (dk_at dksX4_readsLetter_3 2 rfl rfl)
theorem dX4_readsLetter_70 : decode cX4_readsLetter 70 = .ok (.iadd, 1) := dk_96 (dk_at dksX4_readsLetter_3 3 rfl rfl)
theorem dX4_readsLetter_71 : decode cX4_readsLetter 71 = .ok (.aload_n 0, 1) := dk_42 (dk_at dksX4_readsLetter_3 4 rfl rfl)
theorem dX4_readsLetter_72 : decode cX4_readsLetter 72 = .ok (.iconst 0, 1) := dk_3 (dk_at dksX4_readsLetter_3 5 rfl rfl)
theorem dX4_readsLetter_73 : decode cX4_readsLetter 73 = .ok (.bipush 40, 2) := dk_16 40 (dk_at dksX4_readsLetter_3 6 rfl rfl)
theorem dX4_readsLetter_75 : decode cX4_readsLetter 75 = .ok (.invokevirtual 299, 3) := dk_182 1 43 (dk_at dksX4_readsLetter_3 8 rfl rfl)
theorem dX4_readsLetter_78 : decode cX4_readsLetter 78 = .ok (.iastore, 1) := dk_79 (dk_at dksX4_readsLetter_3 11 rfl rfl)
theorem dX4_readsLetter_79 : decode cX4_readsLetter 79 = .ok (.return_, 1) := dk_177 (dk_at dksX4_readsLetter_3 12 rfl rfl)
abbrev cX4_tells : ByteArray := prog_14_method_75_code
def yX4_tells : MethodName := ⟨RX4, "tells", "(I)V"⟩
def dkwX4_tells_0 : List UInt8 := [42, 180, 0, 54, 27, 51, 153, 0, 8, 42, 6, 182, 0, 254, 42, 180, 0, 54, 27, 4, 84, 177]
abbrev dktX4_tells_0 : List UInt8 := dkwX4_tells_0 ++ []
theorem dksX4_tells_0 : cX4_tells.data.toList.drop 0 = dktX4_tells_0 := by decide +kernel
theorem dX4_tells_0 : decode cX4_tells 0 = .ok (.aload_n 0, 1) := dk_42 (dk_at dksX4_tells_0 0 rfl rfl)
theorem dX4_tells_1 : decode cX4_tells 1 = .ok (.getfield 54, 3) := dk_180 0 54 (dk_at dksX4_tells_0 1 rfl rfl)
theorem dX4_tells_4 : decode cX4_tells 4 = .ok (.iload_n 1, 1) := dk_27 (dk_at dksX4_tells_0 4 rfl rfl)
theorem dX4_tells_5 : decode cX4_tells 5 = .ok (.baload, 1) := dk_51 (dk_at dksX4_tells_0 5 rfl rfl)
theorem dX4_tells_6 : decode cX4_tells 6 = .ok (.ifCond .eq 8, 3) := dk_153 0 8 (dk_at dksX4_tells_0 6 rfl rfl)
theorem dX4_tells_9 : decode cX4_tells 9 = .ok (.aload_n 0, 1) := dk_42 (dk_at dksX4_tells_0 9 rfl rfl)
theorem dX4_tells_10 : decode cX4_tells 10 = .ok (.iconst 3, 1) := dk_6 (dk_at dksX4_tells_0 10 rfl rfl)
theorem dX4_tells_11 : decode cX4_tells 11 = .ok (.invokevirtual 254, 3) := dk_182 0 254 (dk_at dksX4_tells_0 11 rfl rfl)
theorem dX4_tells_14 : decode cX4_tells 14 = .ok (.aload_n 0, 1) := dk_42 (dk_at dksX4_tells_0 14 rfl rfl)
theorem dX4_tells_15 : decode cX4_tells 15 = .ok (.getfield 54, 3) := dk_180 0 54 (dk_at dksX4_tells_0 15 rfl rfl)
theorem dX4_tells_18 : decode cX4_tells 18 = .ok (.iload_n 1, 1) := dk_27 (dk_at dksX4_tells_0 18 rfl rfl)
theorem dX4_tells_19 : decode cX4_tells 19 = .ok (.iconst 1, 1) := dk_4 (dk_at dksX4_tells_0 19 rfl rfl)
theorem dX4_tells_20 : decode cX4_tells 20 = .ok (.bastore, 1) := dk_84 (dk_at dksX4_tells_0 20 rfl rfl)
theorem dX4_tells_21 : decode cX4_tells 21 = .ok (.return_, 1) := dk_177 (dk_at dksX4_tells_0 21 rfl rfl)
abbrev cX4_number : ByteArray := prog_14_method_68_code
def yX4_number : MethodName := ⟨RX4, "number", "(II)I"⟩
def dkwX4_number_0 : List UInt8 := [42, 27, 28, 182, 1, 4, 62, 42, 182, 1, 1, 29, 172]
abbrev dktX4_number_0 : List UInt8 := dkwX4_number_0 ++ []
theorem dksX4_number_0 : cX4_number.data.toList.drop 0 = dktX4_number_0 := by decide +kernel
theorem dX4_number_0 : decode cX4_number 0 = .ok (.aload_n 0, 1) := dk_42 (dk_at dksX4_number_0 0 rfl rfl)
theorem dX4_number_1 : decode cX4_number 1 = .ok (.iload_n 1, 1) := dk_27 (dk_at dksX4_number_0 1 rfl rfl)
theorem dX4_number_2 : decode cX4_number 2 = .ok (.iload_n 2, 1) := dk_28 (dk_at dksX4_number_0 2 rfl rfl)
theorem dX4_number_3 : decode cX4_number 3 = .ok (.invokevirtual 260, 3) := dk_182 1 4 (dk_at dksX4_number_0 3 rfl rfl)
theorem dX4_number_6 : decode cX4_number 6 = .ok (.istore_n 3, 1) := dk_62 (dk_at dksX4_number_0 6 rfl rfl)
theorem dX4_number_7 : decode cX4_number 7 = .ok (.aload_n 0, 1) := dk_42 (dk_at dksX4_number_0 7 rfl rfl)
theorem dX4_number_8 : decode cX4_number 8 = .ok (.invokevirtual 257, 3) := dk_182 1 1 (dk_at dksX4_number_0 8 rfl rfl)
theorem dX4_number_11 : decode cX4_number 11 = .ok (.iload_n 3, 1) := dk_29 (dk_at dksX4_number_0 11 rfl rfl)
theorem dX4_number_12 : decode cX4_number 12 = .ok (.ireturn, 1) := dk_172 (dk_at dksX4_number_0 12 rfl rfl)
abbrev cX4_numberHere : ByteArray := prog_14_method_67_code
def yX4_numberHere : MethodName := ⟨RX4, "numberHere", "(II)I"⟩
def dkwX4_numberHere_2 : List UInt8 := [167, 0, 4, 27, 172]
abbrev dktX4_numberHere_2 : List UInt8 := dkwX4_numberHere_2 ++ []
def dkwX4_numberHere_1 : List UInt8 := [184, 0, 121, 154, 0, 8, 42, 5, 182, 0, 254, 42, 182, 0, 247, 153, 0, 10, 42, 180, 0, 244]
abbrev dktX4_numberHere_1 : List UInt8 := dkwX4_numberHere_1 ++ dktX4_numberHere_2
def dkwX4_numberHere_0 : List UInt8 := [42, 180, 0, 241, 5, 159, 0, 11, 42, 4, 182, 0, 254, 167, 0, 20, 42, 180, 0, 244, 27, 28]
abbrev dktX4_numberHere_0 : List UInt8 := dkwX4_numberHere_0 ++ dktX4_numberHere_1
theorem dksX4_numberHere_0 : cX4_numberHere.data.toList.drop 0 = dktX4_numberHere_0 := by decide +kernel
theorem dksX4_numberHere_1 : cX4_numberHere.data.toList.drop 22 = dktX4_numberHere_1 := dk_seg dksX4_numberHere_0 22 rfl rfl
theorem dksX4_numberHere_2 : cX4_numberHere.data.toList.drop 44 = dktX4_numberHere_2 := dk_seg dksX4_numberHere_1 22 rfl rfl
theorem dX4_numberHere_0 : decode cX4_numberHere 0 = .ok (.aload_n 0, 1) := dk_42 (dk_at dksX4_numberHere_0 0 rfl rfl)
theorem dX4_numberHere_1 : decode cX4_numberHere 1 = .ok (.getfield 241, 3) := dk_180 0 241 (dk_at dksX4_numberHere_0 1 rfl rfl)
theorem dX4_numberHere_4 : decode cX4_numberHere 4 = .ok (.iconst 2, 1) := dk_5 (dk_at dksX4_numberHere_0 4 rfl rfl)
theorem dX4_numberHere_5 : decode cX4_numberHere 5 = .ok (.if_icmp .eq 11, 3) := dk_159 0 11 (dk_at dksX4_numberHere_0 5 rfl rfl)
theorem dX4_numberHere_8 : decode cX4_numberHere 8 = .ok (.aload_n 0, 1) := dk_42 (dk_at dksX4_numberHere_0 8 rfl rfl)
theorem dX4_numberHere_9 : decode cX4_numberHere 9 = .ok (.iconst 1, 1) := dk_4 (dk_at dksX4_numberHere_0 9 rfl rfl)
theorem dX4_numberHere_10 : decode cX4_numberHere 10 = .ok (.invokevirtual 254, 3) := dk_182 0 254 (dk_at dksX4_numberHere_0 10 rfl rfl)
theorem dX4_numberHere_13 : decode cX4_numberHere 13 = .ok (.goto 20, 3) := dk_167 0 20 (dk_at dksX4_numberHere_0 13 rfl rfl)
theorem dX4_numberHere_16 : decode cX4_numberHere 16 = .ok (.aload_n 0, 1) := dk_42 (dk_at dksX4_numberHere_0 16 rfl rfl)
theorem dX4_numberHere_17 : decode cX4_numberHere 17 = .ok (.getfield 244, 3) := dk_180 0 244 (dk_at dksX4_numberHere_0 17 rfl rfl)
theorem dX4_numberHere_20 : decode cX4_numberHere 20 = .ok (.iload_n 1, 1) := dk_27 (dk_at dksX4_numberHere_0 20 rfl rfl)
theorem dX4_numberHere_21 : decode cX4_numberHere 21 = .ok (.iload_n 2, 1) := dk_28 (dk_at dksX4_numberHere_0 21 rfl rfl)
theorem dX4_numberHere_22 : decode cX4_numberHere 22 = .ok (.invokestatic 121, 3) := dk_184 0 121 (dk_at dksX4_numberHere_1 0 rfl rfl)
theorem dX4_numberHere_25 : decode cX4_numberHere 25 = .ok (.ifCond .ne 8, 3) := dk_154 0 8 (dk_at dksX4_numberHere_1 3 rfl rfl)
theorem dX4_numberHere_28 : decode cX4_numberHere 28 = .ok (.aload_n 0, 1) := dk_42 (dk_at dksX4_numberHere_1 6 rfl rfl)
theorem dX4_numberHere_29 : decode cX4_numberHere 29 = .ok (.iconst 2, 1) := dk_5 (dk_at dksX4_numberHere_1 7 rfl rfl)
theorem dX4_numberHere_30 : decode cX4_numberHere 30 = .ok (.invokevirtual 254, 3) := dk_182 0 254 (dk_at dksX4_numberHere_1 8 rfl rfl)
theorem dX4_numberHere_33 : decode cX4_numberHere 33 = .ok (.aload_n 0, 1) := dk_42 (dk_at dksX4_numberHere_1 11 rfl rfl)
theorem dX4_numberHere_34 : decode cX4_numberHere 34 = .ok (.invokevirtual 247, 3) := dk_182 0 247 (dk_at dksX4_numberHere_1 12 rfl rfl)
theorem dX4_numberHere_37 : decode cX4_numberHere 37 = .ok (.ifCond .eq 10, 3) := dk_153 0 10 (dk_at dksX4_numberHere_1 15 rfl rfl)
theorem dX4_numberHere_40 : decode cX4_numberHere 40 = .ok (.aload_n 0, 1) := dk_42 (dk_at dksX4_numberHere_1 18 rfl rfl)
theorem dX4_numberHere_41 : decode cX4_numberHere 41 = .ok (.getfield 244, 3) := dk_180 0 244 (dk_at dksX4_numberHere_1 19 rfl rfl)
theorem dX4_numberHere_44 : decode cX4_numberHere 44 = .ok (.goto 4, 3) := dk_167 0 4 (dk_at dksX4_numberHere_2 0 rfl rfl)
theorem dX4_numberHere_47 : decode cX4_numberHere 47 = .ok (.iload_n 1, 1) := dk_27 (dk_at dksX4_numberHere_2 3 rfl rfl)
theorem dX4_numberHere_48 : decode cX4_numberHere 48 = .ok (.ireturn, 1) := dk_172 (dk_at dksX4_numberHere_2 4 rfl rfl)
abbrev cX4_readsPin : ByteArray := prog_14_method_79_code
def yX4_readsPin : MethodName := ⟨RX4, "readsPin", "()V"⟩
def dkwX4_readsPin_3 : List UInt8 := [182, 1, 1, 177]
abbrev dktX4_readsPin_3 : List UInt8 := dkwX4_readsPin_3 ++ []
def dkwX4_readsPin_2 : List UInt8 := [182, 0, 254, 42, 182, 0, 247, 154, 0, 4, 177, 42, 180, 0, 13, 16, 107, 27, 96, 4, 79, 42]
abbrev dktX4_readsPin_2 : List UInt8 := dkwX4_readsPin_2 ++ dktX4_readsPin_3
def dkwX4_readsPin_1 : List UInt8 := [4, 100, 182, 1, 4, 60, 42, 182, 0, 247, 153, 0, 16, 42, 27, 182, 0, 117, 153, 0, 8, 42, 6]
abbrev dktX4_readsPin_1 : List UInt8 := dkwX4_readsPin_1 ++ dktX4_readsPin_2
def dkwX4_readsPin_0 : List UInt8 := [42, 182, 1, 46, 16, 16, 160, 0, 8, 42, 7, 182, 0, 254, 42, 182, 1, 1, 42, 3, 42, 182, 0, 86]
abbrev dktX4_readsPin_0 : List UInt8 := dkwX4_readsPin_0 ++ dktX4_readsPin_1
theorem dksX4_readsPin_0 : cX4_readsPin.data.toList.drop 0 = dktX4_readsPin_0 := by decide +kernel
theorem dksX4_readsPin_1 : cX4_readsPin.data.toList.drop 24 = dktX4_readsPin_1 := dk_seg dksX4_readsPin_0 24 rfl rfl
theorem dksX4_readsPin_2 : cX4_readsPin.data.toList.drop 47 = dktX4_readsPin_2 := dk_seg dksX4_readsPin_1 23 rfl rfl
theorem dksX4_readsPin_3 : cX4_readsPin.data.toList.drop 69 = dktX4_readsPin_3 := dk_seg dksX4_readsPin_2 22 rfl rfl
theorem dX4_readsPin_0 : decode cX4_readsPin 0 = .ok (.aload_n 0, 1) := dk_42 (dk_at dksX4_readsPin_0 0 rfl rfl)
theorem dX4_readsPin_1 : decode cX4_readsPin 1 = .ok (.invokevirtual 302, 3) := dk_182 1 46 (dk_at dksX4_readsPin_0 1 rfl rfl)
theorem dX4_readsPin_4 : decode cX4_readsPin 4 = .ok (.bipush 16, 2) := dk_16 16 (dk_at dksX4_readsPin_0 4 rfl rfl)
theorem dX4_readsPin_6 : decode cX4_readsPin 6 = .ok (.if_icmp .ne 8, 3) := dk_160 0 8 (dk_at dksX4_readsPin_0 6 rfl rfl)
theorem dX4_readsPin_9 : decode cX4_readsPin 9 = .ok (.aload_n 0, 1) := dk_42 (dk_at dksX4_readsPin_0 9 rfl rfl)
theorem dX4_readsPin_10 : decode cX4_readsPin 10 = .ok (.iconst 4, 1) := dk_7 (dk_at dksX4_readsPin_0 10 rfl rfl)
theorem dX4_readsPin_11 : decode cX4_readsPin 11 = .ok (.invokevirtual 254, 3) := dk_182 0 254 (dk_at dksX4_readsPin_0 11 rfl rfl)
theorem dX4_readsPin_14 : decode cX4_readsPin 14 = .ok (.aload_n 0, 1) := dk_42 (dk_at dksX4_readsPin_0 14 rfl rfl)
theorem dX4_readsPin_15 : decode cX4_readsPin 15 = .ok (.invokevirtual 257, 3) := dk_182 1 1 (dk_at dksX4_readsPin_0 15 rfl rfl)
theorem dX4_readsPin_18 : decode cX4_readsPin 18 = .ok (.aload_n 0, 1) := dk_42 (dk_at dksX4_readsPin_0 18 rfl rfl)
theorem dX4_readsPin_19 : decode cX4_readsPin 19 = .ok (.iconst 0, 1) := dk_3 (dk_at dksX4_readsPin_0 19 rfl rfl)
theorem dX4_readsPin_20 : decode cX4_readsPin 20 = .ok (.aload_n 0, 1) := dk_42 (dk_at dksX4_readsPin_0 20 rfl rfl)
theorem dX4_readsPin_21 : decode cX4_readsPin 21 = .ok (.invokevirtual 86, 3) := dk_182 0 86 (dk_at dksX4_readsPin_0 21 rfl rfl)
theorem dX4_readsPin_24 : decode cX4_readsPin 24 = .ok (.iconst 1, 1) := dk_4 (dk_at dksX4_readsPin_1 0 rfl rfl)
theorem dX4_readsPin_25 : decode cX4_readsPin 25 = .ok (.isub, 1) := dk_100 (dk_at dksX4_readsPin_1 1 rfl rfl)
theorem dX4_readsPin_26 : decode cX4_readsPin 26 = .ok (.invokevirtual 260, 3) := dk_182 1 4 (dk_at dksX4_readsPin_1 2 rfl rfl)
theorem dX4_readsPin_29 : decode cX4_readsPin 29 = .ok (.istore_n 1, 1) := dk_60 (dk_at dksX4_readsPin_1 5 rfl rfl)
theorem dX4_readsPin_30 : decode cX4_readsPin 30 = .ok (.aload_n 0, 1) := dk_42 (dk_at dksX4_readsPin_1 6 rfl rfl)
theorem dX4_readsPin_31 : decode cX4_readsPin 31 = .ok (.invokevirtual 247, 3) := dk_182 0 247 (dk_at dksX4_readsPin_1 7 rfl rfl)
theorem dX4_readsPin_34 : decode cX4_readsPin 34 = .ok (.ifCond .eq 16, 3) := dk_153 0 16 (dk_at dksX4_readsPin_1 10 rfl rfl)
theorem dX4_readsPin_37 : decode cX4_readsPin 37 = .ok (.aload_n 0, 1) := dk_42 (dk_at dksX4_readsPin_1 13 rfl rfl)
theorem dX4_readsPin_38 : decode cX4_readsPin 38 = .ok (.iload_n 1, 1) := dk_27 (dk_at dksX4_readsPin_1 14 rfl rfl)
theorem dX4_readsPin_39 : decode cX4_readsPin 39 = .ok (.invokevirtual 117, 3) := dk_182 0 117 (dk_at dksX4_readsPin_1 15 rfl rfl)
theorem dX4_readsPin_42 : decode cX4_readsPin 42 = .ok (.ifCond .eq 8, 3) := dk_153 0 8 (dk_at dksX4_readsPin_1 18 rfl rfl)
theorem dX4_readsPin_45 : decode cX4_readsPin 45 = .ok (.aload_n 0, 1) := dk_42 (dk_at dksX4_readsPin_1 21 rfl rfl)
theorem dX4_readsPin_46 : decode cX4_readsPin 46 = .ok (.iconst 3, 1) := dk_6 (dk_at dksX4_readsPin_1 22 rfl rfl)
theorem dX4_readsPin_47 : decode cX4_readsPin 47 = .ok (.invokevirtual 254, 3) := dk_182 0 254 (dk_at dksX4_readsPin_2 0 rfl rfl)
theorem dX4_readsPin_50 : decode cX4_readsPin 50 = .ok (.aload_n 0, 1) := dk_42 (dk_at dksX4_readsPin_2 3 rfl rfl)
theorem dX4_readsPin_51 : decode cX4_readsPin 51 = .ok (.invokevirtual 247, 3) := dk_182 0 247 (dk_at dksX4_readsPin_2 4 rfl rfl)
theorem dX4_readsPin_54 : decode cX4_readsPin 54 = .ok (.ifCond .ne 4, 3) := dk_154 0 4 (dk_at dksX4_readsPin_2 7 rfl rfl)
theorem dX4_readsPin_57 : decode cX4_readsPin 57 = .ok (.return_, 1) := dk_177 (dk_at dksX4_readsPin_2 10 rfl rfl)
theorem dX4_readsPin_58 : decode cX4_readsPin 58 = .ok (.aload_n 0, 1) := dk_42 (dk_at dksX4_readsPin_2 11 rfl rfl)
theorem dX4_readsPin_59 : decode cX4_readsPin 59 = .ok (.getfield 13, 3) := dk_180 0 13 (dk_at dksX4_readsPin_2 12 rfl rfl)
theorem dX4_readsPin_62 : decode cX4_readsPin 62 = .ok (.bipush 107, 2) := dk_16 107 (dk_at dksX4_readsPin_2 15 rfl rfl)
theorem dX4_readsPin_64 : decode cX4_readsPin 64 = .ok (.iload_n 1, 1) := dk_27 (dk_at dksX4_readsPin_2 17 rfl rfl)
theorem dX4_readsPin_65 : decode cX4_readsPin 65 = .ok (.iadd, 1) := dk_96 (dk_at dksX4_readsPin_2 18 rfl rfl)
theorem dX4_readsPin_66 : decode cX4_readsPin 66 = .ok (.iconst 1, 1) := dk_4 (dk_at dksX4_readsPin_2 19 rfl rfl)
theorem dX4_readsPin_67 : decode cX4_readsPin 67 = .ok (.iastore, 1) := dk_79 (dk_at dksX4_readsPin_2 20 rfl rfl)
theorem dX4_readsPin_68 : decode cX4_readsPin 68 = .ok (.aload_n 0, 1) := dk_42 (dk_at dksX4_readsPin_2 21 rfl rfl)
theorem dX4_readsPin_69 : decode cX4_readsPin 69 = .ok (.invokevirtual 257, 3) := dk_182 1 1 (dk_at dksX4_readsPin_3 0 rfl rfl)
theorem dX4_readsPin_72 : decode cX4_readsPin 72 = .ok (.return_, 1) := dk_177 (dk_at dksX4_readsPin_3 3 rfl rfl)
abbrev cX4_pinMany : ByteArray := prog_14_method_84_code
def yX4_pinMany : MethodName := ⟨RX4, "pinMany", "()I"⟩
def dkwX4_pinMany_1 : List UInt8 := [132, 2, 1, 167, 255, 233, 27, 172]
abbrev dktX4_pinMany_1 : List UInt8 := dkwX4_pinMany_1 ++ []
def dkwX4_pinMany_0 : List UInt8 := [3, 60, 3, 61, 28, 42, 182, 0, 86, 162, 0, 21, 27, 42, 180, 0, 13, 16, 107, 28, 96, 46, 96, 60]
abbrev dktX4_pinMany_0 : List UInt8 := dkwX4_pinMany_0 ++ dktX4_pinMany_1
theorem dksX4_pinMany_0 : cX4_pinMany.data.toList.drop 0 = dktX4_pinMany_0 := by decide +kernel
theorem dksX4_pinMany_1 : cX4_pinMany.data.toList.drop 24 = dktX4_pinMany_1 := dk_seg dksX4_pinMany_0 24 rfl rfl
theorem dX4_pinMany_0 : decode cX4_pinMany 0 = .ok (.iconst 0, 1) := dk_3 (dk_at dksX4_pinMany_0 0 rfl rfl)
theorem dX4_pinMany_1 : decode cX4_pinMany 1 = .ok (.istore_n 1, 1) := dk_60 (dk_at dksX4_pinMany_0 1 rfl rfl)
theorem dX4_pinMany_2 : decode cX4_pinMany 2 = .ok (.iconst 0, 1) := dk_3 (dk_at dksX4_pinMany_0 2 rfl rfl)
theorem dX4_pinMany_3 : decode cX4_pinMany 3 = .ok (.istore_n 2, 1) := dk_61 (dk_at dksX4_pinMany_0 3 rfl rfl)
theorem dX4_pinMany_4 : decode cX4_pinMany 4 = .ok (.iload_n 2, 1) := dk_28 (dk_at dksX4_pinMany_0 4 rfl rfl)
theorem dX4_pinMany_5 : decode cX4_pinMany 5 = .ok (.aload_n 0, 1) := dk_42 (dk_at dksX4_pinMany_0 5 rfl rfl)
theorem dX4_pinMany_6 : decode cX4_pinMany 6 = .ok (.invokevirtual 86, 3) := dk_182 0 86 (dk_at dksX4_pinMany_0 6 rfl rfl)
theorem dX4_pinMany_9 : decode cX4_pinMany 9 = .ok (.if_icmp .ge 21, 3) := dk_162 0 21 (dk_at dksX4_pinMany_0 9 rfl rfl)
theorem dX4_pinMany_12 : decode cX4_pinMany 12 = .ok (.iload_n 1, 1) := dk_27 (dk_at dksX4_pinMany_0 12 rfl rfl)
theorem dX4_pinMany_13 : decode cX4_pinMany 13 = .ok (.aload_n 0, 1) := dk_42 (dk_at dksX4_pinMany_0 13 rfl rfl)
theorem dX4_pinMany_14 : decode cX4_pinMany 14 = .ok (.getfield 13, 3) := dk_180 0 13 (dk_at dksX4_pinMany_0 14 rfl rfl)
theorem dX4_pinMany_17 : decode cX4_pinMany 17 = .ok (.bipush 107, 2) := dk_16 107 (dk_at dksX4_pinMany_0 17 rfl rfl)
theorem dX4_pinMany_19 : decode cX4_pinMany 19 = .ok (.iload_n 2, 1) := dk_28 (dk_at dksX4_pinMany_0 19 rfl rfl)
theorem dX4_pinMany_20 : decode cX4_pinMany 20 = .ok (.iadd, 1) := dk_96 (dk_at dksX4_pinMany_0 20 rfl rfl)
theorem dX4_pinMany_21 : decode cX4_pinMany 21 = .ok (.iaload, 1) := dk_46 (dk_at dksX4_pinMany_0 21 rfl rfl)
theorem dX4_pinMany_22 : decode cX4_pinMany 22 = .ok (.iadd, 1) := dk_96 (dk_at dksX4_pinMany_0 22 rfl rfl)
theorem dX4_pinMany_23 : decode cX4_pinMany 23 = .ok (.istore_n 1, 1) := dk_60 (dk_at dksX4_pinMany_0 23 rfl rfl)
theorem dX4_pinMany_24 : decode cX4_pinMany 24 = .ok (.iinc 2 1, 3) := dk_132 2 1 (dk_at dksX4_pinMany_1 0 rfl rfl)
theorem dX4_pinMany_27 : decode cX4_pinMany 27 = .ok (.goto (-23), 3) := dk_167 255 233 (dk_at dksX4_pinMany_1 3 rfl rfl)
theorem dX4_pinMany_30 : decode cX4_pinMany 30 = .ok (.iload_n 1, 1) := dk_27 (dk_at dksX4_pinMany_1 6 rfl rfl)
theorem dX4_pinMany_31 : decode cX4_pinMany 31 = .ok (.ireturn, 1) := dk_172 (dk_at dksX4_pinMany_1 7 rfl rfl)
abbrev cX4_isPinned : ByteArray := prog_14_method_14_code
def yX4_isPinned : MethodName := ⟨RX4, "isPinned", "(I)Z"⟩
def dkwX4_isPinned_0 : List UInt8 := [42, 180, 0, 13, 16, 107, 27, 96, 46, 4, 160, 0, 7, 4, 167, 0, 4, 3, 172]
abbrev dktX4_isPinned_0 : List UInt8 := dkwX4_isPinned_0 ++ []
theorem dksX4_isPinned_0 : cX4_isPinned.data.toList.drop 0 = dktX4_isPinned_0 := by decide +kernel
theorem dX4_isPinned_0 : decode cX4_isPinned 0 = .ok (.aload_n 0, 1) := dk_42 (dk_at dksX4_isPinned_0 0 rfl rfl)
theorem dX4_isPinned_1 : decode cX4_isPinned 1 = .ok (.getfield 13, 3) := dk_180 0 13 (dk_at dksX4_isPinned_0 1 rfl rfl)
theorem dX4_isPinned_4 : decode cX4_isPinned 4 = .ok (.bipush 107, 2) := dk_16 107 (dk_at dksX4_isPinned_0 4 rfl rfl)
theorem dX4_isPinned_6 : decode cX4_isPinned 6 = .ok (.iload_n 1, 1) := dk_27 (dk_at dksX4_isPinned_0 6 rfl rfl)
theorem dX4_isPinned_7 : decode cX4_isPinned 7 = .ok (.iadd, 1) := dk_96 (dk_at dksX4_isPinned_0 7 rfl rfl)
theorem dX4_isPinned_8 : decode cX4_isPinned 8 = .ok (.iaload, 1) := dk_46 (dk_at dksX4_isPinned_0 8 rfl rfl)
theorem dX4_isPinned_9 : decode cX4_isPinned 9 = .ok (.iconst 1, 1) := dk_4 (dk_at dksX4_isPinned_0 9 rfl rfl)
theorem dX4_isPinned_10 : decode cX4_isPinned 10 = .ok (.if_icmp .ne 7, 3) := dk_160 0 7 (dk_at dksX4_isPinned_0 10 rfl rfl)
theorem dX4_isPinned_13 : decode cX4_isPinned 13 = .ok (.iconst 1, 1) := dk_4 (dk_at dksX4_isPinned_0 13 rfl rfl)
theorem dX4_isPinned_14 : decode cX4_isPinned 14 = .ok (.goto 4, 3) := dk_167 0 4 (dk_at dksX4_isPinned_0 14 rfl rfl)
theorem dX4_isPinned_17 : decode cX4_isPinned 17 = .ok (.iconst 0, 1) := dk_3 (dk_at dksX4_isPinned_0 17 rfl rfl)
theorem dX4_isPinned_18 : decode cX4_isPinned 18 = .ok (.ireturn, 1) := dk_172 (dk_at dksX4_isPinned_0 18 rfl rfl)
abbrev cX4_settingHere : ByteArray := prog_14_method_71_code
def yX4_settingHere : MethodName := ⟨RX4, "settingHere", "()I"⟩
def dkwX4_settingHere_2 : List UInt8 := [42, 19, 1, 19, 182, 1, 9, 153, 0, 7, 7, 167, 0, 4, 2, 172]
abbrev dktX4_settingHere_2 : List UInt8 := dkwX4_settingHere_2 ++ []
def dkwX4_settingHere_1 : List UInt8 := [42, 19, 1, 15, 182, 1, 9, 153, 0, 5, 5, 172, 42, 19, 1, 17, 182, 1, 9, 153, 0, 5, 6, 172]
abbrev dktX4_settingHere_1 : List UInt8 := dkwX4_settingHere_1 ++ dktX4_settingHere_2
def dkwX4_settingHere_0 : List UInt8 := [42, 19, 1, 7, 182, 1, 9, 153, 0, 5, 3, 172, 42, 19, 1, 13, 182, 1, 9, 153, 0, 5, 4, 172]
abbrev dktX4_settingHere_0 : List UInt8 := dkwX4_settingHere_0 ++ dktX4_settingHere_1
theorem dksX4_settingHere_0 : cX4_settingHere.data.toList.drop 0 = dktX4_settingHere_0 := by decide +kernel
theorem dksX4_settingHere_1 : cX4_settingHere.data.toList.drop 24 = dktX4_settingHere_1 := dk_seg dksX4_settingHere_0 24 rfl rfl
theorem dksX4_settingHere_2 : cX4_settingHere.data.toList.drop 48 = dktX4_settingHere_2 := dk_seg dksX4_settingHere_1 24 rfl rfl
theorem dX4_settingHere_0 : decode cX4_settingHere 0 = .ok (.aload_n 0, 1) := dk_42 (dk_at dksX4_settingHere_0 0 rfl rfl)
theorem dX4_settingHere_1 : decode cX4_settingHere 1 = .ok (.ldc_w 263, 3) := dk_19 1 7 (dk_at dksX4_settingHere_0 1 rfl rfl)
theorem dX4_settingHere_4 : decode cX4_settingHere 4 = .ok (.invokevirtual 265, 3) := dk_182 1 9 (dk_at dksX4_settingHere_0 4 rfl rfl)
theorem dX4_settingHere_7 : decode cX4_settingHere 7 = .ok (.ifCond .eq 5, 3) := dk_153 0 5 (dk_at dksX4_settingHere_0 7 rfl rfl)
theorem dX4_settingHere_10 : decode cX4_settingHere 10 = .ok (.iconst 0, 1) := dk_3 (dk_at dksX4_settingHere_0 10 rfl rfl)
theorem dX4_settingHere_11 : decode cX4_settingHere 11 = .ok (.ireturn, 1) := dk_172 (dk_at dksX4_settingHere_0 11 rfl rfl)
theorem dX4_settingHere_12 : decode cX4_settingHere 12 = .ok (.aload_n 0, 1) := dk_42 (dk_at dksX4_settingHere_0 12 rfl rfl)
theorem dX4_settingHere_13 : decode cX4_settingHere 13 = .ok (.ldc_w 269, 3) := dk_19 1 13 (dk_at dksX4_settingHere_0 13 rfl rfl)
theorem dX4_settingHere_16 : decode cX4_settingHere 16 = .ok (.invokevirtual 265, 3) := dk_182 1 9 (dk_at dksX4_settingHere_0 16 rfl rfl)
theorem dX4_settingHere_19 : decode cX4_settingHere 19 = .ok (.ifCond .eq 5, 3) := dk_153 0 5 (dk_at dksX4_settingHere_0 19 rfl rfl)
theorem dX4_settingHere_22 : decode cX4_settingHere 22 = .ok (.iconst 1, 1) := dk_4 (dk_at dksX4_settingHere_0 22 rfl rfl)
theorem dX4_settingHere_23 : decode cX4_settingHere 23 = .ok (.ireturn, 1) := dk_172 (dk_at dksX4_settingHere_0 23 rfl rfl)
theorem dX4_settingHere_24 : decode cX4_settingHere 24 = .ok (.aload_n 0, 1) := dk_42 (dk_at dksX4_settingHere_1 0 rfl rfl)
theorem dX4_settingHere_25 : decode cX4_settingHere 25 = .ok (.ldc_w 271, 3) := dk_19 1 15 (dk_at dksX4_settingHere_1 1 rfl rfl)
theorem dX4_settingHere_28 : decode cX4_settingHere 28 = .ok (.invokevirtual 265, 3) := dk_182 1 9 (dk_at dksX4_settingHere_1 4 rfl rfl)
theorem dX4_settingHere_31 : decode cX4_settingHere 31 = .ok (.ifCond .eq 5, 3) := dk_153 0 5 (dk_at dksX4_settingHere_1 7 rfl rfl)
theorem dX4_settingHere_34 : decode cX4_settingHere 34 = .ok (.iconst 2, 1) := dk_5 (dk_at dksX4_settingHere_1 10 rfl rfl)
theorem dX4_settingHere_35 : decode cX4_settingHere 35 = .ok (.ireturn, 1) := dk_172 (dk_at dksX4_settingHere_1 11 rfl rfl)
theorem dX4_settingHere_36 : decode cX4_settingHere 36 = .ok (.aload_n 0, 1) := dk_42 (dk_at dksX4_settingHere_1 12 rfl rfl)
theorem dX4_settingHere_37 : decode cX4_settingHere 37 = .ok (.ldc_w 273, 3) := dk_19 1 17 (dk_at dksX4_settingHere_1 13 rfl rfl)
theorem dX4_settingHere_40 : decode cX4_settingHere 40 = .ok (.invokevirtual 265, 3) := dk_182 1 9 (dk_at dksX4_settingHere_1 16 rfl rfl)
theorem dX4_settingHere_43 : decode cX4_settingHere 43 = .ok (.ifCond .eq 5, 3) := dk_153 0 5 (dk_at dksX4_settingHere_1 19 rfl rfl)
theorem dX4_settingHere_46 : decode cX4_settingHere 46 = .ok (.iconst 3, 1) := dk_6 (dk_at dksX4_settingHere_1 22 rfl rfl)
theorem dX4_settingHere_47 : decode cX4_settingHere 47 = .ok (.ireturn, 1) := dk_172 (dk_at dksX4_settingHere_1 23 rfl rfl)
theorem dX4_settingHere_48 : decode cX4_settingHere 48 = .ok (.aload_n 0, 1) := dk_42 (dk_at dksX4_settingHere_2 0 rfl rfl)
theorem dX4_settingHere_49 : decode cX4_settingHere 49 = .ok (.ldc_w 275, 3) := dk_19 1 19 (dk_at dksX4_settingHere_2 1 rfl rfl)
theorem dX4_settingHere_52 : decode cX4_settingHere 52 = .ok (.invokevirtual 265, 3) := dk_182 1 9 (dk_at dksX4_settingHere_2 4 rfl rfl)
theorem dX4_settingHere_55 : decode cX4_settingHere 55 = .ok (.ifCond .eq 7, 3) := dk_153 0 7 (dk_at dksX4_settingHere_2 7 rfl rfl)
theorem dX4_settingHere_58 : decode cX4_settingHere 58 = .ok (.iconst 4, 1) := dk_7 (dk_at dksX4_settingHere_2 10 rfl rfl)
theorem dX4_settingHere_59 : decode cX4_settingHere 59 = .ok (.goto 4, 3) := dk_167 0 4 (dk_at dksX4_settingHere_2 11 rfl rfl)
theorem dX4_settingHere_62 : decode cX4_settingHere 62 = .ok (.iconst (-1), 1) := dk_2 (dk_at dksX4_settingHere_2 14 rfl rfl)
theorem dX4_settingHere_63 : decode cX4_settingHere 63 = .ok (.ireturn, 1) := dk_172 (dk_at dksX4_settingHere_2 15 rfl rfl)
abbrev cX4_readsSetting : ByteArray := prog_14_method_76_code
def yX4_readsSetting : MethodName := ⟨RX4, "readsSetting", "(I)V"⟩
def dkwX4_readsSetting_1 : List UInt8 := [184, 1, 40, 182, 1, 43, 79, 177]
abbrev dktX4_readsSetting_1 : List UInt8 := dkwX4_readsSetting_1 ++ []
def dkwX4_readsSetting_0 : List UInt8 := [42, 27, 182, 1, 34, 42, 182, 1, 1, 42, 180, 0, 13, 4, 27, 96, 42, 27, 184, 1, 37, 27]
abbrev dktX4_readsSetting_0 : List UInt8 := dkwX4_readsSetting_0 ++ dktX4_readsSetting_1
theorem dksX4_readsSetting_0 : cX4_readsSetting.data.toList.drop 0 = dktX4_readsSetting_0 := by decide +kernel
theorem dksX4_readsSetting_1 : cX4_readsSetting.data.toList.drop 22 = dktX4_readsSetting_1 := dk_seg dksX4_readsSetting_0 22 rfl rfl
theorem dX4_readsSetting_0 : decode cX4_readsSetting 0 = .ok (.aload_n 0, 1) := dk_42 (dk_at dksX4_readsSetting_0 0 rfl rfl)
theorem dX4_readsSetting_1 : decode cX4_readsSetting 1 = .ok (.iload_n 1, 1) := dk_27 (dk_at dksX4_readsSetting_0 1 rfl rfl)
theorem dX4_readsSetting_2 : decode cX4_readsSetting 2 = .ok (.invokevirtual 290, 3) := dk_182 1 34 (dk_at dksX4_readsSetting_0 2 rfl rfl)
theorem dX4_readsSetting_5 : decode cX4_readsSetting 5 = .ok (.aload_n 0, 1) := dk_42 (dk_at dksX4_readsSetting_0 5 rfl rfl)
theorem dX4_readsSetting_6 : decode cX4_readsSetting 6 = .ok (.invokevirtual 257, 3) := dk_182 1 1 (dk_at dksX4_readsSetting_0 6 rfl rfl)
theorem dX4_readsSetting_9 : decode cX4_readsSetting 9 = .ok (.aload_n 0, 1) := dk_42 (dk_at dksX4_readsSetting_0 9 rfl rfl)
theorem dX4_readsSetting_10 : decode cX4_readsSetting 10 = .ok (.getfield 13, 3) := dk_180 0 13 (dk_at dksX4_readsSetting_0 10 rfl rfl)
theorem dX4_readsSetting_13 : decode cX4_readsSetting 13 = .ok (.iconst 1, 1) := dk_4 (dk_at dksX4_readsSetting_0 13 rfl rfl)
theorem dX4_readsSetting_14 : decode cX4_readsSetting 14 = .ok (.iload_n 1, 1) := dk_27 (dk_at dksX4_readsSetting_0 14 rfl rfl)
theorem dX4_readsSetting_15 : decode cX4_readsSetting 15 = .ok (.iadd, 1) := dk_96 (dk_at dksX4_readsSetting_0 15 rfl rfl)
theorem dX4_readsSetting_16 : decode cX4_readsSetting 16 = .ok (.aload_n 0, 1) := dk_42 (dk_at dksX4_readsSetting_0 16 rfl rfl)
theorem dX4_readsSetting_17 : decode cX4_readsSetting 17 = .ok (.iload_n 1, 1) := dk_27 (dk_at dksX4_readsSetting_0 17 rfl rfl)
theorem dX4_readsSetting_18 : decode cX4_readsSetting 18 = .ok (.invokestatic 293, 3) := dk_184 1 37 (dk_at dksX4_readsSetting_0 18 rfl rfl)
theorem dX4_readsSetting_21 : decode cX4_readsSetting 21 = .ok (.iload_n 1, 1) := dk_27 (dk_at dksX4_readsSetting_0 21 rfl rfl)
theorem dX4_readsSetting_22 : decode cX4_readsSetting 22 = .ok (.invokestatic 296, 3) := dk_184 1 40 (dk_at dksX4_readsSetting_1 0 rfl rfl)
theorem dX4_readsSetting_25 : decode cX4_readsSetting 25 = .ok (.invokevirtual 299, 3) := dk_182 1 43 (dk_at dksX4_readsSetting_1 3 rfl rfl)
theorem dX4_readsSetting_28 : decode cX4_readsSetting 28 = .ok (.iastore, 1) := dk_79 (dk_at dksX4_readsSetting_1 6 rfl rfl)
theorem dX4_readsSetting_29 : decode cX4_readsSetting 29 = .ok (.return_, 1) := dk_177 (dk_at dksX4_readsSetting_1 7 rfl rfl)
abbrev cX4_leastOf : ByteArray := prog_14_method_69_code
def yX4_leastOf : MethodName := ⟨RX4, "leastOf", "(I)I"⟩
def dkwX4_leastOf_0 : List UInt8 := [26, 5, 160, 0, 7, 5, 167, 0, 13, 26, 6, 160, 0, 7, 7, 167, 0, 4, 4, 172]
abbrev dktX4_leastOf_0 : List UInt8 := dkwX4_leastOf_0 ++ []
theorem dksX4_leastOf_0 : cX4_leastOf.data.toList.drop 0 = dktX4_leastOf_0 := by decide +kernel
theorem dX4_leastOf_0 : decode cX4_leastOf 0 = .ok (.iload_n 0, 1) := dk_26 (dk_at dksX4_leastOf_0 0 rfl rfl)
theorem dX4_leastOf_1 : decode cX4_leastOf 1 = .ok (.iconst 2, 1) := dk_5 (dk_at dksX4_leastOf_0 1 rfl rfl)
theorem dX4_leastOf_2 : decode cX4_leastOf 2 = .ok (.if_icmp .ne 7, 3) := dk_160 0 7 (dk_at dksX4_leastOf_0 2 rfl rfl)
theorem dX4_leastOf_5 : decode cX4_leastOf 5 = .ok (.iconst 2, 1) := dk_5 (dk_at dksX4_leastOf_0 5 rfl rfl)
theorem dX4_leastOf_6 : decode cX4_leastOf 6 = .ok (.goto 13, 3) := dk_167 0 13 (dk_at dksX4_leastOf_0 6 rfl rfl)
theorem dX4_leastOf_9 : decode cX4_leastOf 9 = .ok (.iload_n 0, 1) := dk_26 (dk_at dksX4_leastOf_0 9 rfl rfl)
theorem dX4_leastOf_10 : decode cX4_leastOf 10 = .ok (.iconst 3, 1) := dk_6 (dk_at dksX4_leastOf_0 10 rfl rfl)
theorem dX4_leastOf_11 : decode cX4_leastOf 11 = .ok (.if_icmp .ne 7, 3) := dk_160 0 7 (dk_at dksX4_leastOf_0 11 rfl rfl)
theorem dX4_leastOf_14 : decode cX4_leastOf 14 = .ok (.iconst 4, 1) := dk_7 (dk_at dksX4_leastOf_0 14 rfl rfl)
theorem dX4_leastOf_15 : decode cX4_leastOf 15 = .ok (.goto 4, 3) := dk_167 0 4 (dk_at dksX4_leastOf_0 15 rfl rfl)
theorem dX4_leastOf_18 : decode cX4_leastOf 18 = .ok (.iconst 1, 1) := dk_4 (dk_at dksX4_leastOf_0 18 rfl rfl)
theorem dX4_leastOf_19 : decode cX4_leastOf 19 = .ok (.ireturn, 1) := dk_172 (dk_at dksX4_leastOf_0 19 rfl rfl)
abbrev cX4_mostOf : ByteArray := prog_14_method_70_code
def yX4_mostOf : MethodName := ⟨RX4, "mostOf", "(I)I"⟩
def dkwX4_mostOf_2 : List UInt8 := [16, 32, 172, 16, 16, 172, 7, 172, 16, 12, 172, 16, 8, 172]
abbrev dktX4_mostOf_2 : List UInt8 := dkwX4_mostOf_2 ++ []
def dkwX4_mostOf_1 : List UInt8 := [170, 0, 0, 0, 0, 0, 42, 0, 0, 0, 0, 0, 0, 0, 3, 0, 0, 0, 31, 0, 0, 0, 34, 0, 0, 0, 37, 0, 0, 0, 39]
abbrev dktX4_mostOf_1 : List UInt8 := dkwX4_mostOf_1 ++ dktX4_mostOf_2
def dkwX4_mostOf_0 : List UInt8 := [26]
abbrev dktX4_mostOf_0 : List UInt8 := dkwX4_mostOf_0 ++ dktX4_mostOf_1
theorem dksX4_mostOf_0 : cX4_mostOf.data.toList.drop 0 = dktX4_mostOf_0 := by decide +kernel
theorem dksX4_mostOf_1 : cX4_mostOf.data.toList.drop 1 = dktX4_mostOf_1 := dk_seg dksX4_mostOf_0 1 rfl rfl
theorem dksX4_mostOf_2 : cX4_mostOf.data.toList.drop 32 = dktX4_mostOf_2 := dk_seg dksX4_mostOf_1 31 rfl rfl
theorem dX4_mostOf_0 : decode cX4_mostOf 0 = .ok (.iload_n 0, 1) := dk_26 (dk_at dksX4_mostOf_0 0 rfl rfl)
theorem dX4_mostOf_1 : decode cX4_mostOf 1 = .ok (.tableswitch 42 0 3 #[31, 34, 37, 39], 31) := by decide +kernel
theorem dX4_mostOf_32 : decode cX4_mostOf 32 = .ok (.bipush 32, 2) := dk_16 32 (dk_at dksX4_mostOf_2 0 rfl rfl)
theorem dX4_mostOf_34 : decode cX4_mostOf 34 = .ok (.ireturn, 1) := dk_172 (dk_at dksX4_mostOf_2 2 rfl rfl)
theorem dX4_mostOf_35 : decode cX4_mostOf 35 = .ok (.bipush 16, 2) := dk_16 16 (dk_at dksX4_mostOf_2 3 rfl rfl)
theorem dX4_mostOf_37 : decode cX4_mostOf 37 = .ok (.ireturn, 1) := dk_172 (dk_at dksX4_mostOf_2 5 rfl rfl)
theorem dX4_mostOf_38 : decode cX4_mostOf 38 = .ok (.iconst 4, 1) := dk_7 (dk_at dksX4_mostOf_2 6 rfl rfl)
theorem dX4_mostOf_39 : decode cX4_mostOf 39 = .ok (.ireturn, 1) := dk_172 (dk_at dksX4_mostOf_2 7 rfl rfl)
theorem dX4_mostOf_40 : decode cX4_mostOf 40 = .ok (.bipush 12, 2) := dk_16 12 (dk_at dksX4_mostOf_2 8 rfl rfl)
theorem dX4_mostOf_42 : decode cX4_mostOf 42 = .ok (.ireturn, 1) := dk_172 (dk_at dksX4_mostOf_2 10 rfl rfl)
theorem dX4_mostOf_43 : decode cX4_mostOf 43 = .ok (.bipush 8, 2) := dk_16 8 (dk_at dksX4_mostOf_2 11 rfl rfl)
theorem dX4_mostOf_45 : decode cX4_mostOf 45 = .ok (.ireturn, 1) := dk_172 (dk_at dksX4_mostOf_2 13 rfl rfl)
abbrev cX4_priceHere : ByteArray := prog_14_method_72_code
def yX4_priceHere : MethodName := ⟨RX4, "priceHere", "()I"⟩
def dkwX4_priceHere_2 : List UInt8 := [42, 19, 1, 29, 182, 1, 9, 153, 0, 7, 7, 167, 0, 4, 2, 172]
abbrev dktX4_priceHere_2 : List UInt8 := dkwX4_priceHere_2 ++ []
def dkwX4_priceHere_1 : List UInt8 := [42, 19, 1, 25, 182, 1, 9, 153, 0, 5, 5, 172, 42, 19, 1, 27, 182, 1, 9, 153, 0, 5, 6, 172]
abbrev dktX4_priceHere_1 : List UInt8 := dkwX4_priceHere_1 ++ dktX4_priceHere_2
def dkwX4_priceHere_0 : List UInt8 := [42, 19, 1, 21, 182, 1, 9, 153, 0, 5, 3, 172, 42, 19, 1, 23, 182, 1, 9, 153, 0, 5, 4, 172]
abbrev dktX4_priceHere_0 : List UInt8 := dkwX4_priceHere_0 ++ dktX4_priceHere_1
theorem dksX4_priceHere_0 : cX4_priceHere.data.toList.drop 0 = dktX4_priceHere_0 := by decide +kernel
theorem dksX4_priceHere_1 : cX4_priceHere.data.toList.drop 24 = dktX4_priceHere_1 := dk_seg dksX4_priceHere_0 24 rfl rfl
theorem dksX4_priceHere_2 : cX4_priceHere.data.toList.drop 48 = dktX4_priceHere_2 := dk_seg dksX4_priceHere_1 24 rfl rfl
theorem dX4_priceHere_0 : decode cX4_priceHere 0 = .ok (.aload_n 0, 1) := dk_42 (dk_at dksX4_priceHere_0 0 rfl rfl)
theorem dX4_priceHere_1 : decode cX4_priceHere 1 = .ok (.ldc_w 277, 3) := dk_19 1 21 (dk_at dksX4_priceHere_0 1 rfl rfl)
theorem dX4_priceHere_4 : decode cX4_priceHere 4 = .ok (.invokevirtual 265, 3) := dk_182 1 9 (dk_at dksX4_priceHere_0 4 rfl rfl)
theorem dX4_priceHere_7 : decode cX4_priceHere 7 = .ok (.ifCond .eq 5, 3) := dk_153 0 5 (dk_at dksX4_priceHere_0 7 rfl rfl)
theorem dX4_priceHere_10 : decode cX4_priceHere 10 = .ok (.iconst 0, 1) := dk_3 (dk_at dksX4_priceHere_0 10 rfl rfl)
theorem dX4_priceHere_11 : decode cX4_priceHere 11 = .ok (.ireturn, 1) := dk_172 (dk_at dksX4_priceHere_0 11 rfl rfl)
theorem dX4_priceHere_12 : decode cX4_priceHere 12 = .ok (.aload_n 0, 1) := dk_42 (dk_at dksX4_priceHere_0 12 rfl rfl)
theorem dX4_priceHere_13 : decode cX4_priceHere 13 = .ok (.ldc_w 279, 3) := dk_19 1 23 (dk_at dksX4_priceHere_0 13 rfl rfl)
theorem dX4_priceHere_16 : decode cX4_priceHere 16 = .ok (.invokevirtual 265, 3) := dk_182 1 9 (dk_at dksX4_priceHere_0 16 rfl rfl)
theorem dX4_priceHere_19 : decode cX4_priceHere 19 = .ok (.ifCond .eq 5, 3) := dk_153 0 5 (dk_at dksX4_priceHere_0 19 rfl rfl)
theorem dX4_priceHere_22 : decode cX4_priceHere 22 = .ok (.iconst 1, 1) := dk_4 (dk_at dksX4_priceHere_0 22 rfl rfl)
theorem dX4_priceHere_23 : decode cX4_priceHere 23 = .ok (.ireturn, 1) := dk_172 (dk_at dksX4_priceHere_0 23 rfl rfl)
theorem dX4_priceHere_24 : decode cX4_priceHere 24 = .ok (.aload_n 0, 1) := dk_42 (dk_at dksX4_priceHere_1 0 rfl rfl)
theorem dX4_priceHere_25 : decode cX4_priceHere 25 = .ok (.ldc_w 281, 3) := dk_19 1 25 (dk_at dksX4_priceHere_1 1 rfl rfl)
theorem dX4_priceHere_28 : decode cX4_priceHere 28 = .ok (.invokevirtual 265, 3) := dk_182 1 9 (dk_at dksX4_priceHere_1 4 rfl rfl)
theorem dX4_priceHere_31 : decode cX4_priceHere 31 = .ok (.ifCond .eq 5, 3) := dk_153 0 5 (dk_at dksX4_priceHere_1 7 rfl rfl)
theorem dX4_priceHere_34 : decode cX4_priceHere 34 = .ok (.iconst 2, 1) := dk_5 (dk_at dksX4_priceHere_1 10 rfl rfl)
theorem dX4_priceHere_35 : decode cX4_priceHere 35 = .ok (.ireturn, 1) := dk_172 (dk_at dksX4_priceHere_1 11 rfl rfl)
theorem dX4_priceHere_36 : decode cX4_priceHere 36 = .ok (.aload_n 0, 1) := dk_42 (dk_at dksX4_priceHere_1 12 rfl rfl)
theorem dX4_priceHere_37 : decode cX4_priceHere 37 = .ok (.ldc_w 283, 3) := dk_19 1 27 (dk_at dksX4_priceHere_1 13 rfl rfl)
theorem dX4_priceHere_40 : decode cX4_priceHere 40 = .ok (.invokevirtual 265, 3) := dk_182 1 9 (dk_at dksX4_priceHere_1 16 rfl rfl)
theorem dX4_priceHere_43 : decode cX4_priceHere 43 = .ok (.ifCond .eq 5, 3) := dk_153 0 5 (dk_at dksX4_priceHere_1 19 rfl rfl)
theorem dX4_priceHere_46 : decode cX4_priceHere 46 = .ok (.iconst 3, 1) := dk_6 (dk_at dksX4_priceHere_1 22 rfl rfl)
theorem dX4_priceHere_47 : decode cX4_priceHere 47 = .ok (.ireturn, 1) := dk_172 (dk_at dksX4_priceHere_1 23 rfl rfl)
theorem dX4_priceHere_48 : decode cX4_priceHere 48 = .ok (.aload_n 0, 1) := dk_42 (dk_at dksX4_priceHere_2 0 rfl rfl)
theorem dX4_priceHere_49 : decode cX4_priceHere 49 = .ok (.ldc_w 285, 3) := dk_19 1 29 (dk_at dksX4_priceHere_2 1 rfl rfl)
theorem dX4_priceHere_52 : decode cX4_priceHere 52 = .ok (.invokevirtual 265, 3) := dk_182 1 9 (dk_at dksX4_priceHere_2 4 rfl rfl)
theorem dX4_priceHere_55 : decode cX4_priceHere 55 = .ok (.ifCond .eq 7, 3) := dk_153 0 7 (dk_at dksX4_priceHere_2 7 rfl rfl)
theorem dX4_priceHere_58 : decode cX4_priceHere 58 = .ok (.iconst 4, 1) := dk_7 (dk_at dksX4_priceHere_2 10 rfl rfl)
theorem dX4_priceHere_59 : decode cX4_priceHere 59 = .ok (.goto 4, 3) := dk_167 0 4 (dk_at dksX4_priceHere_2 11 rfl rfl)
theorem dX4_priceHere_62 : decode cX4_priceHere 62 = .ok (.iconst (-1), 1) := dk_2 (dk_at dksX4_priceHere_2 14 rfl rfl)
theorem dX4_priceHere_63 : decode cX4_priceHere 63 = .ok (.ireturn, 1) := dk_172 (dk_at dksX4_priceHere_2 15 rfl rfl)
abbrev cX4_readsPrice : ByteArray := prog_14_method_77_code
def yX4_readsPrice : MethodName := ⟨RX4, "readsPrice", "(I)V"⟩
def dkwX4_readsPrice_1 : List UInt8 := [182, 1, 43, 79, 177]
abbrev dktX4_readsPrice_1 : List UInt8 := dkwX4_readsPrice_1 ++ []
def dkwX4_readsPrice_0 : List UInt8 := [42, 8, 27, 96, 182, 1, 34, 42, 182, 1, 1, 42, 180, 0, 13, 16, 6, 27, 96, 42, 3, 16, 40]
abbrev dktX4_readsPrice_0 : List UInt8 := dkwX4_readsPrice_0 ++ dktX4_readsPrice_1
theorem dksX4_readsPrice_0 : cX4_readsPrice.data.toList.drop 0 = dktX4_readsPrice_0 := by decide +kernel
theorem dksX4_readsPrice_1 : cX4_readsPrice.data.toList.drop 23 = dktX4_readsPrice_1 := dk_seg dksX4_readsPrice_0 23 rfl rfl
theorem dX4_readsPrice_0 : decode cX4_readsPrice 0 = .ok (.aload_n 0, 1) := dk_42 (dk_at dksX4_readsPrice_0 0 rfl rfl)
theorem dX4_readsPrice_1 : decode cX4_readsPrice 1 = .ok (.iconst 5, 1) := dk_8 (dk_at dksX4_readsPrice_0 1 rfl rfl)
theorem dX4_readsPrice_2 : decode cX4_readsPrice 2 = .ok (.iload_n 1, 1) := dk_27 (dk_at dksX4_readsPrice_0 2 rfl rfl)
theorem dX4_readsPrice_3 : decode cX4_readsPrice 3 = .ok (.iadd, 1) := dk_96 (dk_at dksX4_readsPrice_0 3 rfl rfl)
theorem dX4_readsPrice_4 : decode cX4_readsPrice 4 = .ok (.invokevirtual 290, 3) := dk_182 1 34 (dk_at dksX4_readsPrice_0 4 rfl rfl)
theorem dX4_readsPrice_7 : decode cX4_readsPrice 7 = .ok (.aload_n 0, 1) := dk_42 (dk_at dksX4_readsPrice_0 7 rfl rfl)
theorem dX4_readsPrice_8 : decode cX4_readsPrice 8 = .ok (.invokevirtual 257, 3) := dk_182 1 1 (dk_at dksX4_readsPrice_0 8 rfl rfl)
theorem dX4_readsPrice_11 : decode cX4_readsPrice 11 = .ok (.aload_n 0, 1) := dk_42 (dk_at dksX4_readsPrice_0 11 rfl rfl)
theorem dX4_readsPrice_12 : decode cX4_readsPrice 12 = .ok (.getfield 13, 3) := dk_180 0 13 (dk_at dksX4_readsPrice_0 12 rfl rfl)
theorem dX4_readsPrice_15 : decode cX4_readsPrice 15 = .ok (.bipush 6, 2) := dk_16 6 (dk_at dksX4_readsPrice_0 15 rfl rfl)
theorem dX4_readsPrice_17 : decode cX4_readsPrice 17 = .ok (.iload_n 1, 1) := dk_27 (dk_at dksX4_readsPrice_0 17 rfl rfl)
theorem dX4_readsPrice_18 : decode cX4_readsPrice 18 = .ok (.iadd, 1) := dk_96 (dk_at dksX4_readsPrice_0 18 rfl rfl)
theorem dX4_readsPrice_19 : decode cX4_readsPrice 19 = .ok (.aload_n 0, 1) := dk_42 (dk_at dksX4_readsPrice_0 19 rfl rfl)
theorem dX4_readsPrice_20 : decode cX4_readsPrice 20 = .ok (.iconst 0, 1) := dk_3 (dk_at dksX4_readsPrice_0 20 rfl rfl)
theorem dX4_readsPrice_21 : decode cX4_readsPrice 21 = .ok (.bipush 40, 2) := dk_16 40 (dk_at dksX4_readsPrice_0 21 rfl rfl)
theorem dX4_readsPrice_23 : decode cX4_readsPrice 23 = .ok (.invokevirtual 299, 3) := dk_182 1 43 (dk_at dksX4_readsPrice_1 0 rfl rfl)
theorem dX4_readsPrice_26 : decode cX4_readsPrice 26 = .ok (.iastore, 1) := dk_79 (dk_at dksX4_readsPrice_1 3 rfl rfl)
theorem dX4_readsPrice_27 : decode cX4_readsPrice 27 = .ok (.return_, 1) := dk_177 (dk_at dksX4_readsPrice_1 4 rfl rfl)
abbrev cX4_endsStatement : ByteArray := prog_14_method_66_code
def yX4_endsStatement : MethodName := ⟨RX4, "endsStatement", "()V"⟩
def dkwX4_endsStatement_0 : List UInt8 := [42, 180, 0, 241, 6, 159, 0, 8, 42, 4, 182, 0, 254, 42, 182, 1, 1, 177]
abbrev dktX4_endsStatement_0 : List UInt8 := dkwX4_endsStatement_0 ++ []
theorem dksX4_endsStatement_0 : cX4_endsStatement.data.toList.drop 0 = dktX4_endsStatement_0 := by decide +kernel
theorem dX4_endsStatement_0 : decode cX4_endsStatement 0 = .ok (.aload_n 0, 1) := dk_42 (dk_at dksX4_endsStatement_0 0 rfl rfl)
theorem dX4_endsStatement_1 : decode cX4_endsStatement 1 = .ok (.getfield 241, 3) := dk_180 0 241 (dk_at dksX4_endsStatement_0 1 rfl rfl)
theorem dX4_endsStatement_4 : decode cX4_endsStatement 4 = .ok (.iconst 3, 1) := dk_6 (dk_at dksX4_endsStatement_0 4 rfl rfl)
theorem dX4_endsStatement_5 : decode cX4_endsStatement 5 = .ok (.if_icmp .eq 8, 3) := dk_159 0 8 (dk_at dksX4_endsStatement_0 5 rfl rfl)
theorem dX4_endsStatement_8 : decode cX4_endsStatement 8 = .ok (.aload_n 0, 1) := dk_42 (dk_at dksX4_endsStatement_0 8 rfl rfl)
theorem dX4_endsStatement_9 : decode cX4_endsStatement 9 = .ok (.iconst 1, 1) := dk_4 (dk_at dksX4_endsStatement_0 9 rfl rfl)
theorem dX4_endsStatement_10 : decode cX4_endsStatement 10 = .ok (.invokevirtual 254, 3) := dk_182 0 254 (dk_at dksX4_endsStatement_0 10 rfl rfl)
theorem dX4_endsStatement_13 : decode cX4_endsStatement 13 = .ok (.aload_n 0, 1) := dk_42 (dk_at dksX4_endsStatement_0 13 rfl rfl)
theorem dX4_endsStatement_14 : decode cX4_endsStatement 14 = .ok (.invokevirtual 257, 3) := dk_182 1 1 (dk_at dksX4_endsStatement_0 14 rfl rfl)
theorem dX4_endsStatement_17 : decode cX4_endsStatement 17 = .ok (.return_, 1) := dk_177 (dk_at dksX4_endsStatement_0 17 rfl rfl)
abbrev cX4_count : ByteArray := prog_14_method_90_code
def yX4_count : MethodName := ⟨RX4, "count", "(I)I"⟩
def dkwX4_count_3 : List UInt8 := [172, 42, 182, 1, 115, 172, 42, 182, 1, 118, 172, 42, 180, 1, 85, 172]
abbrev dktX4_count_3 : List UInt8 := dkwX4_count_3 ++ []
def dkwX4_count_2 : List UInt8 := [42, 182, 0, 86, 172, 42, 182, 1, 46, 172, 42, 182, 1, 106, 172, 42, 182, 1, 109, 172, 42, 182, 1, 112]
abbrev dktX4_count_2 : List UInt8 := dkwX4_count_2 ++ dktX4_count_3
def dkwX4_count_1 : List UInt8 := [170, 0, 0, 0, 0, 0, 78, 0, 0, 0, 0, 0, 0, 0, 6, 0, 0, 0, 43, 0, 0, 0, 48, 0, 0, 0, 53, 0, 0, 0, 58, 0, 0, 0, 63, 0, 0, 0, 68, 0, 0, 0, 73]
abbrev dktX4_count_1 : List UInt8 := dkwX4_count_1 ++ dktX4_count_2
def dkwX4_count_0 : List UInt8 := [42, 27, 3, 16, 7, 184, 0, 121, 182, 1, 102, 154, 0, 5, 3, 172, 27]
abbrev dktX4_count_0 : List UInt8 := dkwX4_count_0 ++ dktX4_count_1
theorem dksX4_count_0 : cX4_count.data.toList.drop 0 = dktX4_count_0 := by decide +kernel
theorem dksX4_count_1 : cX4_count.data.toList.drop 17 = dktX4_count_1 := dk_seg dksX4_count_0 17 rfl rfl
theorem dksX4_count_2 : cX4_count.data.toList.drop 60 = dktX4_count_2 := dk_seg dksX4_count_1 43 rfl rfl
theorem dksX4_count_3 : cX4_count.data.toList.drop 84 = dktX4_count_3 := dk_seg dksX4_count_2 24 rfl rfl
theorem dX4_count_0 : decode cX4_count 0 = .ok (.aload_n 0, 1) := dk_42 (dk_at dksX4_count_0 0 rfl rfl)
theorem dX4_count_1 : decode cX4_count 1 = .ok (.iload_n 1, 1) := dk_27 (dk_at dksX4_count_0 1 rfl rfl)
theorem dX4_count_2 : decode cX4_count 2 = .ok (.iconst 0, 1) := dk_3 (dk_at dksX4_count_0 2 rfl rfl)
theorem dX4_count_3 : decode cX4_count 3 = .ok (.bipush 7, 2) := dk_16 7 (dk_at dksX4_count_0 3 rfl rfl)
theorem dX4_count_5 : decode cX4_count 5 = .ok (.invokestatic 121, 3) := dk_184 0 121 (dk_at dksX4_count_0 5 rfl rfl)
theorem dX4_count_8 : decode cX4_count 8 = .ok (.invokevirtual 358, 3) := dk_182 1 102 (dk_at dksX4_count_0 8 rfl rfl)
theorem dX4_count_11 : decode cX4_count 11 = .ok (.ifCond .ne 5, 3) := dk_154 0 5 (dk_at dksX4_count_0 11 rfl rfl)
theorem dX4_count_14 : decode cX4_count 14 = .ok (.iconst 0, 1) := dk_3 (dk_at dksX4_count_0 14 rfl rfl)
theorem dX4_count_15 : decode cX4_count 15 = .ok (.ireturn, 1) := dk_172 (dk_at dksX4_count_0 15 rfl rfl)
theorem dX4_count_16 : decode cX4_count 16 = .ok (.iload_n 1, 1) := dk_27 (dk_at dksX4_count_0 16 rfl rfl)
theorem dX4_count_17 : decode cX4_count 17 = .ok (.tableswitch 78 0 6 #[43, 48, 53, 58, 63, 68, 73], 43) := by decide +kernel
theorem dX4_count_60 : decode cX4_count 60 = .ok (.aload_n 0, 1) := dk_42 (dk_at dksX4_count_2 0 rfl rfl)
theorem dX4_count_61 : decode cX4_count 61 = .ok (.invokevirtual 86, 3) := dk_182 0 86 (dk_at dksX4_count_2 1 rfl rfl)
theorem dX4_count_64 : decode cX4_count 64 = .ok (.ireturn, 1) := dk_172 (dk_at dksX4_count_2 4 rfl rfl)
theorem dX4_count_65 : decode cX4_count 65 = .ok (.aload_n 0, 1) := dk_42 (dk_at dksX4_count_2 5 rfl rfl)
theorem dX4_count_66 : decode cX4_count 66 = .ok (.invokevirtual 302, 3) := dk_182 1 46 (dk_at dksX4_count_2 6 rfl rfl)
theorem dX4_count_69 : decode cX4_count 69 = .ok (.ireturn, 1) := dk_172 (dk_at dksX4_count_2 9 rfl rfl)
theorem dX4_count_70 : decode cX4_count 70 = .ok (.aload_n 0, 1) := dk_42 (dk_at dksX4_count_2 10 rfl rfl)
theorem dX4_count_71 : decode cX4_count 71 = .ok (.invokevirtual 362, 3) := dk_182 1 106 (dk_at dksX4_count_2 11 rfl rfl)
theorem dX4_count_74 : decode cX4_count 74 = .ok (.ireturn, 1) := dk_172 (dk_at dksX4_count_2 14 rfl rfl)
theorem dX4_count_75 : decode cX4_count 75 = .ok (.aload_n 0, 1) := dk_42 (dk_at dksX4_count_2 15 rfl rfl)
theorem dX4_count_76 : decode cX4_count 76 = .ok (.invokevirtual 365, 3) := dk_182 1 109 (dk_at dksX4_count_2 16 rfl rfl)
theorem dX4_count_79 : decode cX4_count 79 = .ok (.ireturn, 1) := dk_172 (dk_at dksX4_count_2 19 rfl rfl)
theorem dX4_count_80 : decode cX4_count 80 = .ok (.aload_n 0, 1) := dk_42 (dk_at dksX4_count_2 20 rfl rfl)
theorem dX4_count_81 : decode cX4_count 81 = .ok (.invokevirtual 368, 3) := dk_182 1 112 (dk_at dksX4_count_2 21 rfl rfl)
theorem dX4_count_84 : decode cX4_count 84 = .ok (.ireturn, 1) := dk_172 (dk_at dksX4_count_3 0 rfl rfl)
theorem dX4_count_85 : decode cX4_count 85 = .ok (.aload_n 0, 1) := dk_42 (dk_at dksX4_count_3 1 rfl rfl)
theorem dX4_count_86 : decode cX4_count 86 = .ok (.invokevirtual 371, 3) := dk_182 1 115 (dk_at dksX4_count_3 2 rfl rfl)
theorem dX4_count_89 : decode cX4_count 89 = .ok (.ireturn, 1) := dk_172 (dk_at dksX4_count_3 5 rfl rfl)
theorem dX4_count_90 : decode cX4_count 90 = .ok (.aload_n 0, 1) := dk_42 (dk_at dksX4_count_3 6 rfl rfl)
theorem dX4_count_91 : decode cX4_count 91 = .ok (.invokevirtual 374, 3) := dk_182 1 118 (dk_at dksX4_count_3 7 rfl rfl)
theorem dX4_count_94 : decode cX4_count 94 = .ok (.ireturn, 1) := dk_172 (dk_at dksX4_count_3 10 rfl rfl)
theorem dX4_count_95 : decode cX4_count 95 = .ok (.aload_n 0, 1) := dk_42 (dk_at dksX4_count_3 11 rfl rfl)
theorem dX4_count_96 : decode cX4_count 96 = .ok (.getfield 341, 3) := dk_180 1 85 (dk_at dksX4_count_3 12 rfl rfl)
theorem dX4_count_99 : decode cX4_count 99 = .ok (.ireturn, 1) := dk_172 (dk_at dksX4_count_3 15 rfl rfl)
abbrev cX4_mayOne : ByteArray := prog_14_method_83_code
def yX4_mayOne : MethodName := ⟨RX4, "mayOne", "(Z)Z"⟩
def dkwX4_mayOne_0 : List UInt8 := [42, 27, 4, 182, 1, 92, 172]
abbrev dktX4_mayOne_0 : List UInt8 := dkwX4_mayOne_0 ++ []
theorem dksX4_mayOne_0 : cX4_mayOne.data.toList.drop 0 = dktX4_mayOne_0 := by decide +kernel
theorem dX4_mayOne_0 : decode cX4_mayOne 0 = .ok (.aload_n 0, 1) := dk_42 (dk_at dksX4_mayOne_0 0 rfl rfl)
theorem dX4_mayOne_1 : decode cX4_mayOne 1 = .ok (.iload_n 1, 1) := dk_27 (dk_at dksX4_mayOne_0 1 rfl rfl)
theorem dX4_mayOne_2 : decode cX4_mayOne 2 = .ok (.iconst 1, 1) := dk_4 (dk_at dksX4_mayOne_0 2 rfl rfl)
theorem dX4_mayOne_3 : decode cX4_mayOne 3 = .ok (.invokevirtual 348, 3) := dk_182 1 92 (dk_at dksX4_mayOne_0 3 rfl rfl)
theorem dX4_mayOne_6 : decode cX4_mayOne 6 = .ok (.ireturn, 1) := dk_172 (dk_at dksX4_mayOne_0 6 rfl rfl)
abbrev cX4_mayTwo : ByteArray := prog_14_method_82_code
def yX4_mayTwo : MethodName := ⟨RX4, "mayTwo", "(ZZ)Z"⟩
def dkwX4_mayTwo_1 : List UInt8 := [180, 0, 1, 154, 0, 7, 4, 167, 0, 4, 3, 172]
abbrev dktX4_mayTwo_1 : List UInt8 := dkwX4_mayTwo_1 ++ []
def dkwX4_mayTwo_0 : List UInt8 := [42, 27, 154, 0, 7, 4, 167, 0, 12, 28, 153, 0, 7, 3, 167, 0, 4, 5, 181, 0, 1, 42]
abbrev dktX4_mayTwo_0 : List UInt8 := dkwX4_mayTwo_0 ++ dktX4_mayTwo_1
theorem dksX4_mayTwo_0 : cX4_mayTwo.data.toList.drop 0 = dktX4_mayTwo_0 := by decide +kernel
theorem dksX4_mayTwo_1 : cX4_mayTwo.data.toList.drop 22 = dktX4_mayTwo_1 := dk_seg dksX4_mayTwo_0 22 rfl rfl
theorem dX4_mayTwo_0 : decode cX4_mayTwo 0 = .ok (.aload_n 0, 1) := dk_42 (dk_at dksX4_mayTwo_0 0 rfl rfl)
theorem dX4_mayTwo_1 : decode cX4_mayTwo 1 = .ok (.iload_n 1, 1) := dk_27 (dk_at dksX4_mayTwo_0 1 rfl rfl)
theorem dX4_mayTwo_2 : decode cX4_mayTwo 2 = .ok (.ifCond .ne 7, 3) := dk_154 0 7 (dk_at dksX4_mayTwo_0 2 rfl rfl)
theorem dX4_mayTwo_5 : decode cX4_mayTwo 5 = .ok (.iconst 1, 1) := dk_4 (dk_at dksX4_mayTwo_0 5 rfl rfl)
theorem dX4_mayTwo_6 : decode cX4_mayTwo 6 = .ok (.goto 12, 3) := dk_167 0 12 (dk_at dksX4_mayTwo_0 6 rfl rfl)
theorem dX4_mayTwo_9 : decode cX4_mayTwo 9 = .ok (.iload_n 2, 1) := dk_28 (dk_at dksX4_mayTwo_0 9 rfl rfl)
theorem dX4_mayTwo_10 : decode cX4_mayTwo 10 = .ok (.ifCond .eq 7, 3) := dk_153 0 7 (dk_at dksX4_mayTwo_0 10 rfl rfl)
theorem dX4_mayTwo_13 : decode cX4_mayTwo 13 = .ok (.iconst 0, 1) := dk_3 (dk_at dksX4_mayTwo_0 13 rfl rfl)
theorem dX4_mayTwo_14 : decode cX4_mayTwo 14 = .ok (.goto 4, 3) := dk_167 0 4 (dk_at dksX4_mayTwo_0 14 rfl rfl)
theorem dX4_mayTwo_17 : decode cX4_mayTwo 17 = .ok (.iconst 2, 1) := dk_5 (dk_at dksX4_mayTwo_0 17 rfl rfl)
theorem dX4_mayTwo_18 : decode cX4_mayTwo 18 = .ok (.putfield 1, 3) := dk_181 0 1 (dk_at dksX4_mayTwo_0 18 rfl rfl)
theorem dX4_mayTwo_21 : decode cX4_mayTwo 21 = .ok (.aload_n 0, 1) := dk_42 (dk_at dksX4_mayTwo_0 21 rfl rfl)
theorem dX4_mayTwo_22 : decode cX4_mayTwo 22 = .ok (.getfield 1, 3) := dk_180 0 1 (dk_at dksX4_mayTwo_1 0 rfl rfl)
theorem dX4_mayTwo_25 : decode cX4_mayTwo 25 = .ok (.ifCond .ne 7, 3) := dk_154 0 7 (dk_at dksX4_mayTwo_1 3 rfl rfl)
theorem dX4_mayTwo_28 : decode cX4_mayTwo 28 = .ok (.iconst 1, 1) := dk_4 (dk_at dksX4_mayTwo_1 6 rfl rfl)
theorem dX4_mayTwo_29 : decode cX4_mayTwo 29 = .ok (.goto 4, 3) := dk_167 0 4 (dk_at dksX4_mayTwo_1 7 rfl rfl)
theorem dX4_mayTwo_32 : decode cX4_mayTwo 32 = .ok (.iconst 0, 1) := dk_3 (dk_at dksX4_mayTwo_1 10 rfl rfl)
theorem dX4_mayTwo_33 : decode cX4_mayTwo 33 = .ok (.ireturn, 1) := dk_172 (dk_at dksX4_mayTwo_1 11 rfl rfl)
abbrev cX4_withCandidates : ByteArray := prog_14_method_85_code
def yX4_withCandidates : MethodName := ⟨RX4, "withCandidates", "()I"⟩
def dkwX4_withCandidates_1 : List UInt8 := [167, 0, 4, 3, 184, 0, 107, 96, 60, 132, 2, 1, 167, 255, 226, 27, 172]
abbrev dktX4_withCandidates_1 : List UInt8 := dkwX4_withCandidates_1 ++ []
def dkwX4_withCandidates_0 : List UInt8 := [3, 60, 3, 61, 28, 42, 182, 0, 86, 162, 0, 28, 27, 42, 28, 182, 1, 96, 158, 0, 7, 4]
abbrev dktX4_withCandidates_0 : List UInt8 := dkwX4_withCandidates_0 ++ dktX4_withCandidates_1
theorem dksX4_withCandidates_0 : cX4_withCandidates.data.toList.drop 0 = dktX4_withCandidates_0 := by decide +kernel
theorem dksX4_withCandidates_1 : cX4_withCandidates.data.toList.drop 22 = dktX4_withCandidates_1 := dk_seg dksX4_withCandidates_0 22 rfl rfl
theorem dX4_withCandidates_0 : decode cX4_withCandidates 0 = .ok (.iconst 0, 1) := dk_3 (dk_at dksX4_withCandidates_0 0 rfl rfl)
theorem dX4_withCandidates_1 : decode cX4_withCandidates 1 = .ok (.istore_n 1, 1) := dk_60 (dk_at dksX4_withCandidates_0 1 rfl rfl)
theorem dX4_withCandidates_2 : decode cX4_withCandidates 2 = .ok (.iconst 0, 1) := dk_3 (dk_at dksX4_withCandidates_0 2 rfl rfl)
theorem dX4_withCandidates_3 : decode cX4_withCandidates 3 = .ok (.istore_n 2, 1) := dk_61 (dk_at dksX4_withCandidates_0 3 rfl rfl)
theorem dX4_withCandidates_4 : decode cX4_withCandidates 4 = .ok (.iload_n 2, 1) := dk_28 (dk_at dksX4_withCandidates_0 4 rfl rfl)
theorem dX4_withCandidates_5 : decode cX4_withCandidates 5 = .ok (.aload_n 0, 1) := dk_42 (dk_at dksX4_withCandidates_0 5 rfl rfl)
theorem dX4_withCandidates_6 : decode cX4_withCandidates 6 = .ok (.invokevirtual 86, 3) := dk_182 0 86 (dk_at dksX4_withCandidates_0 6 rfl rfl)
theorem dX4_withCandidates_9 : decode cX4_withCandidates 9 = .ok (.if_icmp .ge 28, 3) := dk_162 0 28 (dk_at dksX4_withCandidates_0 9 rfl rfl)
theorem dX4_withCandidates_12 : decode cX4_withCandidates 12 = .ok (.iload_n 1, 1) := dk_27 (dk_at dksX4_withCandidates_0 12 rfl rfl)
theorem dX4_withCandidates_13 : decode cX4_withCandidates 13 = .ok (.aload_n 0, 1) := dk_42 (dk_at dksX4_withCandidates_0 13 rfl rfl)
theorem dX4_withCandidates_14 : decode cX4_withCandidates 14 = .ok (.iload_n 2, 1) := dk_28 (dk_at dksX4_withCandidates_0 14 rfl rfl)
theorem dX4_withCandidates_15 : decode cX4_withCandidates 15 = .ok (.invokevirtual 352, 3) := dk_182 1 96 (dk_at dksX4_withCandidates_0 15 rfl rfl)
theorem dX4_withCandidates_18 : decode cX4_withCandidates 18 = .ok (.ifCond .le 7, 3) := dk_158 0 7 (dk_at dksX4_withCandidates_0 18 rfl rfl)
theorem dX4_withCandidates_21 : decode cX4_withCandidates 21 = .ok (.iconst 1, 1) := dk_4 (dk_at dksX4_withCandidates_0 21 rfl rfl)
theorem dX4_withCandidates_22 : decode cX4_withCandidates 22 = .ok (.goto 4, 3) := dk_167 0 4 (dk_at dksX4_withCandidates_1 0 rfl rfl)
theorem dX4_withCandidates_25 : decode cX4_withCandidates 25 = .ok (.iconst 0, 1) := dk_3 (dk_at dksX4_withCandidates_1 3 rfl rfl)
theorem dX4_withCandidates_26 : decode cX4_withCandidates 26 = .ok (.invokestatic 107, 3) := dk_184 0 107 (dk_at dksX4_withCandidates_1 4 rfl rfl)
theorem dX4_withCandidates_29 : decode cX4_withCandidates 29 = .ok (.iadd, 1) := dk_96 (dk_at dksX4_withCandidates_1 7 rfl rfl)
theorem dX4_withCandidates_30 : decode cX4_withCandidates 30 = .ok (.istore_n 1, 1) := dk_60 (dk_at dksX4_withCandidates_1 8 rfl rfl)
theorem dX4_withCandidates_31 : decode cX4_withCandidates 31 = .ok (.iinc 2 1, 3) := dk_132 2 1 (dk_at dksX4_withCandidates_1 9 rfl rfl)
theorem dX4_withCandidates_34 : decode cX4_withCandidates 34 = .ok (.goto (-30), 3) := dk_167 255 226 (dk_at dksX4_withCandidates_1 12 rfl rfl)
theorem dX4_withCandidates_37 : decode cX4_withCandidates 37 = .ok (.iload_n 1, 1) := dk_27 (dk_at dksX4_withCandidates_1 15 rfl rfl)
theorem dX4_withCandidates_38 : decode cX4_withCandidates 38 = .ok (.ireturn, 1) := dk_172 (dk_at dksX4_withCandidates_1 16 rfl rfl)
abbrev cX4_candidateMany : ByteArray := prog_14_method_20_code
def yX4_candidateMany : MethodName := ⟨RX4, "candidateMany", "(I)I"⟩
def dkwX4_candidateMany_0 : List UInt8 := [42, 4, 182, 0, 93, 42, 27, 182, 0, 111, 184, 0, 114, 172]
abbrev dktX4_candidateMany_0 : List UInt8 := dkwX4_candidateMany_0 ++ []
theorem dksX4_candidateMany_0 : cX4_candidateMany.data.toList.drop 0 = dktX4_candidateMany_0 := by decide +kernel
theorem dX4_candidateMany_0 : decode cX4_candidateMany 0 = .ok (.aload_n 0, 1) := dk_42 (dk_at dksX4_candidateMany_0 0 rfl rfl)
theorem dX4_candidateMany_1 : decode cX4_candidateMany 1 = .ok (.iconst 1, 1) := dk_4 (dk_at dksX4_candidateMany_0 1 rfl rfl)
theorem dX4_candidateMany_2 : decode cX4_candidateMany 2 = .ok (.invokevirtual 93, 3) := dk_182 0 93 (dk_at dksX4_candidateMany_0 2 rfl rfl)
theorem dX4_candidateMany_5 : decode cX4_candidateMany 5 = .ok (.aload_n 0, 1) := dk_42 (dk_at dksX4_candidateMany_0 5 rfl rfl)
theorem dX4_candidateMany_6 : decode cX4_candidateMany 6 = .ok (.iload_n 1, 1) := dk_27 (dk_at dksX4_candidateMany_0 6 rfl rfl)
theorem dX4_candidateMany_7 : decode cX4_candidateMany 7 = .ok (.invokevirtual 111, 3) := dk_182 0 111 (dk_at dksX4_candidateMany_0 7 rfl rfl)
theorem dX4_candidateMany_10 : decode cX4_candidateMany 10 = .ok (.invokestatic 114, 3) := dk_184 0 114 (dk_at dksX4_candidateMany_0 10 rfl rfl)
theorem dX4_candidateMany_13 : decode cX4_candidateMany 13 = .ok (.ireturn, 1) := dk_172 (dk_at dksX4_candidateMany_0 13 rfl rfl)
abbrev cX4_set : ByteArray := prog_14_method_15_code
def yX4_set : MethodName := ⟨RX4, "set", "(I)I"⟩
def dkwX4_set_0 : List UInt8 := [42, 180, 0, 13, 4, 27, 96, 46, 172]
abbrev dktX4_set_0 : List UInt8 := dkwX4_set_0 ++ []
theorem dksX4_set_0 : cX4_set.data.toList.drop 0 = dktX4_set_0 := by decide +kernel
theorem dX4_set_0 : decode cX4_set 0 = .ok (.aload_n 0, 1) := dk_42 (dk_at dksX4_set_0 0 rfl rfl)
theorem dX4_set_1 : decode cX4_set 1 = .ok (.getfield 13, 3) := dk_180 0 13 (dk_at dksX4_set_0 1 rfl rfl)
theorem dX4_set_4 : decode cX4_set 4 = .ok (.iconst 1, 1) := dk_4 (dk_at dksX4_set_0 4 rfl rfl)
theorem dX4_set_5 : decode cX4_set 5 = .ok (.iload_n 1, 1) := dk_27 (dk_at dksX4_set_0 5 rfl rfl)
theorem dX4_set_6 : decode cX4_set 6 = .ok (.iadd, 1) := dk_96 (dk_at dksX4_set_0 6 rfl rfl)
theorem dX4_set_7 : decode cX4_set 7 = .ok (.iaload, 1) := dk_46 (dk_at dksX4_set_0 7 rfl rfl)
theorem dX4_set_8 : decode cX4_set 8 = .ok (.ireturn, 1) := dk_172 (dk_at dksX4_set_0 8 rfl rfl)
abbrev cX4_chainMany : ByteArray := prog_14_method_19_code
def yX4_chainMany : MethodName := ⟨RX4, "chainMany", "(I)I"⟩
def dkwX4_chainMany_1 : List UInt8 := [184, 0, 107, 96, 61, 132, 3, 255, 167, 255, 232, 28, 172]
abbrev dktX4_chainMany_1 : List UInt8 := dkwX4_chainMany_1 ++ []
def dkwX4_chainMany_0 : List UInt8 := [3, 61, 27, 4, 100, 62, 29, 42, 27, 182, 0, 100, 161, 0, 21, 28, 42, 27, 29, 182, 0, 103]
abbrev dktX4_chainMany_0 : List UInt8 := dkwX4_chainMany_0 ++ dktX4_chainMany_1
theorem dksX4_chainMany_0 : cX4_chainMany.data.toList.drop 0 = dktX4_chainMany_0 := by decide +kernel
theorem dksX4_chainMany_1 : cX4_chainMany.data.toList.drop 22 = dktX4_chainMany_1 := dk_seg dksX4_chainMany_0 22 rfl rfl
theorem dX4_chainMany_0 : decode cX4_chainMany 0 = .ok (.iconst 0, 1) := dk_3 (dk_at dksX4_chainMany_0 0 rfl rfl)
theorem dX4_chainMany_1 : decode cX4_chainMany 1 = .ok (.istore_n 2, 1) := dk_61 (dk_at dksX4_chainMany_0 1 rfl rfl)
theorem dX4_chainMany_2 : decode cX4_chainMany 2 = .ok (.iload_n 1, 1) := dk_27 (dk_at dksX4_chainMany_0 2 rfl rfl)
theorem dX4_chainMany_3 : decode cX4_chainMany 3 = .ok (.iconst 1, 1) := dk_4 (dk_at dksX4_chainMany_0 3 rfl rfl)
theorem dX4_chainMany_4 : decode cX4_chainMany 4 = .ok (.isub, 1) := dk_100 (dk_at dksX4_chainMany_0 4 rfl rfl)
theorem dX4_chainMany_5 : decode cX4_chainMany 5 = .ok (.istore_n 3, 1) := dk_62 (dk_at dksX4_chainMany_0 5 rfl rfl)
theorem dX4_chainMany_6 : decode cX4_chainMany 6 = .ok (.iload_n 3, 1) := dk_29 (dk_at dksX4_chainMany_0 6 rfl rfl)
theorem dX4_chainMany_7 : decode cX4_chainMany 7 = .ok (.aload_n 0, 1) := dk_42 (dk_at dksX4_chainMany_0 7 rfl rfl)
theorem dX4_chainMany_8 : decode cX4_chainMany 8 = .ok (.iload_n 1, 1) := dk_27 (dk_at dksX4_chainMany_0 8 rfl rfl)
theorem dX4_chainMany_9 : decode cX4_chainMany 9 = .ok (.invokevirtual 100, 3) := dk_182 0 100 (dk_at dksX4_chainMany_0 9 rfl rfl)
theorem dX4_chainMany_12 : decode cX4_chainMany 12 = .ok (.if_icmp .lt 21, 3) := dk_161 0 21 (dk_at dksX4_chainMany_0 12 rfl rfl)
theorem dX4_chainMany_15 : decode cX4_chainMany 15 = .ok (.iload_n 2, 1) := dk_28 (dk_at dksX4_chainMany_0 15 rfl rfl)
theorem dX4_chainMany_16 : decode cX4_chainMany 16 = .ok (.aload_n 0, 1) := dk_42 (dk_at dksX4_chainMany_0 16 rfl rfl)
theorem dX4_chainMany_17 : decode cX4_chainMany 17 = .ok (.iload_n 1, 1) := dk_27 (dk_at dksX4_chainMany_0 17 rfl rfl)
theorem dX4_chainMany_18 : decode cX4_chainMany 18 = .ok (.iload_n 3, 1) := dk_29 (dk_at dksX4_chainMany_0 18 rfl rfl)
theorem dX4_chainMany_19 : decode cX4_chainMany 19 = .ok (.invokevirtual 103, 3) := dk_182 0 103 (dk_at dksX4_chainMany_0 19 rfl rfl)
theorem dX4_chainMany_22 : decode cX4_chainMany 22 = .ok (.invokestatic 107, 3) := dk_184 0 107 (dk_at dksX4_chainMany_1 0 rfl rfl)
theorem dX4_chainMany_25 : decode cX4_chainMany 25 = .ok (.iadd, 1) := dk_96 (dk_at dksX4_chainMany_1 3 rfl rfl)
theorem dX4_chainMany_26 : decode cX4_chainMany 26 = .ok (.istore_n 2, 1) := dk_61 (dk_at dksX4_chainMany_1 4 rfl rfl)
theorem dX4_chainMany_27 : decode cX4_chainMany 27 = .ok (.iinc 3 (-1), 3) := dk_132 3 255 (dk_at dksX4_chainMany_1 5 rfl rfl)
theorem dX4_chainMany_30 : decode cX4_chainMany 30 = .ok (.goto (-24), 3) := dk_167 255 232 (dk_at dksX4_chainMany_1 8 rfl rfl)
theorem dX4_chainMany_33 : decode cX4_chainMany 33 = .ok (.iload_n 2, 1) := dk_28 (dk_at dksX4_chainMany_1 11 rfl rfl)
theorem dX4_chainMany_34 : decode cX4_chainMany 34 = .ok (.ireturn, 1) := dk_172 (dk_at dksX4_chainMany_1 12 rfl rfl)
abbrev cX4_earliest : ByteArray := prog_14_method_18_code
def yX4_earliest : MethodName := ⟨RX4, "earliest", "(I)I"⟩
def dkwX4_earliest_0 : List UInt8 := [3, 27, 42, 3, 182, 0, 93, 100, 184, 0, 96, 172]
abbrev dktX4_earliest_0 : List UInt8 := dkwX4_earliest_0 ++ []
theorem dksX4_earliest_0 : cX4_earliest.data.toList.drop 0 = dktX4_earliest_0 := by decide +kernel
theorem dX4_earliest_0 : decode cX4_earliest 0 = .ok (.iconst 0, 1) := dk_3 (dk_at dksX4_earliest_0 0 rfl rfl)
theorem dX4_earliest_1 : decode cX4_earliest 1 = .ok (.iload_n 1, 1) := dk_27 (dk_at dksX4_earliest_0 1 rfl rfl)
theorem dX4_earliest_2 : decode cX4_earliest 2 = .ok (.aload_n 0, 1) := dk_42 (dk_at dksX4_earliest_0 2 rfl rfl)
theorem dX4_earliest_3 : decode cX4_earliest 3 = .ok (.iconst 0, 1) := dk_3 (dk_at dksX4_earliest_0 3 rfl rfl)
theorem dX4_earliest_4 : decode cX4_earliest 4 = .ok (.invokevirtual 93, 3) := dk_182 0 93 (dk_at dksX4_earliest_0 4 rfl rfl)
theorem dX4_earliest_7 : decode cX4_earliest 7 = .ok (.isub, 1) := dk_100 (dk_at dksX4_earliest_0 7 rfl rfl)
theorem dX4_earliest_8 : decode cX4_earliest 8 = .ok (.invokestatic 96, 3) := dk_184 0 96 (dk_at dksX4_earliest_0 8 rfl rfl)
theorem dX4_earliest_11 : decode cX4_earliest 11 = .ok (.ireturn, 1) := dk_172 (dk_at dksX4_earliest_0 11 rfl rfl)
abbrev cX4_larger : ByteArray := prog_14_method_5_code
def yX4_larger : MethodName := ⟨RX4, "larger", "(II)I"⟩
def dkwX4_larger_0 : List UInt8 := [26, 27, 164, 0, 7, 26, 167, 0, 4, 27, 172]
abbrev dktX4_larger_0 : List UInt8 := dkwX4_larger_0 ++ []
theorem dksX4_larger_0 : cX4_larger.data.toList.drop 0 = dktX4_larger_0 := by decide +kernel
theorem dX4_larger_0 : decode cX4_larger 0 = .ok (.iload_n 0, 1) := dk_26 (dk_at dksX4_larger_0 0 rfl rfl)
theorem dX4_larger_1 : decode cX4_larger 1 = .ok (.iload_n 1, 1) := dk_27 (dk_at dksX4_larger_0 1 rfl rfl)
theorem dX4_larger_2 : decode cX4_larger 2 = .ok (.if_icmp .le 7, 3) := dk_164 0 7 (dk_at dksX4_larger_0 2 rfl rfl)
theorem dX4_larger_5 : decode cX4_larger 5 = .ok (.iload_n 0, 1) := dk_26 (dk_at dksX4_larger_0 5 rfl rfl)
theorem dX4_larger_6 : decode cX4_larger 6 = .ok (.goto 4, 3) := dk_167 0 4 (dk_at dksX4_larger_0 6 rfl rfl)
theorem dX4_larger_9 : decode cX4_larger 9 = .ok (.iload_n 1, 1) := dk_27 (dk_at dksX4_larger_0 9 rfl rfl)
theorem dX4_larger_10 : decode cX4_larger 10 = .ok (.ireturn, 1) := dk_172 (dk_at dksX4_larger_0 10 rfl rfl)
abbrev cX4_isLink : ByteArray := prog_14_method_17_code
def yX4_isLink : MethodName := ⟨RX4, "isLink", "(II)Z"⟩
def dkwX4_isLink_1 : List UInt8 := [28, 4, 96, 182, 0, 89, 42, 27, 4, 96, 182, 0, 89, 160, 0, 7, 4, 167, 0, 4, 3, 172]
abbrev dktX4_isLink_1 : List UInt8 := dkwX4_isLink_1 ++ []
def dkwX4_isLink_0 : List UInt8 := [27, 4, 96, 42, 182, 0, 86, 162, 0, 37, 42, 28, 182, 0, 89, 42, 27, 182, 0, 89, 160, 0, 24, 42]
abbrev dktX4_isLink_0 : List UInt8 := dkwX4_isLink_0 ++ dktX4_isLink_1
theorem dksX4_isLink_0 : cX4_isLink.data.toList.drop 0 = dktX4_isLink_0 := by decide +kernel
theorem dksX4_isLink_1 : cX4_isLink.data.toList.drop 24 = dktX4_isLink_1 := dk_seg dksX4_isLink_0 24 rfl rfl
theorem dX4_isLink_0 : decode cX4_isLink 0 = .ok (.iload_n 1, 1) := dk_27 (dk_at dksX4_isLink_0 0 rfl rfl)
theorem dX4_isLink_1 : decode cX4_isLink 1 = .ok (.iconst 1, 1) := dk_4 (dk_at dksX4_isLink_0 1 rfl rfl)
theorem dX4_isLink_2 : decode cX4_isLink 2 = .ok (.iadd, 1) := dk_96 (dk_at dksX4_isLink_0 2 rfl rfl)
theorem dX4_isLink_3 : decode cX4_isLink 3 = .ok (.aload_n 0, 1) := dk_42 (dk_at dksX4_isLink_0 3 rfl rfl)
theorem dX4_isLink_4 : decode cX4_isLink 4 = .ok (.invokevirtual 86, 3) := dk_182 0 86 (dk_at dksX4_isLink_0 4 rfl rfl)
theorem dX4_isLink_7 : decode cX4_isLink 7 = .ok (.if_icmp .ge 37, 3) := dk_162 0 37 (dk_at dksX4_isLink_0 7 rfl rfl)
theorem dX4_isLink_10 : decode cX4_isLink 10 = .ok (.aload_n 0, 1) := dk_42 (dk_at dksX4_isLink_0 10 rfl rfl)
theorem dX4_isLink_11 : decode cX4_isLink 11 = .ok (.iload_n 2, 1) := dk_28 (dk_at dksX4_isLink_0 11 rfl rfl)
theorem dX4_isLink_12 : decode cX4_isLink 12 = .ok (.invokevirtual 89, 3) := dk_182 0 89 (dk_at dksX4_isLink_0 12 rfl rfl)
theorem dX4_isLink_15 : decode cX4_isLink 15 = .ok (.aload_n 0, 1) := dk_42 (dk_at dksX4_isLink_0 15 rfl rfl)
theorem dX4_isLink_16 : decode cX4_isLink 16 = .ok (.iload_n 1, 1) := dk_27 (dk_at dksX4_isLink_0 16 rfl rfl)
theorem dX4_isLink_17 : decode cX4_isLink 17 = .ok (.invokevirtual 89, 3) := dk_182 0 89 (dk_at dksX4_isLink_0 17 rfl rfl)
theorem dX4_isLink_20 : decode cX4_isLink 20 = .ok (.if_icmp .ne 24, 3) := dk_160 0 24 (dk_at dksX4_isLink_0 20 rfl rfl)
theorem dX4_isLink_23 : decode cX4_isLink 23 = .ok (.aload_n 0, 1) := dk_42 (dk_at dksX4_isLink_0 23 rfl rfl)
theorem dX4_isLink_24 : decode cX4_isLink 24 = .ok (.iload_n 2, 1) := dk_28 (dk_at dksX4_isLink_1 0 rfl rfl)
theorem dX4_isLink_25 : decode cX4_isLink 25 = .ok (.iconst 1, 1) := dk_4 (dk_at dksX4_isLink_1 1 rfl rfl)
theorem dX4_isLink_26 : decode cX4_isLink 26 = .ok (.iadd, 1) := dk_96 (dk_at dksX4_isLink_1 2 rfl rfl)
theorem dX4_isLink_27 : decode cX4_isLink 27 = .ok (.invokevirtual 89, 3) := dk_182 0 89 (dk_at dksX4_isLink_1 3 rfl rfl)
theorem dX4_isLink_30 : decode cX4_isLink 30 = .ok (.aload_n 0, 1) := dk_42 (dk_at dksX4_isLink_1 6 rfl rfl)
theorem dX4_isLink_31 : decode cX4_isLink 31 = .ok (.iload_n 1, 1) := dk_27 (dk_at dksX4_isLink_1 7 rfl rfl)
theorem dX4_isLink_32 : decode cX4_isLink 32 = .ok (.iconst 1, 1) := dk_4 (dk_at dksX4_isLink_1 8 rfl rfl)
theorem dX4_isLink_33 : decode cX4_isLink 33 = .ok (.iadd, 1) := dk_96 (dk_at dksX4_isLink_1 9 rfl rfl)
theorem dX4_isLink_34 : decode cX4_isLink 34 = .ok (.invokevirtual 89, 3) := dk_182 0 89 (dk_at dksX4_isLink_1 10 rfl rfl)
theorem dX4_isLink_37 : decode cX4_isLink 37 = .ok (.if_icmp .ne 7, 3) := dk_160 0 7 (dk_at dksX4_isLink_1 13 rfl rfl)
theorem dX4_isLink_40 : decode cX4_isLink 40 = .ok (.iconst 1, 1) := dk_4 (dk_at dksX4_isLink_1 16 rfl rfl)
theorem dX4_isLink_41 : decode cX4_isLink 41 = .ok (.goto 4, 3) := dk_167 0 4 (dk_at dksX4_isLink_1 17 rfl rfl)
theorem dX4_isLink_44 : decode cX4_isLink 44 = .ok (.iconst 0, 1) := dk_3 (dk_at dksX4_isLink_1 20 rfl rfl)
theorem dX4_isLink_45 : decode cX4_isLink 45 = .ok (.ireturn, 1) := dk_172 (dk_at dksX4_isLink_1 21 rfl rfl)
abbrev cX4_letter : ByteArray := prog_14_method_13_code
def yX4_letter : MethodName := ⟨RX4, "letter", "(I)I"⟩
def dkwX4_letter_0 : List UInt8 := [42, 180, 0, 13, 16, 43, 27, 96, 46, 172]
abbrev dktX4_letter_0 : List UInt8 := dkwX4_letter_0 ++ []
theorem dksX4_letter_0 : cX4_letter.data.toList.drop 0 = dktX4_letter_0 := by decide +kernel
theorem dX4_letter_0 : decode cX4_letter 0 = .ok (.aload_n 0, 1) := dk_42 (dk_at dksX4_letter_0 0 rfl rfl)
theorem dX4_letter_1 : decode cX4_letter 1 = .ok (.getfield 13, 3) := dk_180 0 13 (dk_at dksX4_letter_0 1 rfl rfl)
theorem dX4_letter_4 : decode cX4_letter 4 = .ok (.bipush 43, 2) := dk_16 43 (dk_at dksX4_letter_0 4 rfl rfl)
theorem dX4_letter_6 : decode cX4_letter 6 = .ok (.iload_n 1, 1) := dk_27 (dk_at dksX4_letter_0 6 rfl rfl)
theorem dX4_letter_7 : decode cX4_letter 7 = .ok (.iadd, 1) := dk_96 (dk_at dksX4_letter_0 7 rfl rfl)
theorem dX4_letter_8 : decode cX4_letter 8 = .ok (.iaload, 1) := dk_46 (dk_at dksX4_letter_0 8 rfl rfl)
theorem dX4_letter_9 : decode cX4_letter 9 = .ok (.ireturn, 1) := dk_172 (dk_at dksX4_letter_0 9 rfl rfl)
abbrev cX4_bit : ByteArray := prog_14_method_3_code
def yX4_bit : MethodName := ⟨RX4, "bit", "(Z)I"⟩
def dkwX4_bit_0 : List UInt8 := [26, 153, 0, 7, 4, 167, 0, 4, 3, 172]
abbrev dktX4_bit_0 : List UInt8 := dkwX4_bit_0 ++ []
theorem dksX4_bit_0 : cX4_bit.data.toList.drop 0 = dktX4_bit_0 := by decide +kernel
theorem dX4_bit_0 : decode cX4_bit 0 = .ok (.iload_n 0, 1) := dk_26 (dk_at dksX4_bit_0 0 rfl rfl)
theorem dX4_bit_1 : decode cX4_bit 1 = .ok (.ifCond .eq 7, 3) := dk_153 0 7 (dk_at dksX4_bit_0 1 rfl rfl)
theorem dX4_bit_4 : decode cX4_bit 4 = .ok (.iconst 1, 1) := dk_4 (dk_at dksX4_bit_0 4 rfl rfl)
theorem dX4_bit_5 : decode cX4_bit 5 = .ok (.goto 4, 3) := dk_167 0 4 (dk_at dksX4_bit_0 5 rfl rfl)
theorem dX4_bit_8 : decode cX4_bit 8 = .ok (.iconst 0, 1) := dk_3 (dk_at dksX4_bit_0 8 rfl rfl)
theorem dX4_bit_9 : decode cX4_bit 9 = .ok (.ireturn, 1) := dk_172 (dk_at dksX4_bit_0 9 rfl rfl)
abbrev cX4_lesser : ByteArray := prog_14_method_4_code
def yX4_lesser : MethodName := ⟨RX4, "lesser", "(II)I"⟩
def dkwX4_lesser_0 : List UInt8 := [26, 27, 162, 0, 7, 26, 167, 0, 4, 27, 172]
abbrev dktX4_lesser_0 : List UInt8 := dkwX4_lesser_0 ++ []
theorem dksX4_lesser_0 : cX4_lesser.data.toList.drop 0 = dktX4_lesser_0 := by decide +kernel
theorem dX4_lesser_0 : decode cX4_lesser 0 = .ok (.iload_n 0, 1) := dk_26 (dk_at dksX4_lesser_0 0 rfl rfl)
theorem dX4_lesser_1 : decode cX4_lesser 1 = .ok (.iload_n 1, 1) := dk_27 (dk_at dksX4_lesser_0 1 rfl rfl)
theorem dX4_lesser_2 : decode cX4_lesser 2 = .ok (.if_icmp .ge 7, 3) := dk_162 0 7 (dk_at dksX4_lesser_0 2 rfl rfl)
theorem dX4_lesser_5 : decode cX4_lesser 5 = .ok (.iload_n 0, 1) := dk_26 (dk_at dksX4_lesser_0 5 rfl rfl)
theorem dX4_lesser_6 : decode cX4_lesser 6 = .ok (.goto 4, 3) := dk_167 0 4 (dk_at dksX4_lesser_0 6 rfl rfl)
theorem dX4_lesser_9 : decode cX4_lesser 9 = .ok (.iload_n 1, 1) := dk_27 (dk_at dksX4_lesser_0 9 rfl rfl)
theorem dX4_lesser_10 : decode cX4_lesser 10 = .ok (.ireturn, 1) := dk_172 (dk_at dksX4_lesser_0 10 rfl rfl)
abbrev cX4_withCopies : ByteArray := prog_14_method_86_code
def yX4_withCopies : MethodName := ⟨RX4, "withCopies", "()I"⟩
def dkwX4_withCopies_1 : List UInt8 := [158, 0, 7, 4, 167, 0, 4, 3, 184, 0, 107, 96, 60, 132, 2, 1, 167, 255, 226, 27, 172]
abbrev dktX4_withCopies_1 : List UInt8 := dkwX4_withCopies_1 ++ []
def dkwX4_withCopies_0 : List UInt8 := [42, 182, 0, 165, 3, 60, 3, 61, 28, 42, 182, 0, 86, 162, 0, 28, 27, 42, 28, 182, 0, 140]
abbrev dktX4_withCopies_0 : List UInt8 := dkwX4_withCopies_0 ++ dktX4_withCopies_1
theorem dksX4_withCopies_0 : cX4_withCopies.data.toList.drop 0 = dktX4_withCopies_0 := by decide +kernel
theorem dksX4_withCopies_1 : cX4_withCopies.data.toList.drop 22 = dktX4_withCopies_1 := dk_seg dksX4_withCopies_0 22 rfl rfl
theorem dX4_withCopies_0 : decode cX4_withCopies 0 = .ok (.aload_n 0, 1) := dk_42 (dk_at dksX4_withCopies_0 0 rfl rfl)
theorem dX4_withCopies_1 : decode cX4_withCopies 1 = .ok (.invokevirtual 165, 3) := dk_182 0 165 (dk_at dksX4_withCopies_0 1 rfl rfl)
theorem dX4_withCopies_4 : decode cX4_withCopies 4 = .ok (.iconst 0, 1) := dk_3 (dk_at dksX4_withCopies_0 4 rfl rfl)
theorem dX4_withCopies_5 : decode cX4_withCopies 5 = .ok (.istore_n 1, 1) := dk_60 (dk_at dksX4_withCopies_0 5 rfl rfl)
theorem dX4_withCopies_6 : decode cX4_withCopies 6 = .ok (.iconst 0, 1) := dk_3 (dk_at dksX4_withCopies_0 6 rfl rfl)
theorem dX4_withCopies_7 : decode cX4_withCopies 7 = .ok (.istore_n 2, 1) := dk_61 (dk_at dksX4_withCopies_0 7 rfl rfl)
theorem dX4_withCopies_8 : decode cX4_withCopies 8 = .ok (.iload_n 2, 1) := dk_28 (dk_at dksX4_withCopies_0 8 rfl rfl)
theorem dX4_withCopies_9 : decode cX4_withCopies 9 = .ok (.aload_n 0, 1) := dk_42 (dk_at dksX4_withCopies_0 9 rfl rfl)
theorem dX4_withCopies_10 : decode cX4_withCopies 10 = .ok (.invokevirtual 86, 3) := dk_182 0 86 (dk_at dksX4_withCopies_0 10 rfl rfl)
theorem dX4_withCopies_13 : decode cX4_withCopies 13 = .ok (.if_icmp .ge 28, 3) := dk_162 0 28 (dk_at dksX4_withCopies_0 13 rfl rfl)
theorem dX4_withCopies_16 : decode cX4_withCopies 16 = .ok (.iload_n 1, 1) := dk_27 (dk_at dksX4_withCopies_0 16 rfl rfl)
theorem dX4_withCopies_17 : decode cX4_withCopies 17 = .ok (.aload_n 0, 1) := dk_42 (dk_at dksX4_withCopies_0 17 rfl rfl)
theorem dX4_withCopies_18 : decode cX4_withCopies 18 = .ok (.iload_n 2, 1) := dk_28 (dk_at dksX4_withCopies_0 18 rfl rfl)
theorem dX4_withCopies_19 : decode cX4_withCopies 19 = .ok (.invokevirtual 140, 3) := dk_182 0 140 (dk_at dksX4_withCopies_0 19 rfl rfl)
theorem dX4_withCopies_22 : decode cX4_withCopies 22 = .ok (.ifCond .le 7, 3) := dk_158 0 7 (dk_at dksX4_withCopies_1 0 rfl rfl)
theorem dX4_withCopies_25 : decode cX4_withCopies 25 = .ok (.iconst 1, 1) := dk_4 (dk_at dksX4_withCopies_1 3 rfl rfl)
theorem dX4_withCopies_26 : decode cX4_withCopies 26 = .ok (.goto 4, 3) := dk_167 0 4 (dk_at dksX4_withCopies_1 4 rfl rfl)
theorem dX4_withCopies_29 : decode cX4_withCopies 29 = .ok (.iconst 0, 1) := dk_3 (dk_at dksX4_withCopies_1 7 rfl rfl)
theorem dX4_withCopies_30 : decode cX4_withCopies 30 = .ok (.invokestatic 107, 3) := dk_184 0 107 (dk_at dksX4_withCopies_1 8 rfl rfl)
theorem dX4_withCopies_33 : decode cX4_withCopies 33 = .ok (.iadd, 1) := dk_96 (dk_at dksX4_withCopies_1 11 rfl rfl)
theorem dX4_withCopies_34 : decode cX4_withCopies 34 = .ok (.istore_n 1, 1) := dk_60 (dk_at dksX4_withCopies_1 12 rfl rfl)
theorem dX4_withCopies_35 : decode cX4_withCopies 35 = .ok (.iinc 2 1, 3) := dk_132 2 1 (dk_at dksX4_withCopies_1 13 rfl rfl)
theorem dX4_withCopies_38 : decode cX4_withCopies 38 = .ok (.goto (-30), 3) := dk_167 255 226 (dk_at dksX4_withCopies_1 16 rfl rfl)
theorem dX4_withCopies_41 : decode cX4_withCopies 41 = .ok (.iload_n 1, 1) := dk_27 (dk_at dksX4_withCopies_1 19 rfl rfl)
theorem dX4_withCopies_42 : decode cX4_withCopies 42 = .ok (.ireturn, 1) := dk_172 (dk_at dksX4_withCopies_1 20 rfl rfl)
abbrev cX4_laysCopies : ByteArray := prog_14_method_28_code
def yX4_laysCopies : MethodName := ⟨RX4, "laysCopies", "()V"⟩
def dkwX4_laysCopies_2 : List UInt8 := [132, 2, 1, 167, 255, 217, 132, 1, 1, 167, 255, 201, 177]
abbrev dktX4_laysCopies_2 : List UInt8 := dkwX4_laysCopies_2 ++ []
def dkwX4_laysCopies_1 : List UInt8 := [27, 104, 28, 96, 28, 42, 3, 182, 0, 93, 164, 0, 7, 3, 167, 0, 9, 42, 27, 28, 182, 0, 134, 79]
abbrev dktX4_laysCopies_1 : List UInt8 := dkwX4_laysCopies_1 ++ dktX4_laysCopies_2
def dkwX4_laysCopies_0 : List UInt8 := [3, 60, 27, 42, 182, 0, 86, 162, 0, 53, 4, 61, 28, 16, 33, 162, 0, 39, 42, 180, 0, 29, 16, 33]
abbrev dktX4_laysCopies_0 : List UInt8 := dkwX4_laysCopies_0 ++ dktX4_laysCopies_1
theorem dksX4_laysCopies_0 : cX4_laysCopies.data.toList.drop 0 = dktX4_laysCopies_0 := by decide +kernel
theorem dksX4_laysCopies_1 : cX4_laysCopies.data.toList.drop 24 = dktX4_laysCopies_1 := dk_seg dksX4_laysCopies_0 24 rfl rfl
theorem dksX4_laysCopies_2 : cX4_laysCopies.data.toList.drop 48 = dktX4_laysCopies_2 := dk_seg dksX4_laysCopies_1 24 rfl rfl
theorem dX4_laysCopies_0 : decode cX4_laysCopies 0 = .ok (.iconst 0, 1) := dk_3 (dk_at dksX4_laysCopies_0 0 rfl rfl)
theorem dX4_laysCopies_1 : decode cX4_laysCopies 1 = .ok (.istore_n 1, 1) := dk_60 (dk_at dksX4_laysCopies_0 1 rfl rfl)
theorem dX4_laysCopies_2 : decode cX4_laysCopies 2 = .ok (.iload_n 1, 1) := dk_27 (dk_at dksX4_laysCopies_0 2 rfl rfl)
theorem dX4_laysCopies_3 : decode cX4_laysCopies 3 = .ok (.aload_n 0, 1) := dk_42 (dk_at dksX4_laysCopies_0 3 rfl rfl)
theorem dX4_laysCopies_4 : decode cX4_laysCopies 4 = .ok (.invokevirtual 86, 3) := dk_182 0 86 (dk_at dksX4_laysCopies_0 4 rfl rfl)
theorem dX4_laysCopies_7 : decode cX4_laysCopies 7 = .ok (.if_icmp .ge 53, 3) := dk_162 0 53 (dk_at dksX4_laysCopies_0 7 rfl rfl)
theorem dX4_laysCopies_10 : decode cX4_laysCopies 10 = .ok (.iconst 1, 1) := dk_4 (dk_at dksX4_laysCopies_0 10 rfl rfl)
theorem dX4_laysCopies_11 : decode cX4_laysCopies 11 = .ok (.istore_n 2, 1) := dk_61 (dk_at dksX4_laysCopies_0 11 rfl rfl)
theorem dX4_laysCopies_12 : decode cX4_laysCopies 12 = .ok (.iload_n 2, 1) := dk_28 (dk_at dksX4_laysCopies_0 12 rfl rfl)
theorem dX4_laysCopies_13 : decode cX4_laysCopies 13 = .ok (.bipush 33, 2) := dk_16 33 (dk_at dksX4_laysCopies_0 13 rfl rfl)
theorem dX4_laysCopies_15 : decode cX4_laysCopies 15 = .ok (.if_icmp .ge 39, 3) := dk_162 0 39 (dk_at dksX4_laysCopies_0 15 rfl rfl)
theorem dX4_laysCopies_18 : decode cX4_laysCopies 18 = .ok (.aload_n 0, 1) := dk_42 (dk_at dksX4_laysCopies_0 18 rfl rfl)
theorem dX4_laysCopies_19 : decode cX4_laysCopies 19 = .ok (.getfield 29, 3) := dk_180 0 29 (dk_at dksX4_laysCopies_0 19 rfl rfl)
theorem dX4_laysCopies_22 : decode cX4_laysCopies 22 = .ok (.bipush 33, 2) := dk_16 33 (dk_at dksX4_laysCopies_0 22 rfl rfl)
theorem dX4_laysCopies_24 : decode cX4_laysCopies 24 = .ok (.iload_n 1, 1) := dk_27 (dk_at dksX4_laysCopies_1 0 rfl rfl)
theorem dX4_laysCopies_25 : decode cX4_laysCopies 25 = .ok (.imul, 1) := dk_104 (dk_at dksX4_laysCopies_1 1 rfl rfl)
theorem dX4_laysCopies_26 : decode cX4_laysCopies 26 = .ok (.iload_n 2, 1) := dk_28 (dk_at dksX4_laysCopies_1 2 rfl rfl)
theorem dX4_laysCopies_27 : decode cX4_laysCopies 27 = .ok (.iadd, 1) := dk_96 (dk_at dksX4_laysCopies_1 3 rfl rfl)
theorem dX4_laysCopies_28 : decode cX4_laysCopies 28 = .ok (.iload_n 2, 1) := dk_28 (dk_at dksX4_laysCopies_1 4 rfl rfl)
theorem dX4_laysCopies_29 : decode cX4_laysCopies 29 = .ok (.aload_n 0, 1) := dk_42 (dk_at dksX4_laysCopies_1 5 rfl rfl)
theorem dX4_laysCopies_30 : decode cX4_laysCopies 30 = .ok (.iconst 0, 1) := dk_3 (dk_at dksX4_laysCopies_1 6 rfl rfl)
theorem dX4_laysCopies_31 : decode cX4_laysCopies 31 = .ok (.invokevirtual 93, 3) := dk_182 0 93 (dk_at dksX4_laysCopies_1 7 rfl rfl)
theorem dX4_laysCopies_34 : decode cX4_laysCopies 34 = .ok (.if_icmp .le 7, 3) := dk_164 0 7 (dk_at dksX4_laysCopies_1 10 rfl rfl)
theorem dX4_laysCopies_37 : decode cX4_laysCopies 37 = .ok (.iconst 0, 1) := dk_3 (dk_at dksX4_laysCopies_1 13 rfl rfl)
theorem dX4_laysCopies_38 : decode cX4_laysCopies 38 = .ok (.goto 9, 3) := dk_167 0 9 (dk_at dksX4_laysCopies_1 14 rfl rfl)
theorem dX4_laysCopies_41 : decode cX4_laysCopies 41 = .ok (.aload_n 0, 1) := dk_42 (dk_at dksX4_laysCopies_1 17 rfl rfl)
theorem dX4_laysCopies_42 : decode cX4_laysCopies 42 = .ok (.iload_n 1, 1) := dk_27 (dk_at dksX4_laysCopies_1 18 rfl rfl)
theorem dX4_laysCopies_43 : decode cX4_laysCopies 43 = .ok (.iload_n 2, 1) := dk_28 (dk_at dksX4_laysCopies_1 19 rfl rfl)
theorem dX4_laysCopies_44 : decode cX4_laysCopies 44 = .ok (.invokevirtual 134, 3) := dk_182 0 134 (dk_at dksX4_laysCopies_1 20 rfl rfl)
theorem dX4_laysCopies_47 : decode cX4_laysCopies 47 = .ok (.iastore, 1) := dk_79 (dk_at dksX4_laysCopies_1 23 rfl rfl)
theorem dX4_laysCopies_48 : decode cX4_laysCopies 48 = .ok (.iinc 2 1, 3) := dk_132 2 1 (dk_at dksX4_laysCopies_2 0 rfl rfl)
theorem dX4_laysCopies_51 : decode cX4_laysCopies 51 = .ok (.goto (-39), 3) := dk_167 255 217 (dk_at dksX4_laysCopies_2 3 rfl rfl)
theorem dX4_laysCopies_54 : decode cX4_laysCopies 54 = .ok (.iinc 1 1, 3) := dk_132 1 1 (dk_at dksX4_laysCopies_2 6 rfl rfl)
theorem dX4_laysCopies_57 : decode cX4_laysCopies 57 = .ok (.goto (-55), 3) := dk_167 255 201 (dk_at dksX4_laysCopies_2 9 rfl rfl)
theorem dX4_laysCopies_60 : decode cX4_laysCopies 60 = .ok (.return_, 1) := dk_177 (dk_at dksX4_laysCopies_2 12 rfl rfl)
abbrev cX4_worksLongest : ByteArray := prog_14_method_27_code
def yX4_worksLongest : MethodName := ⟨RX4, "worksLongest", "(II)I"⟩
def dkwX4_worksLongest_3 : List UInt8 := [162, 0, 7, 3, 167, 0, 5, 21, 4, 172]
abbrev dktX4_worksLongest_3 : List UInt8 := dkwX4_worksLongest_3 ++ []
def dkwX4_worksLongest_2 : List UInt8 := [182, 0, 117, 154, 0, 12, 21, 4, 4, 96, 54, 4, 167, 255, 233, 21, 4, 42, 5, 182, 0, 93]
abbrev dktX4_worksLongest_2 : List UInt8 := dkwX4_worksLongest_2 ++ dktX4_worksLongest_3
def dkwX4_worksLongest_1 : List UInt8 := [27, 28, 182, 0, 125, 184, 0, 114, 62, 3, 54, 4, 21, 4, 29, 162, 0, 23, 42, 27, 21, 4, 96]
abbrev dktX4_worksLongest_1 : List UInt8 := dkwX4_worksLongest_1 ++ dktX4_worksLongest_2
def dkwX4_worksLongest_0 : List UInt8 := [28, 27, 163, 0, 14, 42, 27, 27, 28, 100, 182, 0, 128, 154, 0, 5, 3, 172, 42, 6, 182, 0, 93, 42]
abbrev dktX4_worksLongest_0 : List UInt8 := dkwX4_worksLongest_0 ++ dktX4_worksLongest_1
theorem dksX4_worksLongest_0 : cX4_worksLongest.data.toList.drop 0 = dktX4_worksLongest_0 := by decide +kernel
theorem dksX4_worksLongest_1 : cX4_worksLongest.data.toList.drop 24 = dktX4_worksLongest_1 := dk_seg dksX4_worksLongest_0 24 rfl rfl
theorem dksX4_worksLongest_2 : cX4_worksLongest.data.toList.drop 47 = dktX4_worksLongest_2 := dk_seg dksX4_worksLongest_1 23 rfl rfl
theorem dksX4_worksLongest_3 : cX4_worksLongest.data.toList.drop 69 = dktX4_worksLongest_3 := dk_seg dksX4_worksLongest_2 22 rfl rfl
theorem dX4_worksLongest_0 : decode cX4_worksLongest 0 = .ok (.iload_n 2, 1) := dk_28 (dk_at dksX4_worksLongest_0 0 rfl rfl)
theorem dX4_worksLongest_1 : decode cX4_worksLongest 1 = .ok (.iload_n 1, 1) := dk_27 (dk_at dksX4_worksLongest_0 1 rfl rfl)
theorem dX4_worksLongest_2 : decode cX4_worksLongest 2 = .ok (.if_icmp .gt 14, 3) := dk_163 0 14 (dk_at dksX4_worksLongest_0 2 rfl rfl)
theorem dX4_worksLongest_5 : decode cX4_worksLongest 5 = .ok (.aload_n 0, 1) := dk_42 (dk_at dksX4_worksLongest_0 5 rfl rfl)
theorem dX4_worksLongest_6 : decode cX4_worksLongest 6 = .ok (.iload_n 1, 1) := dk_27 (dk_at dksX4_worksLongest_0 6 rfl rfl)
theorem dX4_worksLongest_7 : decode cX4_worksLongest 7 = .ok (.iload_n 1, 1) := dk_27 (dk_at dksX4_worksLongest_0 7 rfl rfl)
theorem dX4_worksLongest_8 : decode cX4_worksLongest 8 = .ok (.iload_n 2, 1) := dk_28 (dk_at dksX4_worksLongest_0 8 rfl rfl)
theorem dX4_worksLongest_9 : decode cX4_worksLongest 9 = .ok (.isub, 1) := dk_100 (dk_at dksX4_worksLongest_0 9 rfl rfl)
theorem dX4_worksLongest_10 : decode cX4_worksLongest 10 = .ok (.invokevirtual 128, 3) := dk_182 0 128 (dk_at dksX4_worksLongest_0 10 rfl rfl)
theorem dX4_worksLongest_13 : decode cX4_worksLongest 13 = .ok (.ifCond .ne 5, 3) := dk_154 0 5 (dk_at dksX4_worksLongest_0 13 rfl rfl)
theorem dX4_worksLongest_16 : decode cX4_worksLongest 16 = .ok (.iconst 0, 1) := dk_3 (dk_at dksX4_worksLongest_0 16 rfl rfl)
theorem dX4_worksLongest_17 : decode cX4_worksLongest 17 = .ok (.ireturn, 1) := dk_172 (dk_at dksX4_worksLongest_0 17 rfl rfl)
theorem dX4_worksLongest_18 : decode cX4_worksLongest 18 = .ok (.aload_n 0, 1) := dk_42 (dk_at dksX4_worksLongest_0 18 rfl rfl)
theorem dX4_worksLongest_19 : decode cX4_worksLongest 19 = .ok (.iconst 3, 1) := dk_6 (dk_at dksX4_worksLongest_0 19 rfl rfl)
theorem dX4_worksLongest_20 : decode cX4_worksLongest 20 = .ok (.invokevirtual 93, 3) := dk_182 0 93 (dk_at dksX4_worksLongest_0 20 rfl rfl)
theorem dX4_worksLongest_23 : decode cX4_worksLongest 23 = .ok (.aload_n 0, 1) := dk_42 (dk_at dksX4_worksLongest_0 23 rfl rfl)
theorem dX4_worksLongest_24 : decode cX4_worksLongest 24 = .ok (.iload_n 1, 1) := dk_27 (dk_at dksX4_worksLongest_1 0 rfl rfl)
theorem dX4_worksLongest_25 : decode cX4_worksLongest 25 = .ok (.iload_n 2, 1) := dk_28 (dk_at dksX4_worksLongest_1 1 rfl rfl)
theorem dX4_worksLongest_26 : decode cX4_worksLongest 26 = .ok (.invokevirtual 125, 3) := dk_182 0 125 (dk_at dksX4_worksLongest_1 2 rfl rfl)
theorem dX4_worksLongest_29 : decode cX4_worksLongest 29 = .ok (.invokestatic 114, 3) := dk_184 0 114 (dk_at dksX4_worksLongest_1 5 rfl rfl)
theorem dX4_worksLongest_32 : decode cX4_worksLongest 32 = .ok (.istore_n 3, 1) := dk_62 (dk_at dksX4_worksLongest_1 8 rfl rfl)
theorem dX4_worksLongest_33 : decode cX4_worksLongest 33 = .ok (.iconst 0, 1) := dk_3 (dk_at dksX4_worksLongest_1 9 rfl rfl)
theorem dX4_worksLongest_34 : decode cX4_worksLongest 34 = .ok (.istore 4, 2) := dk_54 4 (dk_at dksX4_worksLongest_1 10 rfl rfl)
theorem dX4_worksLongest_36 : decode cX4_worksLongest 36 = .ok (.iload 4, 2) := dk_21 4 (dk_at dksX4_worksLongest_1 12 rfl rfl)
theorem dX4_worksLongest_38 : decode cX4_worksLongest 38 = .ok (.iload_n 3, 1) := dk_29 (dk_at dksX4_worksLongest_1 14 rfl rfl)
theorem dX4_worksLongest_39 : decode cX4_worksLongest 39 = .ok (.if_icmp .ge 23, 3) := dk_162 0 23 (dk_at dksX4_worksLongest_1 15 rfl rfl)
theorem dX4_worksLongest_42 : decode cX4_worksLongest 42 = .ok (.aload_n 0, 1) := dk_42 (dk_at dksX4_worksLongest_1 18 rfl rfl)
theorem dX4_worksLongest_43 : decode cX4_worksLongest 43 = .ok (.iload_n 1, 1) := dk_27 (dk_at dksX4_worksLongest_1 19 rfl rfl)
theorem dX4_worksLongest_44 : decode cX4_worksLongest 44 = .ok (.iload 4, 2) := dk_21 4 (dk_at dksX4_worksLongest_1 20 rfl rfl)
theorem dX4_worksLongest_46 : decode cX4_worksLongest 46 = .ok (.iadd, 1) := dk_96 (dk_at dksX4_worksLongest_1 22 rfl rfl)
theorem dX4_worksLongest_47 : decode cX4_worksLongest 47 = .ok (.invokevirtual 117, 3) := dk_182 0 117 (dk_at dksX4_worksLongest_2 0 rfl rfl)
theorem dX4_worksLongest_50 : decode cX4_worksLongest 50 = .ok (.ifCond .ne 12, 3) := dk_154 0 12 (dk_at dksX4_worksLongest_2 3 rfl rfl)
theorem dX4_worksLongest_53 : decode cX4_worksLongest 53 = .ok (.iload 4, 2) := dk_21 4 (dk_at dksX4_worksLongest_2 6 rfl rfl)
theorem dX4_worksLongest_55 : decode cX4_worksLongest 55 = .ok (.iconst 1, 1) := dk_4 (dk_at dksX4_worksLongest_2 8 rfl rfl)
theorem dX4_worksLongest_56 : decode cX4_worksLongest 56 = .ok (.iadd, 1) := dk_96 (dk_at dksX4_worksLongest_2 9 rfl rfl)
theorem dX4_worksLongest_57 : decode cX4_worksLongest 57 = .ok (.istore 4, 2) := dk_54 4 (dk_at dksX4_worksLongest_2 10 rfl rfl)
theorem dX4_worksLongest_59 : decode cX4_worksLongest 59 = .ok (.goto (-23), 3) := dk_167 255 233 (dk_at dksX4_worksLongest_2 12 rfl rfl)
theorem dX4_worksLongest_62 : decode cX4_worksLongest 62 = .ok (.iload 4, 2) := dk_21 4 (dk_at dksX4_worksLongest_2 15 rfl rfl)
theorem dX4_worksLongest_64 : decode cX4_worksLongest 64 = .ok (.aload_n 0, 1) := dk_42 (dk_at dksX4_worksLongest_2 17 rfl rfl)
theorem dX4_worksLongest_65 : decode cX4_worksLongest 65 = .ok (.iconst 2, 1) := dk_5 (dk_at dksX4_worksLongest_2 18 rfl rfl)
theorem dX4_worksLongest_66 : decode cX4_worksLongest 66 = .ok (.invokevirtual 93, 3) := dk_182 0 93 (dk_at dksX4_worksLongest_2 19 rfl rfl)
theorem dX4_worksLongest_69 : decode cX4_worksLongest 69 = .ok (.if_icmp .ge 7, 3) := dk_162 0 7 (dk_at dksX4_worksLongest_3 0 rfl rfl)
theorem dX4_worksLongest_72 : decode cX4_worksLongest 72 = .ok (.iconst 0, 1) := dk_3 (dk_at dksX4_worksLongest_3 3 rfl rfl)
theorem dX4_worksLongest_73 : decode cX4_worksLongest 73 = .ok (.goto 5, 3) := dk_167 0 5 (dk_at dksX4_worksLongest_3 4 rfl rfl)
theorem dX4_worksLongest_76 : decode cX4_worksLongest 76 = .ok (.iload 4, 2) := dk_21 4 (dk_at dksX4_worksLongest_3 7 rfl rfl)
theorem dX4_worksLongest_78 : decode cX4_worksLongest 78 = .ok (.ireturn, 1) := dk_172 (dk_at dksX4_worksLongest_3 9 rfl rfl)
abbrev cX4_isCandidate : ByteArray := prog_14_method_22_code
def yX4_isCandidate : MethodName := ⟨RX4, "isCandidate", "(II)Z"⟩
def dkwX4_isCandidate_2 : List UInt8 := [182, 0, 93, 162, 0, 7, 4, 167, 0, 4, 3, 172]
abbrev dktX4_isCandidate_2 : List UInt8 := dkwX4_isCandidate_2 ++ []
def dkwX4_isCandidate_1 : List UInt8 := [29, 42, 27, 21, 4, 182, 0, 103, 184, 0, 107, 96, 62, 132, 4, 255, 167, 255, 234, 29, 42, 4]
abbrev dktX4_isCandidate_1 : List UInt8 := dkwX4_isCandidate_1 ++ dktX4_isCandidate_2
def dkwX4_isCandidate_0 : List UInt8 := [42, 27, 28, 182, 0, 103, 154, 0, 5, 3, 172, 3, 62, 27, 4, 100, 54, 4, 21, 4, 28, 164, 0, 22]
abbrev dktX4_isCandidate_0 : List UInt8 := dkwX4_isCandidate_0 ++ dktX4_isCandidate_1
theorem dksX4_isCandidate_0 : cX4_isCandidate.data.toList.drop 0 = dktX4_isCandidate_0 := by decide +kernel
theorem dksX4_isCandidate_1 : cX4_isCandidate.data.toList.drop 24 = dktX4_isCandidate_1 := dk_seg dksX4_isCandidate_0 24 rfl rfl
theorem dksX4_isCandidate_2 : cX4_isCandidate.data.toList.drop 46 = dktX4_isCandidate_2 := dk_seg dksX4_isCandidate_1 22 rfl rfl
theorem dX4_isCandidate_0 : decode cX4_isCandidate 0 = .ok (.aload_n 0, 1) := dk_42 (dk_at dksX4_isCandidate_0 0 rfl rfl)
theorem dX4_isCandidate_1 : decode cX4_isCandidate 1 = .ok (.iload_n 1, 1) := dk_27 (dk_at dksX4_isCandidate_0 1 rfl rfl)
theorem dX4_isCandidate_2 : decode cX4_isCandidate 2 = .ok (.iload_n 2, 1) := dk_28 (dk_at dksX4_isCandidate_0 2 rfl rfl)
theorem dX4_isCandidate_3 : decode cX4_isCandidate 3 = .ok (.invokevirtual 103, 3) := dk_182 0 103 (dk_at dksX4_isCandidate_0 3 rfl rfl)
theorem dX4_isCandidate_6 : decode cX4_isCandidate 6 = .ok (.ifCond .ne 5, 3) := dk_154 0 5 (dk_at dksX4_isCandidate_0 6 rfl rfl)
theorem dX4_isCandidate_9 : decode cX4_isCandidate 9 = .ok (.iconst 0, 1) := dk_3 (dk_at dksX4_isCandidate_0 9 rfl rfl)
theorem dX4_isCandidate_10 : decode cX4_isCandidate 10 = .ok (.ireturn, 1) := dk_172 (dk_at dksX4_isCandidate_0 10 rfl rfl)
theorem dX4_isCandidate_11 : decode cX4_isCandidate 11 = .ok (.iconst 0, 1) := dk_3 (dk_at dksX4_isCandidate_0 11 rfl rfl)
theorem dX4_isCandidate_12 : decode cX4_isCandidate 12 = .ok (.istore_n 3, 1) := dk_62 (dk_at dksX4_isCandidate_0 12 rfl rfl)
theorem dX4_isCandidate_13 : decode cX4_isCandidate 13 = .ok (.iload_n 1, 1) := dk_27 (dk_at dksX4_isCandidate_0 13 rfl rfl)
theorem dX4_isCandidate_14 : decode cX4_isCandidate 14 = .ok (.iconst 1, 1) := dk_4 (dk_at dksX4_isCandidate_0 14 rfl rfl)
theorem dX4_isCandidate_15 : decode cX4_isCandidate 15 = .ok (.isub, 1) := dk_100 (dk_at dksX4_isCandidate_0 15 rfl rfl)
theorem dX4_isCandidate_16 : decode cX4_isCandidate 16 = .ok (.istore 4, 2) := dk_54 4 (dk_at dksX4_isCandidate_0 16 rfl rfl)
theorem dX4_isCandidate_18 : decode cX4_isCandidate 18 = .ok (.iload 4, 2) := dk_21 4 (dk_at dksX4_isCandidate_0 18 rfl rfl)
theorem dX4_isCandidate_20 : decode cX4_isCandidate 20 = .ok (.iload_n 2, 1) := dk_28 (dk_at dksX4_isCandidate_0 20 rfl rfl)
theorem dX4_isCandidate_21 : decode cX4_isCandidate 21 = .ok (.if_icmp .le 22, 3) := dk_164 0 22 (dk_at dksX4_isCandidate_0 21 rfl rfl)
theorem dX4_isCandidate_24 : decode cX4_isCandidate 24 = .ok (.iload_n 3, 1) := dk_29 (dk_at dksX4_isCandidate_1 0 rfl rfl)
theorem dX4_isCandidate_25 : decode cX4_isCandidate 25 = .ok (.aload_n 0, 1) := dk_42 (dk_at dksX4_isCandidate_1 1 rfl rfl)
theorem dX4_isCandidate_26 : decode cX4_isCandidate 26 = .ok (.iload_n 1, 1) := dk_27 (dk_at dksX4_isCandidate_1 2 rfl rfl)
theorem dX4_isCandidate_27 : decode cX4_isCandidate 27 = .ok (.iload 4, 2) := dk_21 4 (dk_at dksX4_isCandidate_1 3 rfl rfl)
theorem dX4_isCandidate_29 : decode cX4_isCandidate 29 = .ok (.invokevirtual 103, 3) := dk_182 0 103 (dk_at dksX4_isCandidate_1 5 rfl rfl)
theorem dX4_isCandidate_32 : decode cX4_isCandidate 32 = .ok (.invokestatic 107, 3) := dk_184 0 107 (dk_at dksX4_isCandidate_1 8 rfl rfl)
theorem dX4_isCandidate_35 : decode cX4_isCandidate 35 = .ok (.iadd, 1) := dk_96 (dk_at dksX4_isCandidate_1 11 rfl rfl)
theorem dX4_isCandidate_36 : decode cX4_isCandidate 36 = .ok (.istore_n 3, 1) := dk_62 (dk_at dksX4_isCandidate_1 12 rfl rfl)
theorem dX4_isCandidate_37 : decode cX4_isCandidate 37 = .ok (.iinc 4 (-1), 3) := dk_132 4 255 (dk_at dksX4_isCandidate_1 13 rfl rfl)
theorem dX4_isCandidate_40 : decode cX4_isCandidate 40 = .ok (.goto (-22), 3) := dk_167 255 234 (dk_at dksX4_isCandidate_1 16 rfl rfl)
theorem dX4_isCandidate_43 : decode cX4_isCandidate 43 = .ok (.iload_n 3, 1) := dk_29 (dk_at dksX4_isCandidate_1 19 rfl rfl)
theorem dX4_isCandidate_44 : decode cX4_isCandidate 44 = .ok (.aload_n 0, 1) := dk_42 (dk_at dksX4_isCandidate_1 20 rfl rfl)
theorem dX4_isCandidate_45 : decode cX4_isCandidate 45 = .ok (.iconst 1, 1) := dk_4 (dk_at dksX4_isCandidate_1 21 rfl rfl)
theorem dX4_isCandidate_46 : decode cX4_isCandidate 46 = .ok (.invokevirtual 93, 3) := dk_182 0 93 (dk_at dksX4_isCandidate_2 0 rfl rfl)
theorem dX4_isCandidate_49 : decode cX4_isCandidate 49 = .ok (.if_icmp .ge 7, 3) := dk_162 0 7 (dk_at dksX4_isCandidate_2 3 rfl rfl)
theorem dX4_isCandidate_52 : decode cX4_isCandidate 52 = .ok (.iconst 1, 1) := dk_4 (dk_at dksX4_isCandidate_2 6 rfl rfl)
theorem dX4_isCandidate_53 : decode cX4_isCandidate 53 = .ok (.goto 4, 3) := dk_167 0 4 (dk_at dksX4_isCandidate_2 7 rfl rfl)
theorem dX4_isCandidate_56 : decode cX4_isCandidate 56 = .ok (.iconst 0, 1) := dk_3 (dk_at dksX4_isCandidate_2 10 rfl rfl)
theorem dX4_isCandidate_57 : decode cX4_isCandidate 57 = .ok (.ireturn, 1) := dk_172 (dk_at dksX4_isCandidate_2 11 rfl rfl)
abbrev cX4_sameMany : ByteArray := prog_14_method_23_code
def yX4_sameMany : MethodName := ⟨RX4, "sameMany", "(II)I"⟩
def dkwX4_sameMany_1 : List UInt8 := [100, 182, 0, 89, 160, 0, 10, 29, 4, 96, 62, 167, 255, 223, 29, 172]
abbrev dktX4_sameMany_1 : List UInt8 := dkwX4_sameMany_1 ++ []
def dkwX4_sameMany_0 : List UInt8 := [3, 62, 27, 29, 96, 42, 182, 0, 86, 162, 0, 29, 42, 27, 29, 96, 182, 0, 89, 42, 27, 29, 96, 28]
abbrev dktX4_sameMany_0 : List UInt8 := dkwX4_sameMany_0 ++ dktX4_sameMany_1
theorem dksX4_sameMany_0 : cX4_sameMany.data.toList.drop 0 = dktX4_sameMany_0 := by decide +kernel
theorem dksX4_sameMany_1 : cX4_sameMany.data.toList.drop 24 = dktX4_sameMany_1 := dk_seg dksX4_sameMany_0 24 rfl rfl
theorem dX4_sameMany_0 : decode cX4_sameMany 0 = .ok (.iconst 0, 1) := dk_3 (dk_at dksX4_sameMany_0 0 rfl rfl)
theorem dX4_sameMany_1 : decode cX4_sameMany 1 = .ok (.istore_n 3, 1) := dk_62 (dk_at dksX4_sameMany_0 1 rfl rfl)
theorem dX4_sameMany_2 : decode cX4_sameMany 2 = .ok (.iload_n 1, 1) := dk_27 (dk_at dksX4_sameMany_0 2 rfl rfl)
theorem dX4_sameMany_3 : decode cX4_sameMany 3 = .ok (.iload_n 3, 1) := dk_29 (dk_at dksX4_sameMany_0 3 rfl rfl)
theorem dX4_sameMany_4 : decode cX4_sameMany 4 = .ok (.iadd, 1) := dk_96 (dk_at dksX4_sameMany_0 4 rfl rfl)
theorem dX4_sameMany_5 : decode cX4_sameMany 5 = .ok (.aload_n 0, 1) := dk_42 (dk_at dksX4_sameMany_0 5 rfl rfl)
theorem dX4_sameMany_6 : decode cX4_sameMany 6 = .ok (.invokevirtual 86, 3) := dk_182 0 86 (dk_at dksX4_sameMany_0 6 rfl rfl)
theorem dX4_sameMany_9 : decode cX4_sameMany 9 = .ok (.if_icmp .ge 29, 3) := dk_162 0 29 (dk_at dksX4_sameMany_0 9 rfl rfl)
theorem dX4_sameMany_12 : decode cX4_sameMany 12 = .ok (.aload_n 0, 1) := dk_42 (dk_at dksX4_sameMany_0 12 rfl rfl)
theorem dX4_sameMany_13 : decode cX4_sameMany 13 = .ok (.iload_n 1, 1) := dk_27 (dk_at dksX4_sameMany_0 13 rfl rfl)
theorem dX4_sameMany_14 : decode cX4_sameMany 14 = .ok (.iload_n 3, 1) := dk_29 (dk_at dksX4_sameMany_0 14 rfl rfl)
theorem dX4_sameMany_15 : decode cX4_sameMany 15 = .ok (.iadd, 1) := dk_96 (dk_at dksX4_sameMany_0 15 rfl rfl)
theorem dX4_sameMany_16 : decode cX4_sameMany 16 = .ok (.invokevirtual 89, 3) := dk_182 0 89 (dk_at dksX4_sameMany_0 16 rfl rfl)
theorem dX4_sameMany_19 : decode cX4_sameMany 19 = .ok (.aload_n 0, 1) := dk_42 (dk_at dksX4_sameMany_0 19 rfl rfl)
theorem dX4_sameMany_20 : decode cX4_sameMany 20 = .ok (.iload_n 1, 1) := dk_27 (dk_at dksX4_sameMany_0 20 rfl rfl)
theorem dX4_sameMany_21 : decode cX4_sameMany 21 = .ok (.iload_n 3, 1) := dk_29 (dk_at dksX4_sameMany_0 21 rfl rfl)
theorem dX4_sameMany_22 : decode cX4_sameMany 22 = .ok (.iadd, 1) := dk_96 (dk_at dksX4_sameMany_0 22 rfl rfl)
theorem dX4_sameMany_23 : decode cX4_sameMany 23 = .ok (.iload_n 2, 1) := dk_28 (dk_at dksX4_sameMany_0 23 rfl rfl)
theorem dX4_sameMany_24 : decode cX4_sameMany 24 = .ok (.isub, 1) := dk_100 (dk_at dksX4_sameMany_1 0 rfl rfl)
theorem dX4_sameMany_25 : decode cX4_sameMany 25 = .ok (.invokevirtual 89, 3) := dk_182 0 89 (dk_at dksX4_sameMany_1 1 rfl rfl)
theorem dX4_sameMany_28 : decode cX4_sameMany 28 = .ok (.if_icmp .ne 10, 3) := dk_160 0 10 (dk_at dksX4_sameMany_1 4 rfl rfl)
theorem dX4_sameMany_31 : decode cX4_sameMany 31 = .ok (.iload_n 3, 1) := dk_29 (dk_at dksX4_sameMany_1 7 rfl rfl)
theorem dX4_sameMany_32 : decode cX4_sameMany 32 = .ok (.iconst 1, 1) := dk_4 (dk_at dksX4_sameMany_1 8 rfl rfl)
theorem dX4_sameMany_33 : decode cX4_sameMany 33 = .ok (.iadd, 1) := dk_96 (dk_at dksX4_sameMany_1 9 rfl rfl)
theorem dX4_sameMany_34 : decode cX4_sameMany 34 = .ok (.istore_n 3, 1) := dk_62 (dk_at dksX4_sameMany_1 10 rfl rfl)
theorem dX4_sameMany_35 : decode cX4_sameMany 35 = .ok (.goto (-33), 3) := dk_167 255 223 (dk_at dksX4_sameMany_1 11 rfl rfl)
theorem dX4_sameMany_38 : decode cX4_sameMany 38 = .ok (.iload_n 3, 1) := dk_29 (dk_at dksX4_sameMany_1 14 rfl rfl)
theorem dX4_sameMany_39 : decode cX4_sameMany 39 = .ok (.ireturn, 1) := dk_172 (dk_at dksX4_sameMany_1 15 rfl rfl)
abbrev cX4_longestOf : ByteArray := prog_14_method_30_code
def yX4_longestOf : MethodName := ⟨RX4, "longestOf", "(I)I"⟩
def dkwX4_longestOf_1 : List UInt8 := [167, 255, 236, 28, 172]
abbrev dktX4_longestOf_1 : List UInt8 := dkwX4_longestOf_1 ++ []
def dkwX4_longestOf_0 : List UInt8 := [3, 61, 4, 62, 29, 16, 33, 162, 0, 20, 28, 42, 27, 29, 182, 0, 137, 184, 0, 96, 61, 132, 3, 1]
abbrev dktX4_longestOf_0 : List UInt8 := dkwX4_longestOf_0 ++ dktX4_longestOf_1
theorem dksX4_longestOf_0 : cX4_longestOf.data.toList.drop 0 = dktX4_longestOf_0 := by decide +kernel
theorem dksX4_longestOf_1 : cX4_longestOf.data.toList.drop 24 = dktX4_longestOf_1 := dk_seg dksX4_longestOf_0 24 rfl rfl
theorem dX4_longestOf_0 : decode cX4_longestOf 0 = .ok (.iconst 0, 1) := dk_3 (dk_at dksX4_longestOf_0 0 rfl rfl)
theorem dX4_longestOf_1 : decode cX4_longestOf 1 = .ok (.istore_n 2, 1) := dk_61 (dk_at dksX4_longestOf_0 1 rfl rfl)
theorem dX4_longestOf_2 : decode cX4_longestOf 2 = .ok (.iconst 1, 1) := dk_4 (dk_at dksX4_longestOf_0 2 rfl rfl)
theorem dX4_longestOf_3 : decode cX4_longestOf 3 = .ok (.istore_n 3, 1) := dk_62 (dk_at dksX4_longestOf_0 3 rfl rfl)
theorem dX4_longestOf_4 : decode cX4_longestOf 4 = .ok (.iload_n 3, 1) := dk_29 (dk_at dksX4_longestOf_0 4 rfl rfl)
theorem dX4_longestOf_5 : decode cX4_longestOf 5 = .ok (.bipush 33, 2) := dk_16 33 (dk_at dksX4_longestOf_0 5 rfl rfl)
theorem dX4_longestOf_7 : decode cX4_longestOf 7 = .ok (.if_icmp .ge 20, 3) := dk_162 0 20 (dk_at dksX4_longestOf_0 7 rfl rfl)
theorem dX4_longestOf_10 : decode cX4_longestOf 10 = .ok (.iload_n 2, 1) := dk_28 (dk_at dksX4_longestOf_0 10 rfl rfl)
theorem dX4_longestOf_11 : decode cX4_longestOf 11 = .ok (.aload_n 0, 1) := dk_42 (dk_at dksX4_longestOf_0 11 rfl rfl)
theorem dX4_longestOf_12 : decode cX4_longestOf 12 = .ok (.iload_n 1, 1) := dk_27 (dk_at dksX4_longestOf_0 12 rfl rfl)
theorem dX4_longestOf_13 : decode cX4_longestOf 13 = .ok (.iload_n 3, 1) := dk_29 (dk_at dksX4_longestOf_0 13 rfl rfl)
theorem dX4_longestOf_14 : decode cX4_longestOf 14 = .ok (.invokevirtual 137, 3) := dk_182 0 137 (dk_at dksX4_longestOf_0 14 rfl rfl)
theorem dX4_longestOf_17 : decode cX4_longestOf 17 = .ok (.invokestatic 96, 3) := dk_184 0 96 (dk_at dksX4_longestOf_0 17 rfl rfl)
theorem dX4_longestOf_20 : decode cX4_longestOf 20 = .ok (.istore_n 2, 1) := dk_61 (dk_at dksX4_longestOf_0 20 rfl rfl)
theorem dX4_longestOf_21 : decode cX4_longestOf 21 = .ok (.iinc 3 1, 3) := dk_132 3 1 (dk_at dksX4_longestOf_0 21 rfl rfl)
theorem dX4_longestOf_24 : decode cX4_longestOf 24 = .ok (.goto (-20), 3) := dk_167 255 236 (dk_at dksX4_longestOf_1 0 rfl rfl)
theorem dX4_longestOf_27 : decode cX4_longestOf 27 = .ok (.iload_n 2, 1) := dk_28 (dk_at dksX4_longestOf_1 3 rfl rfl)
theorem dX4_longestOf_28 : decode cX4_longestOf 28 = .ok (.ireturn, 1) := dk_172 (dk_at dksX4_longestOf_1 4 rfl rfl)
abbrev cX4_longestAt : ByteArray := prog_14_method_26_code
def yX4_longestAt : MethodName := ⟨RX4, "longestAt", "(II)I"⟩
def dkwX4_longestAt_0 : List UInt8 := [42, 180, 0, 29, 16, 33, 27, 104, 28, 96, 46, 172]
abbrev dktX4_longestAt_0 : List UInt8 := dkwX4_longestAt_0 ++ []
theorem dksX4_longestAt_0 : cX4_longestAt.data.toList.drop 0 = dktX4_longestAt_0 := by decide +kernel
theorem dX4_longestAt_0 : decode cX4_longestAt 0 = .ok (.aload_n 0, 1) := dk_42 (dk_at dksX4_longestAt_0 0 rfl rfl)
theorem dX4_longestAt_1 : decode cX4_longestAt 1 = .ok (.getfield 29, 3) := dk_180 0 29 (dk_at dksX4_longestAt_0 1 rfl rfl)
theorem dX4_longestAt_4 : decode cX4_longestAt 4 = .ok (.bipush 33, 2) := dk_16 33 (dk_at dksX4_longestAt_0 4 rfl rfl)
theorem dX4_longestAt_6 : decode cX4_longestAt 6 = .ok (.iload_n 1, 1) := dk_27 (dk_at dksX4_longestAt_0 6 rfl rfl)
theorem dX4_longestAt_7 : decode cX4_longestAt 7 = .ok (.imul, 1) := dk_104 (dk_at dksX4_longestAt_0 7 rfl rfl)
theorem dX4_longestAt_8 : decode cX4_longestAt 8 = .ok (.iload_n 2, 1) := dk_28 (dk_at dksX4_longestAt_0 8 rfl rfl)
theorem dX4_longestAt_9 : decode cX4_longestAt 9 = .ok (.iadd, 1) := dk_96 (dk_at dksX4_longestAt_0 9 rfl rfl)
theorem dX4_longestAt_10 : decode cX4_longestAt 10 = .ok (.iaload, 1) := dk_46 (dk_at dksX4_longestAt_0 10 rfl rfl)
theorem dX4_longestAt_11 : decode cX4_longestAt 11 = .ok (.ireturn, 1) := dk_172 (dk_at dksX4_longestAt_0 11 rfl rfl)
abbrev cX4_copiesAll : ByteArray := prog_14_method_87_code
def yX4_copiesAll : MethodName := ⟨RX4, "copiesAll", "()I"⟩
def dkwX4_copiesAll_1 : List UInt8 := [132, 2, 1, 167, 255, 237, 27, 172]
abbrev dktX4_copiesAll_1 : List UInt8 := dkwX4_copiesAll_1 ++ []
def dkwX4_copiesAll_0 : List UInt8 := [42, 182, 0, 165, 3, 60, 3, 61, 28, 42, 182, 0, 86, 162, 0, 17, 27, 42, 28, 182, 1, 99, 96, 60]
abbrev dktX4_copiesAll_0 : List UInt8 := dkwX4_copiesAll_0 ++ dktX4_copiesAll_1
theorem dksX4_copiesAll_0 : cX4_copiesAll.data.toList.drop 0 = dktX4_copiesAll_0 := by decide +kernel
theorem dksX4_copiesAll_1 : cX4_copiesAll.data.toList.drop 24 = dktX4_copiesAll_1 := dk_seg dksX4_copiesAll_0 24 rfl rfl
theorem dX4_copiesAll_0 : decode cX4_copiesAll 0 = .ok (.aload_n 0, 1) := dk_42 (dk_at dksX4_copiesAll_0 0 rfl rfl)
theorem dX4_copiesAll_1 : decode cX4_copiesAll 1 = .ok (.invokevirtual 165, 3) := dk_182 0 165 (dk_at dksX4_copiesAll_0 1 rfl rfl)
theorem dX4_copiesAll_4 : decode cX4_copiesAll 4 = .ok (.iconst 0, 1) := dk_3 (dk_at dksX4_copiesAll_0 4 rfl rfl)
theorem dX4_copiesAll_5 : decode cX4_copiesAll 5 = .ok (.istore_n 1, 1) := dk_60 (dk_at dksX4_copiesAll_0 5 rfl rfl)
theorem dX4_copiesAll_6 : decode cX4_copiesAll 6 = .ok (.iconst 0, 1) := dk_3 (dk_at dksX4_copiesAll_0 6 rfl rfl)
theorem dX4_copiesAll_7 : decode cX4_copiesAll 7 = .ok (.istore_n 2, 1) := dk_61 (dk_at dksX4_copiesAll_0 7 rfl rfl)
theorem dX4_copiesAll_8 : decode cX4_copiesAll 8 = .ok (.iload_n 2, 1) := dk_28 (dk_at dksX4_copiesAll_0 8 rfl rfl)
theorem dX4_copiesAll_9 : decode cX4_copiesAll 9 = .ok (.aload_n 0, 1) := dk_42 (dk_at dksX4_copiesAll_0 9 rfl rfl)
theorem dX4_copiesAll_10 : decode cX4_copiesAll 10 = .ok (.invokevirtual 86, 3) := dk_182 0 86 (dk_at dksX4_copiesAll_0 10 rfl rfl)
theorem dX4_copiesAll_13 : decode cX4_copiesAll 13 = .ok (.if_icmp .ge 17, 3) := dk_162 0 17 (dk_at dksX4_copiesAll_0 13 rfl rfl)
theorem dX4_copiesAll_16 : decode cX4_copiesAll 16 = .ok (.iload_n 1, 1) := dk_27 (dk_at dksX4_copiesAll_0 16 rfl rfl)
theorem dX4_copiesAll_17 : decode cX4_copiesAll 17 = .ok (.aload_n 0, 1) := dk_42 (dk_at dksX4_copiesAll_0 17 rfl rfl)
theorem dX4_copiesAll_18 : decode cX4_copiesAll 18 = .ok (.iload_n 2, 1) := dk_28 (dk_at dksX4_copiesAll_0 18 rfl rfl)
theorem dX4_copiesAll_19 : decode cX4_copiesAll 19 = .ok (.invokevirtual 355, 3) := dk_182 1 99 (dk_at dksX4_copiesAll_0 19 rfl rfl)
theorem dX4_copiesAll_22 : decode cX4_copiesAll 22 = .ok (.iadd, 1) := dk_96 (dk_at dksX4_copiesAll_0 22 rfl rfl)
theorem dX4_copiesAll_23 : decode cX4_copiesAll 23 = .ok (.istore_n 1, 1) := dk_60 (dk_at dksX4_copiesAll_0 23 rfl rfl)
theorem dX4_copiesAll_24 : decode cX4_copiesAll 24 = .ok (.iinc 2 1, 3) := dk_132 2 1 (dk_at dksX4_copiesAll_1 0 rfl rfl)
theorem dX4_copiesAll_27 : decode cX4_copiesAll 27 = .ok (.goto (-19), 3) := dk_167 255 237 (dk_at dksX4_copiesAll_1 3 rfl rfl)
theorem dX4_copiesAll_30 : decode cX4_copiesAll 30 = .ok (.iload_n 1, 1) := dk_27 (dk_at dksX4_copiesAll_1 6 rfl rfl)
theorem dX4_copiesAll_31 : decode cX4_copiesAll 31 = .ok (.ireturn, 1) := dk_172 (dk_at dksX4_copiesAll_1 7 rfl rfl)
abbrev cX4_copiesAt : ByteArray := prog_14_method_29_code
def yX4_copiesAt : MethodName := ⟨RX4, "copiesAt", "(I)I"⟩
def dkwX4_copiesAt_1 : List UInt8 := [3, 167, 0, 13, 21, 4, 42, 5, 182, 0, 93, 100, 4, 96, 96, 61, 132, 3, 1, 167, 255, 217, 28, 172]
abbrev dktX4_copiesAt_1 : List UInt8 := dkwX4_copiesAt_1 ++ []
def dkwX4_copiesAt_0 : List UInt8 := [3, 61, 4, 62, 29, 16, 33, 162, 0, 39, 42, 27, 29, 182, 0, 137, 54, 4, 28, 21, 4, 154, 0, 7]
abbrev dktX4_copiesAt_0 : List UInt8 := dkwX4_copiesAt_0 ++ dktX4_copiesAt_1
theorem dksX4_copiesAt_0 : cX4_copiesAt.data.toList.drop 0 = dktX4_copiesAt_0 := by decide +kernel
theorem dksX4_copiesAt_1 : cX4_copiesAt.data.toList.drop 24 = dktX4_copiesAt_1 := dk_seg dksX4_copiesAt_0 24 rfl rfl
theorem dX4_copiesAt_0 : decode cX4_copiesAt 0 = .ok (.iconst 0, 1) := dk_3 (dk_at dksX4_copiesAt_0 0 rfl rfl)
theorem dX4_copiesAt_1 : decode cX4_copiesAt 1 = .ok (.istore_n 2, 1) := dk_61 (dk_at dksX4_copiesAt_0 1 rfl rfl)
theorem dX4_copiesAt_2 : decode cX4_copiesAt 2 = .ok (.iconst 1, 1) := dk_4 (dk_at dksX4_copiesAt_0 2 rfl rfl)
theorem dX4_copiesAt_3 : decode cX4_copiesAt 3 = .ok (.istore_n 3, 1) := dk_62 (dk_at dksX4_copiesAt_0 3 rfl rfl)
theorem dX4_copiesAt_4 : decode cX4_copiesAt 4 = .ok (.iload_n 3, 1) := dk_29 (dk_at dksX4_copiesAt_0 4 rfl rfl)
theorem dX4_copiesAt_5 : decode cX4_copiesAt 5 = .ok (.bipush 33, 2) := dk_16 33 (dk_at dksX4_copiesAt_0 5 rfl rfl)
theorem dX4_copiesAt_7 : decode cX4_copiesAt 7 = .ok (.if_icmp .ge 39, 3) := dk_162 0 39 (dk_at dksX4_copiesAt_0 7 rfl rfl)
theorem dX4_copiesAt_10 : decode cX4_copiesAt 10 = .ok (.aload_n 0, 1) := dk_42 (dk_at dksX4_copiesAt_0 10 rfl rfl)
theorem dX4_copiesAt_11 : decode cX4_copiesAt 11 = .ok (.iload_n 1, 1) := dk_27 (dk_at dksX4_copiesAt_0 11 rfl rfl)
theorem dX4_copiesAt_12 : decode cX4_copiesAt 12 = .ok (.iload_n 3, 1) := dk_29 (dk_at dksX4_copiesAt_0 12 rfl rfl)
theorem dX4_copiesAt_13 : decode cX4_copiesAt 13 = .ok (.invokevirtual 137, 3) := dk_182 0 137 (dk_at dksX4_copiesAt_0 13 rfl rfl)
theorem dX4_copiesAt_16 : decode cX4_copiesAt 16 = .ok (.istore 4, 2) := dk_54 4 (dk_at dksX4_copiesAt_0 16 rfl rfl)
theorem dX4_copiesAt_18 : decode cX4_copiesAt 18 = .ok (.iload_n 2, 1) := dk_28 (dk_at dksX4_copiesAt_0 18 rfl rfl)
theorem dX4_copiesAt_19 : decode cX4_copiesAt 19 = .ok (.iload 4, 2) := dk_21 4 (dk_at dksX4_copiesAt_0 19 rfl rfl)
theorem dX4_copiesAt_21 : decode cX4_copiesAt 21 = .ok (.ifCond .ne 7, 3) := dk_154 0 7 (dk_at dksX4_copiesAt_0 21 rfl rfl)
theorem dX4_copiesAt_24 : decode cX4_copiesAt 24 = .ok (.iconst 0, 1) := dk_3 (dk_at dksX4_copiesAt_1 0 rfl rfl)
theorem dX4_copiesAt_25 : decode cX4_copiesAt 25 = .ok (.goto 13, 3) := dk_167 0 13 (dk_at dksX4_copiesAt_1 1 rfl rfl)
theorem dX4_copiesAt_28 : decode cX4_copiesAt 28 = .ok (.iload 4, 2) := dk_21 4 (dk_at dksX4_copiesAt_1 4 rfl rfl)
theorem dX4_copiesAt_30 : decode cX4_copiesAt 30 = .ok (.aload_n 0, 1) := dk_42 (dk_at dksX4_copiesAt_1 6 rfl rfl)
theorem dX4_copiesAt_31 : decode cX4_copiesAt 31 = .ok (.iconst 2, 1) := dk_5 (dk_at dksX4_copiesAt_1 7 rfl rfl)
theorem dX4_copiesAt_32 : decode cX4_copiesAt 32 = .ok (.invokevirtual 93, 3) := dk_182 0 93 (dk_at dksX4_copiesAt_1 8 rfl rfl)
theorem dX4_copiesAt_35 : decode cX4_copiesAt 35 = .ok (.isub, 1) := dk_100 (dk_at dksX4_copiesAt_1 11 rfl rfl)
theorem dX4_copiesAt_36 : decode cX4_copiesAt 36 = .ok (.iconst 1, 1) := dk_4 (dk_at dksX4_copiesAt_1 12 rfl rfl)
theorem dX4_copiesAt_37 : decode cX4_copiesAt 37 = .ok (.iadd, 1) := dk_96 (dk_at dksX4_copiesAt_1 13 rfl rfl)
theorem dX4_copiesAt_38 : decode cX4_copiesAt 38 = .ok (.iadd, 1) := dk_96 (dk_at dksX4_copiesAt_1 14 rfl rfl)
theorem dX4_copiesAt_39 : decode cX4_copiesAt 39 = .ok (.istore_n 2, 1) := dk_61 (dk_at dksX4_copiesAt_1 15 rfl rfl)
theorem dX4_copiesAt_40 : decode cX4_copiesAt 40 = .ok (.iinc 3 1, 3) := dk_132 3 1 (dk_at dksX4_copiesAt_1 16 rfl rfl)
theorem dX4_copiesAt_43 : decode cX4_copiesAt 43 = .ok (.goto (-39), 3) := dk_167 255 217 (dk_at dksX4_copiesAt_1 19 rfl rfl)
theorem dX4_copiesAt_46 : decode cX4_copiesAt 46 = .ok (.iload_n 2, 1) := dk_28 (dk_at dksX4_copiesAt_1 22 rfl rfl)
theorem dX4_copiesAt_47 : decode cX4_copiesAt 47 = .ok (.ireturn, 1) := dk_172 (dk_at dksX4_copiesAt_1 23 rfl rfl)
abbrev cX4_longestAll : ByteArray := prog_14_method_88_code
def yX4_longestAll : MethodName := ⟨RX4, "longestAll", "()I"⟩
def dkwX4_longestAll_1 : List UInt8 := [184, 0, 96, 60, 132, 2, 1, 167, 255, 235, 27, 172]
abbrev dktX4_longestAll_1 : List UInt8 := dkwX4_longestAll_1 ++ []
def dkwX4_longestAll_0 : List UInt8 := [42, 182, 0, 165, 3, 60, 3, 61, 28, 42, 182, 0, 86, 162, 0, 19, 27, 42, 28, 182, 0, 140]
abbrev dktX4_longestAll_0 : List UInt8 := dkwX4_longestAll_0 ++ dktX4_longestAll_1
theorem dksX4_longestAll_0 : cX4_longestAll.data.toList.drop 0 = dktX4_longestAll_0 := by decide +kernel
theorem dksX4_longestAll_1 : cX4_longestAll.data.toList.drop 22 = dktX4_longestAll_1 := dk_seg dksX4_longestAll_0 22 rfl rfl
theorem dX4_longestAll_0 : decode cX4_longestAll 0 = .ok (.aload_n 0, 1) := dk_42 (dk_at dksX4_longestAll_0 0 rfl rfl)
theorem dX4_longestAll_1 : decode cX4_longestAll 1 = .ok (.invokevirtual 165, 3) := dk_182 0 165 (dk_at dksX4_longestAll_0 1 rfl rfl)
theorem dX4_longestAll_4 : decode cX4_longestAll 4 = .ok (.iconst 0, 1) := dk_3 (dk_at dksX4_longestAll_0 4 rfl rfl)
theorem dX4_longestAll_5 : decode cX4_longestAll 5 = .ok (.istore_n 1, 1) := dk_60 (dk_at dksX4_longestAll_0 5 rfl rfl)
theorem dX4_longestAll_6 : decode cX4_longestAll 6 = .ok (.iconst 0, 1) := dk_3 (dk_at dksX4_longestAll_0 6 rfl rfl)
theorem dX4_longestAll_7 : decode cX4_longestAll 7 = .ok (.istore_n 2, 1) := dk_61 (dk_at dksX4_longestAll_0 7 rfl rfl)
theorem dX4_longestAll_8 : decode cX4_longestAll 8 = .ok (.iload_n 2, 1) := dk_28 (dk_at dksX4_longestAll_0 8 rfl rfl)
theorem dX4_longestAll_9 : decode cX4_longestAll 9 = .ok (.aload_n 0, 1) := dk_42 (dk_at dksX4_longestAll_0 9 rfl rfl)
theorem dX4_longestAll_10 : decode cX4_longestAll 10 = .ok (.invokevirtual 86, 3) := dk_182 0 86 (dk_at dksX4_longestAll_0 10 rfl rfl)
theorem dX4_longestAll_13 : decode cX4_longestAll 13 = .ok (.if_icmp .ge 19, 3) := dk_162 0 19 (dk_at dksX4_longestAll_0 13 rfl rfl)
theorem dX4_longestAll_16 : decode cX4_longestAll 16 = .ok (.iload_n 1, 1) := dk_27 (dk_at dksX4_longestAll_0 16 rfl rfl)
theorem dX4_longestAll_17 : decode cX4_longestAll 17 = .ok (.aload_n 0, 1) := dk_42 (dk_at dksX4_longestAll_0 17 rfl rfl)
theorem dX4_longestAll_18 : decode cX4_longestAll 18 = .ok (.iload_n 2, 1) := dk_28 (dk_at dksX4_longestAll_0 18 rfl rfl)
theorem dX4_longestAll_19 : decode cX4_longestAll 19 = .ok (.invokevirtual 140, 3) := dk_182 0 140 (dk_at dksX4_longestAll_0 19 rfl rfl)
theorem dX4_longestAll_22 : decode cX4_longestAll 22 = .ok (.invokestatic 96, 3) := dk_184 0 96 (dk_at dksX4_longestAll_1 0 rfl rfl)
theorem dX4_longestAll_25 : decode cX4_longestAll 25 = .ok (.istore_n 1, 1) := dk_60 (dk_at dksX4_longestAll_1 3 rfl rfl)
theorem dX4_longestAll_26 : decode cX4_longestAll 26 = .ok (.iinc 2 1, 3) := dk_132 2 1 (dk_at dksX4_longestAll_1 4 rfl rfl)
theorem dX4_longestAll_29 : decode cX4_longestAll 29 = .ok (.goto (-21), 3) := dk_167 255 235 (dk_at dksX4_longestAll_1 7 rfl rfl)
theorem dX4_longestAll_32 : decode cX4_longestAll 32 = .ok (.iload_n 1, 1) := dk_27 (dk_at dksX4_longestAll_1 10 rfl rfl)
theorem dX4_longestAll_33 : decode cX4_longestAll 33 = .ok (.ireturn, 1) := dk_172 (dk_at dksX4_longestAll_1 11 rfl rfl)
abbrev cX4_letterMany : ByteArray := prog_14_method_89_code
def yX4_letterMany : MethodName := ⟨RX4, "letterMany", "()I"⟩
def dkwX4_letterMany_2 : List UInt8 := [132, 3, 1, 167, 255, 239, 28, 172]
abbrev dktX4_letterMany_2 : List UInt8 := dkwX4_letterMany_2 ++ []
def dkwX4_letterMany_1 : List UInt8 := [132, 2, 1, 167, 255, 235, 3, 61, 3, 62, 29, 16, 26, 162, 0, 17, 28, 27, 29, 122, 4, 126, 96, 61]
abbrev dktX4_letterMany_1 : List UInt8 := dkwX4_letterMany_1 ++ dktX4_letterMany_2
def dkwX4_letterMany_0 : List UInt8 := [3, 60, 3, 61, 28, 42, 182, 0, 86, 162, 0, 19, 27, 4, 42, 28, 182, 0, 89, 120, 128, 60]
abbrev dktX4_letterMany_0 : List UInt8 := dkwX4_letterMany_0 ++ dktX4_letterMany_1
theorem dksX4_letterMany_0 : cX4_letterMany.data.toList.drop 0 = dktX4_letterMany_0 := by decide +kernel
theorem dksX4_letterMany_1 : cX4_letterMany.data.toList.drop 22 = dktX4_letterMany_1 := dk_seg dksX4_letterMany_0 22 rfl rfl
theorem dksX4_letterMany_2 : cX4_letterMany.data.toList.drop 46 = dktX4_letterMany_2 := dk_seg dksX4_letterMany_1 24 rfl rfl
theorem dX4_letterMany_0 : decode cX4_letterMany 0 = .ok (.iconst 0, 1) := dk_3 (dk_at dksX4_letterMany_0 0 rfl rfl)
theorem dX4_letterMany_1 : decode cX4_letterMany 1 = .ok (.istore_n 1, 1) := dk_60 (dk_at dksX4_letterMany_0 1 rfl rfl)
theorem dX4_letterMany_2 : decode cX4_letterMany 2 = .ok (.iconst 0, 1) := dk_3 (dk_at dksX4_letterMany_0 2 rfl rfl)
theorem dX4_letterMany_3 : decode cX4_letterMany 3 = .ok (.istore_n 2, 1) := dk_61 (dk_at dksX4_letterMany_0 3 rfl rfl)
theorem dX4_letterMany_4 : decode cX4_letterMany 4 = .ok (.iload_n 2, 1) := dk_28 (dk_at dksX4_letterMany_0 4 rfl rfl)
theorem dX4_letterMany_5 : decode cX4_letterMany 5 = .ok (.aload_n 0, 1) := dk_42 (dk_at dksX4_letterMany_0 5 rfl rfl)
theorem dX4_letterMany_6 : decode cX4_letterMany 6 = .ok (.invokevirtual 86, 3) := dk_182 0 86 (dk_at dksX4_letterMany_0 6 rfl rfl)
theorem dX4_letterMany_9 : decode cX4_letterMany 9 = .ok (.if_icmp .ge 19, 3) := dk_162 0 19 (dk_at dksX4_letterMany_0 9 rfl rfl)
theorem dX4_letterMany_12 : decode cX4_letterMany 12 = .ok (.iload_n 1, 1) := dk_27 (dk_at dksX4_letterMany_0 12 rfl rfl)
theorem dX4_letterMany_13 : decode cX4_letterMany 13 = .ok (.iconst 1, 1) := dk_4 (dk_at dksX4_letterMany_0 13 rfl rfl)
theorem dX4_letterMany_14 : decode cX4_letterMany 14 = .ok (.aload_n 0, 1) := dk_42 (dk_at dksX4_letterMany_0 14 rfl rfl)
theorem dX4_letterMany_15 : decode cX4_letterMany 15 = .ok (.iload_n 2, 1) := dk_28 (dk_at dksX4_letterMany_0 15 rfl rfl)
theorem dX4_letterMany_16 : decode cX4_letterMany 16 = .ok (.invokevirtual 89, 3) := dk_182 0 89 (dk_at dksX4_letterMany_0 16 rfl rfl)
theorem dX4_letterMany_19 : decode cX4_letterMany 19 = .ok (.ishl, 1) := dk_120 (dk_at dksX4_letterMany_0 19 rfl rfl)
theorem dX4_letterMany_20 : decode cX4_letterMany 20 = .ok (.ior, 1) := dk_128 (dk_at dksX4_letterMany_0 20 rfl rfl)
theorem dX4_letterMany_21 : decode cX4_letterMany 21 = .ok (.istore_n 1, 1) := dk_60 (dk_at dksX4_letterMany_0 21 rfl rfl)
theorem dX4_letterMany_22 : decode cX4_letterMany 22 = .ok (.iinc 2 1, 3) := dk_132 2 1 (dk_at dksX4_letterMany_1 0 rfl rfl)
theorem dX4_letterMany_25 : decode cX4_letterMany 25 = .ok (.goto (-21), 3) := dk_167 255 235 (dk_at dksX4_letterMany_1 3 rfl rfl)
theorem dX4_letterMany_28 : decode cX4_letterMany 28 = .ok (.iconst 0, 1) := dk_3 (dk_at dksX4_letterMany_1 6 rfl rfl)
theorem dX4_letterMany_29 : decode cX4_letterMany 29 = .ok (.istore_n 2, 1) := dk_61 (dk_at dksX4_letterMany_1 7 rfl rfl)
theorem dX4_letterMany_30 : decode cX4_letterMany 30 = .ok (.iconst 0, 1) := dk_3 (dk_at dksX4_letterMany_1 8 rfl rfl)
theorem dX4_letterMany_31 : decode cX4_letterMany 31 = .ok (.istore_n 3, 1) := dk_62 (dk_at dksX4_letterMany_1 9 rfl rfl)
theorem dX4_letterMany_32 : decode cX4_letterMany 32 = .ok (.iload_n 3, 1) := dk_29 (dk_at dksX4_letterMany_1 10 rfl rfl)
theorem dX4_letterMany_33 : decode cX4_letterMany 33 = .ok (.bipush 26, 2) := dk_16 26 (dk_at dksX4_letterMany_1 11 rfl rfl)
theorem dX4_letterMany_35 : decode cX4_letterMany 35 = .ok (.if_icmp .ge 17, 3) := dk_162 0 17 (dk_at dksX4_letterMany_1 13 rfl rfl)
theorem dX4_letterMany_38 : decode cX4_letterMany 38 = .ok (.iload_n 2, 1) := dk_28 (dk_at dksX4_letterMany_1 16 rfl rfl)
theorem dX4_letterMany_39 : decode cX4_letterMany 39 = .ok (.iload_n 1, 1) := dk_27 (dk_at dksX4_letterMany_1 17 rfl rfl)
theorem dX4_letterMany_40 : decode cX4_letterMany 40 = .ok (.iload_n 3, 1) := dk_29 (dk_at dksX4_letterMany_1 18 rfl rfl)
theorem dX4_letterMany_41 : decode cX4_letterMany 41 = .ok (.ishr, 1) := dk_122 (dk_at dksX4_letterMany_1 19 rfl rfl)
theorem dX4_letterMany_42 : decode cX4_letterMany 42 = .ok (.iconst 1, 1) := dk_4 (dk_at dksX4_letterMany_1 20 rfl rfl)
theorem dX4_letterMany_43 : decode cX4_letterMany 43 = .ok (.iand, 1) := dk_126 (dk_at dksX4_letterMany_1 21 rfl rfl)
theorem dX4_letterMany_44 : decode cX4_letterMany 44 = .ok (.iadd, 1) := dk_96 (dk_at dksX4_letterMany_1 22 rfl rfl)
theorem dX4_letterMany_45 : decode cX4_letterMany 45 = .ok (.istore_n 2, 1) := dk_61 (dk_at dksX4_letterMany_1 23 rfl rfl)
theorem dX4_letterMany_46 : decode cX4_letterMany 46 = .ok (.iinc 3 1, 3) := dk_132 3 1 (dk_at dksX4_letterMany_2 0 rfl rfl)
theorem dX4_letterMany_49 : decode cX4_letterMany 49 = .ok (.goto (-17), 3) := dk_167 255 239 (dk_at dksX4_letterMany_2 3 rfl rfl)
theorem dX4_letterMany_52 : decode cX4_letterMany 52 = .ok (.iload_n 2, 1) := dk_28 (dk_at dksX4_letterMany_2 6 rfl rfl)
theorem dX4_letterMany_53 : decode cX4_letterMany 53 = .ok (.ireturn, 1) := dk_172 (dk_at dksX4_letterMany_2 7 rfl rfl)
abbrev cX4_account : ByteArray := prog_14_method_91_code
def yX4_account : MethodName := ⟨RX4, "account", "(I)I"⟩
def dkwX4_account_1 : List UInt8 := [167, 0, 4, 3, 172]
abbrev dktX4_account_1 : List UInt8 := dkwX4_account_1 ++ []
def dkwX4_account_0 : List UInt8 := [42, 27, 3, 8, 184, 0, 121, 182, 1, 102, 153, 0, 15, 42, 180, 0, 13, 16, 37, 27, 96, 46]
abbrev dktX4_account_0 : List UInt8 := dkwX4_account_0 ++ dktX4_account_1
theorem dksX4_account_0 : cX4_account.data.toList.drop 0 = dktX4_account_0 := by decide +kernel
theorem dksX4_account_1 : cX4_account.data.toList.drop 22 = dktX4_account_1 := dk_seg dksX4_account_0 22 rfl rfl
theorem dX4_account_0 : decode cX4_account 0 = .ok (.aload_n 0, 1) := dk_42 (dk_at dksX4_account_0 0 rfl rfl)
theorem dX4_account_1 : decode cX4_account 1 = .ok (.iload_n 1, 1) := dk_27 (dk_at dksX4_account_0 1 rfl rfl)
theorem dX4_account_2 : decode cX4_account 2 = .ok (.iconst 0, 1) := dk_3 (dk_at dksX4_account_0 2 rfl rfl)
theorem dX4_account_3 : decode cX4_account 3 = .ok (.iconst 5, 1) := dk_8 (dk_at dksX4_account_0 3 rfl rfl)
theorem dX4_account_4 : decode cX4_account 4 = .ok (.invokestatic 121, 3) := dk_184 0 121 (dk_at dksX4_account_0 4 rfl rfl)
theorem dX4_account_7 : decode cX4_account 7 = .ok (.invokevirtual 358, 3) := dk_182 1 102 (dk_at dksX4_account_0 7 rfl rfl)
theorem dX4_account_10 : decode cX4_account 10 = .ok (.ifCond .eq 15, 3) := dk_153 0 15 (dk_at dksX4_account_0 10 rfl rfl)
theorem dX4_account_13 : decode cX4_account 13 = .ok (.aload_n 0, 1) := dk_42 (dk_at dksX4_account_0 13 rfl rfl)
theorem dX4_account_14 : decode cX4_account 14 = .ok (.getfield 13, 3) := dk_180 0 13 (dk_at dksX4_account_0 14 rfl rfl)
theorem dX4_account_17 : decode cX4_account 17 = .ok (.bipush 37, 2) := dk_16 37 (dk_at dksX4_account_0 17 rfl rfl)
theorem dX4_account_19 : decode cX4_account 19 = .ok (.iload_n 1, 1) := dk_27 (dk_at dksX4_account_0 19 rfl rfl)
theorem dX4_account_20 : decode cX4_account 20 = .ok (.iadd, 1) := dk_96 (dk_at dksX4_account_0 20 rfl rfl)
theorem dX4_account_21 : decode cX4_account 21 = .ok (.iaload, 1) := dk_46 (dk_at dksX4_account_0 21 rfl rfl)
theorem dX4_account_22 : decode cX4_account 22 = .ok (.goto 4, 3) := dk_167 0 4 (dk_at dksX4_account_1 0 rfl rfl)
theorem dX4_account_25 : decode cX4_account 25 = .ok (.iconst 0, 1) := dk_3 (dk_at dksX4_account_1 3 rfl rfl)
theorem dX4_account_26 : decode cX4_account 26 = .ok (.ireturn, 1) := dk_172 (dk_at dksX4_account_1 4 rfl rfl)
abbrev cX4_setting : ByteArray := prog_14_method_96_code
def yX4_setting : MethodName := ⟨RX4, "setting", "(I)I"⟩
def dkwX4_setting_0 : List UInt8 := [42, 27, 184, 1, 121, 182, 1, 102, 153, 0, 11, 42, 27, 182, 0, 93, 167, 0, 4, 3, 172]
abbrev dktX4_setting_0 : List UInt8 := dkwX4_setting_0 ++ []
theorem dksX4_setting_0 : cX4_setting.data.toList.drop 0 = dktX4_setting_0 := by decide +kernel
theorem dX4_setting_0 : decode cX4_setting 0 = .ok (.aload_n 0, 1) := dk_42 (dk_at dksX4_setting_0 0 rfl rfl)
theorem dX4_setting_1 : decode cX4_setting 1 = .ok (.iload_n 1, 1) := dk_27 (dk_at dksX4_setting_0 1 rfl rfl)
theorem dX4_setting_2 : decode cX4_setting 2 = .ok (.invokestatic 377, 3) := dk_184 1 121 (dk_at dksX4_setting_0 2 rfl rfl)
theorem dX4_setting_5 : decode cX4_setting 5 = .ok (.invokevirtual 358, 3) := dk_182 1 102 (dk_at dksX4_setting_0 5 rfl rfl)
theorem dX4_setting_8 : decode cX4_setting 8 = .ok (.ifCond .eq 11, 3) := dk_153 0 11 (dk_at dksX4_setting_0 8 rfl rfl)
theorem dX4_setting_11 : decode cX4_setting 11 = .ok (.aload_n 0, 1) := dk_42 (dk_at dksX4_setting_0 11 rfl rfl)
theorem dX4_setting_12 : decode cX4_setting 12 = .ok (.iload_n 1, 1) := dk_27 (dk_at dksX4_setting_0 12 rfl rfl)
theorem dX4_setting_13 : decode cX4_setting 13 = .ok (.invokevirtual 93, 3) := dk_182 0 93 (dk_at dksX4_setting_0 13 rfl rfl)
theorem dX4_setting_16 : decode cX4_setting 16 = .ok (.goto 4, 3) := dk_167 0 4 (dk_at dksX4_setting_0 16 rfl rfl)
theorem dX4_setting_19 : decode cX4_setting 19 = .ok (.iconst 0, 1) := dk_3 (dk_at dksX4_setting_0 19 rfl rfl)
theorem dX4_setting_20 : decode cX4_setting 20 = .ok (.ireturn, 1) := dk_172 (dk_at dksX4_setting_0 20 rfl rfl)
abbrev cX4_isSetting : ByteArray := prog_14_method_92_code
def yX4_isSetting : MethodName := ⟨RX4, "isSetting", "(I)Z"⟩
def dkwX4_isSetting_0 : List UInt8 := [26, 3, 7, 184, 0, 121, 172]
abbrev dktX4_isSetting_0 : List UInt8 := dkwX4_isSetting_0 ++ []
theorem dksX4_isSetting_0 : cX4_isSetting.data.toList.drop 0 = dktX4_isSetting_0 := by decide +kernel
theorem dX4_isSetting_0 : decode cX4_isSetting 0 = .ok (.iload_n 0, 1) := dk_26 (dk_at dksX4_isSetting_0 0 rfl rfl)
theorem dX4_isSetting_1 : decode cX4_isSetting 1 = .ok (.iconst 0, 1) := dk_3 (dk_at dksX4_isSetting_0 1 rfl rfl)
theorem dX4_isSetting_2 : decode cX4_isSetting 2 = .ok (.iconst 4, 1) := dk_7 (dk_at dksX4_isSetting_0 2 rfl rfl)
theorem dX4_isSetting_3 : decode cX4_isSetting 3 = .ok (.invokestatic 121, 3) := dk_184 0 121 (dk_at dksX4_isSetting_0 3 rfl rfl)
theorem dX4_isSetting_6 : decode cX4_isSetting 6 = .ok (.ireturn, 1) := dk_172 (dk_at dksX4_isSetting_0 6 rfl rfl)
abbrev cX4_price : ByteArray := prog_14_method_97_code
def yX4_price : MethodName := ⟨RX4, "price", "(I)I"⟩
def dkwX4_price_0 : List UInt8 := [42, 27, 184, 1, 124, 182, 1, 102, 153, 0, 11, 42, 27, 182, 0, 143, 167, 0, 4, 3, 172]
abbrev dktX4_price_0 : List UInt8 := dkwX4_price_0 ++ []
theorem dksX4_price_0 : cX4_price.data.toList.drop 0 = dktX4_price_0 := by decide +kernel
theorem dX4_price_0 : decode cX4_price 0 = .ok (.aload_n 0, 1) := dk_42 (dk_at dksX4_price_0 0 rfl rfl)
theorem dX4_price_1 : decode cX4_price 1 = .ok (.iload_n 1, 1) := dk_27 (dk_at dksX4_price_0 1 rfl rfl)
theorem dX4_price_2 : decode cX4_price 2 = .ok (.invokestatic 380, 3) := dk_184 1 124 (dk_at dksX4_price_0 2 rfl rfl)
theorem dX4_price_5 : decode cX4_price 5 = .ok (.invokevirtual 358, 3) := dk_182 1 102 (dk_at dksX4_price_0 5 rfl rfl)
theorem dX4_price_8 : decode cX4_price 8 = .ok (.ifCond .eq 11, 3) := dk_153 0 11 (dk_at dksX4_price_0 8 rfl rfl)
theorem dX4_price_11 : decode cX4_price 11 = .ok (.aload_n 0, 1) := dk_42 (dk_at dksX4_price_0 11 rfl rfl)
theorem dX4_price_12 : decode cX4_price 12 = .ok (.iload_n 1, 1) := dk_27 (dk_at dksX4_price_0 12 rfl rfl)
theorem dX4_price_13 : decode cX4_price 13 = .ok (.invokevirtual 143, 3) := dk_182 0 143 (dk_at dksX4_price_0 13 rfl rfl)
theorem dX4_price_16 : decode cX4_price 16 = .ok (.goto 4, 3) := dk_167 0 4 (dk_at dksX4_price_0 16 rfl rfl)
theorem dX4_price_19 : decode cX4_price 19 = .ok (.iconst 0, 1) := dk_3 (dk_at dksX4_price_0 19 rfl rfl)
theorem dX4_price_20 : decode cX4_price 20 = .ok (.ireturn, 1) := dk_172 (dk_at dksX4_price_0 20 rfl rfl)
abbrev cX4_isPrice : ByteArray := prog_14_method_93_code
def yX4_isPrice : MethodName := ⟨RX4, "isPrice", "(I)Z"⟩
def dkwX4_isPrice_0 : List UInt8 := [26, 3, 16, 30, 184, 0, 121, 172]
abbrev dktX4_isPrice_0 : List UInt8 := dkwX4_isPrice_0 ++ []
theorem dksX4_isPrice_0 : cX4_isPrice.data.toList.drop 0 = dktX4_isPrice_0 := by decide +kernel
theorem dX4_isPrice_0 : decode cX4_isPrice 0 = .ok (.iload_n 0, 1) := dk_26 (dk_at dksX4_isPrice_0 0 rfl rfl)
theorem dX4_isPrice_1 : decode cX4_isPrice 1 = .ok (.iconst 0, 1) := dk_3 (dk_at dksX4_isPrice_0 1 rfl rfl)
theorem dX4_isPrice_2 : decode cX4_isPrice 2 = .ok (.bipush 30, 2) := dk_16 30 (dk_at dksX4_isPrice_0 2 rfl rfl)
theorem dX4_isPrice_4 : decode cX4_isPrice 4 = .ok (.invokestatic 121, 3) := dk_184 0 121 (dk_at dksX4_isPrice_0 4 rfl rfl)
theorem dX4_isPrice_7 : decode cX4_isPrice 7 = .ok (.ireturn, 1) := dk_172 (dk_at dksX4_isPrice_0 7 rfl rfl)
abbrev cX4_cost : ByteArray := prog_14_method_16_code
def yX4_cost : MethodName := ⟨RX4, "cost", "(I)I"⟩
def dkwX4_cost_0 : List UInt8 := [42, 180, 0, 13, 16, 6, 27, 96, 46, 172]
abbrev dktX4_cost_0 : List UInt8 := dkwX4_cost_0 ++ []
theorem dksX4_cost_0 : cX4_cost.data.toList.drop 0 = dktX4_cost_0 := by decide +kernel
theorem dX4_cost_0 : decode cX4_cost 0 = .ok (.aload_n 0, 1) := dk_42 (dk_at dksX4_cost_0 0 rfl rfl)
theorem dX4_cost_1 : decode cX4_cost 1 = .ok (.getfield 13, 3) := dk_180 0 13 (dk_at dksX4_cost_0 1 rfl rfl)
theorem dX4_cost_4 : decode cX4_cost 4 = .ok (.bipush 6, 2) := dk_16 6 (dk_at dksX4_cost_0 4 rfl rfl)
theorem dX4_cost_6 : decode cX4_cost 6 = .ok (.iload_n 1, 1) := dk_27 (dk_at dksX4_cost_0 6 rfl rfl)
theorem dX4_cost_7 : decode cX4_cost 7 = .ok (.iadd, 1) := dk_96 (dk_at dksX4_cost_0 7 rfl rfl)
theorem dX4_cost_8 : decode cX4_cost 8 = .ok (.iaload, 1) := dk_46 (dk_at dksX4_cost_0 8 rfl rfl)
theorem dX4_cost_9 : decode cX4_cost 9 = .ok (.ireturn, 1) := dk_172 (dk_at dksX4_cost_0 9 rfl rfl)
abbrev cX4_place : ByteArray := prog_14_method_99_code
def yX4_place : MethodName := ⟨RX4, "place", "(II)I"⟩
def dkwX4_place_3 : List UInt8 := [182, 1, 96, 172, 42, 27, 28, 182, 1, 130, 172]
abbrev dktX4_place_3 : List UInt8 := dkwX4_place_3 ++ []
def dkwX4_place_2 : List UInt8 := [42, 27, 182, 0, 89, 172, 42, 180, 0, 13, 16, 107, 27, 96, 46, 172, 42, 27, 182, 0, 111, 172, 42, 27]
abbrev dktX4_place_2 : List UInt8 := dkwX4_place_2 ++ dktX4_place_3
def dkwX4_place_1 : List UInt8 := [170, 0, 0, 0, 0, 58, 0, 0, 0, 0, 0, 0, 0, 3, 0, 0, 0, 30, 0, 0, 0, 36, 0, 0, 0, 46, 0, 0, 0, 52]
abbrev dktX4_place_1 : List UInt8 := dkwX4_place_1 ++ dktX4_place_2
def dkwX4_place_0 : List UInt8 := [42, 42, 27, 182, 1, 127, 28, 3, 16, 6, 184, 0, 121, 182, 1, 92, 154, 0, 5, 3, 172, 28]
abbrev dktX4_place_0 : List UInt8 := dkwX4_place_0 ++ dktX4_place_1
theorem dksX4_place_0 : cX4_place.data.toList.drop 0 = dktX4_place_0 := by decide +kernel
theorem dksX4_place_1 : cX4_place.data.toList.drop 22 = dktX4_place_1 := dk_seg dksX4_place_0 22 rfl rfl
theorem dksX4_place_2 : cX4_place.data.toList.drop 52 = dktX4_place_2 := dk_seg dksX4_place_1 30 rfl rfl
theorem dksX4_place_3 : cX4_place.data.toList.drop 76 = dktX4_place_3 := dk_seg dksX4_place_2 24 rfl rfl
theorem dX4_place_0 : decode cX4_place 0 = .ok (.aload_n 0, 1) := dk_42 (dk_at dksX4_place_0 0 rfl rfl)
theorem dX4_place_1 : decode cX4_place 1 = .ok (.aload_n 0, 1) := dk_42 (dk_at dksX4_place_0 1 rfl rfl)
theorem dX4_place_2 : decode cX4_place 2 = .ok (.iload_n 1, 1) := dk_27 (dk_at dksX4_place_0 2 rfl rfl)
theorem dX4_place_3 : decode cX4_place 3 = .ok (.invokevirtual 383, 3) := dk_182 1 127 (dk_at dksX4_place_0 3 rfl rfl)
theorem dX4_place_6 : decode cX4_place 6 = .ok (.iload_n 2, 1) := dk_28 (dk_at dksX4_place_0 6 rfl rfl)
theorem dX4_place_7 : decode cX4_place 7 = .ok (.iconst 0, 1) := dk_3 (dk_at dksX4_place_0 7 rfl rfl)
theorem dX4_place_8 : decode cX4_place 8 = .ok (.bipush 6, 2) := dk_16 6 (dk_at dksX4_place_0 8 rfl rfl)
theorem dX4_place_10 : decode cX4_place 10 = .ok (.invokestatic 121, 3) := dk_184 0 121 (dk_at dksX4_place_0 10 rfl rfl)
theorem dX4_place_13 : decode cX4_place 13 = .ok (.invokevirtual 348, 3) := dk_182 1 92 (dk_at dksX4_place_0 13 rfl rfl)
theorem dX4_place_16 : decode cX4_place 16 = .ok (.ifCond .ne 5, 3) := dk_154 0 5 (dk_at dksX4_place_0 16 rfl rfl)
theorem dX4_place_19 : decode cX4_place 19 = .ok (.iconst 0, 1) := dk_3 (dk_at dksX4_place_0 19 rfl rfl)
theorem dX4_place_20 : decode cX4_place 20 = .ok (.ireturn, 1) := dk_172 (dk_at dksX4_place_0 20 rfl rfl)
theorem dX4_place_21 : decode cX4_place 21 = .ok (.iload_n 2, 1) := dk_28 (dk_at dksX4_place_0 21 rfl rfl)
theorem dX4_place_22 : decode cX4_place 22 = .ok (.tableswitch 58 0 3 #[30, 36, 46, 52], 30) := by decide +kernel
theorem dX4_place_52 : decode cX4_place 52 = .ok (.aload_n 0, 1) := dk_42 (dk_at dksX4_place_2 0 rfl rfl)
theorem dX4_place_53 : decode cX4_place 53 = .ok (.iload_n 1, 1) := dk_27 (dk_at dksX4_place_2 1 rfl rfl)
theorem dX4_place_54 : decode cX4_place 54 = .ok (.invokevirtual 89, 3) := dk_182 0 89 (dk_at dksX4_place_2 2 rfl rfl)
theorem dX4_place_57 : decode cX4_place 57 = .ok (.ireturn, 1) := dk_172 (dk_at dksX4_place_2 5 rfl rfl)
theorem dX4_place_58 : decode cX4_place 58 = .ok (.aload_n 0, 1) := dk_42 (dk_at dksX4_place_2 6 rfl rfl)
theorem dX4_place_59 : decode cX4_place 59 = .ok (.getfield 13, 3) := dk_180 0 13 (dk_at dksX4_place_2 7 rfl rfl)
theorem dX4_place_62 : decode cX4_place 62 = .ok (.bipush 107, 2) := dk_16 107 (dk_at dksX4_place_2 10 rfl rfl)
theorem dX4_place_64 : decode cX4_place 64 = .ok (.iload_n 1, 1) := dk_27 (dk_at dksX4_place_2 12 rfl rfl)
theorem dX4_place_65 : decode cX4_place 65 = .ok (.iadd, 1) := dk_96 (dk_at dksX4_place_2 13 rfl rfl)
theorem dX4_place_66 : decode cX4_place 66 = .ok (.iaload, 1) := dk_46 (dk_at dksX4_place_2 14 rfl rfl)
theorem dX4_place_67 : decode cX4_place 67 = .ok (.ireturn, 1) := dk_172 (dk_at dksX4_place_2 15 rfl rfl)
theorem dX4_place_68 : decode cX4_place 68 = .ok (.aload_n 0, 1) := dk_42 (dk_at dksX4_place_2 16 rfl rfl)
theorem dX4_place_69 : decode cX4_place 69 = .ok (.iload_n 1, 1) := dk_27 (dk_at dksX4_place_2 17 rfl rfl)
theorem dX4_place_70 : decode cX4_place 70 = .ok (.invokevirtual 111, 3) := dk_182 0 111 (dk_at dksX4_place_2 18 rfl rfl)
theorem dX4_place_73 : decode cX4_place 73 = .ok (.ireturn, 1) := dk_172 (dk_at dksX4_place_2 21 rfl rfl)
theorem dX4_place_74 : decode cX4_place 74 = .ok (.aload_n 0, 1) := dk_42 (dk_at dksX4_place_2 22 rfl rfl)
theorem dX4_place_75 : decode cX4_place 75 = .ok (.iload_n 1, 1) := dk_27 (dk_at dksX4_place_2 23 rfl rfl)
theorem dX4_place_76 : decode cX4_place 76 = .ok (.invokevirtual 352, 3) := dk_182 1 96 (dk_at dksX4_place_3 0 rfl rfl)
theorem dX4_place_79 : decode cX4_place 79 = .ok (.ireturn, 1) := dk_172 (dk_at dksX4_place_3 3 rfl rfl)
theorem dX4_place_80 : decode cX4_place 80 = .ok (.aload_n 0, 1) := dk_42 (dk_at dksX4_place_3 4 rfl rfl)
theorem dX4_place_81 : decode cX4_place 81 = .ok (.iload_n 1, 1) := dk_27 (dk_at dksX4_place_3 5 rfl rfl)
theorem dX4_place_82 : decode cX4_place 82 = .ok (.iload_n 2, 1) := dk_28 (dk_at dksX4_place_3 6 rfl rfl)
theorem dX4_place_83 : decode cX4_place 83 = .ok (.invokevirtual 386, 3) := dk_182 1 130 (dk_at dksX4_place_3 7 rfl rfl)
theorem dX4_place_86 : decode cX4_place 86 = .ok (.ireturn, 1) := dk_172 (dk_at dksX4_place_3 10 rfl rfl)
abbrev cX4_isPlace : ByteArray := prog_14_method_95_code
def yX4_isPlace : MethodName := ⟨RX4, "isPlace", "(I)Z"⟩
def dkwX4_isPlace_0 : List UInt8 := [27, 3, 42, 182, 0, 86, 4, 100, 184, 0, 121, 172]
abbrev dktX4_isPlace_0 : List UInt8 := dkwX4_isPlace_0 ++ []
theorem dksX4_isPlace_0 : cX4_isPlace.data.toList.drop 0 = dktX4_isPlace_0 := by decide +kernel
theorem dX4_isPlace_0 : decode cX4_isPlace 0 = .ok (.iload_n 1, 1) := dk_27 (dk_at dksX4_isPlace_0 0 rfl rfl)
theorem dX4_isPlace_1 : decode cX4_isPlace 1 = .ok (.iconst 0, 1) := dk_3 (dk_at dksX4_isPlace_0 1 rfl rfl)
theorem dX4_isPlace_2 : decode cX4_isPlace 2 = .ok (.aload_n 0, 1) := dk_42 (dk_at dksX4_isPlace_0 2 rfl rfl)
theorem dX4_isPlace_3 : decode cX4_isPlace 3 = .ok (.invokevirtual 86, 3) := dk_182 0 86 (dk_at dksX4_isPlace_0 3 rfl rfl)
theorem dX4_isPlace_6 : decode cX4_isPlace 6 = .ok (.iconst 1, 1) := dk_4 (dk_at dksX4_isPlace_0 6 rfl rfl)
theorem dX4_isPlace_7 : decode cX4_isPlace 7 = .ok (.isub, 1) := dk_100 (dk_at dksX4_isPlace_0 7 rfl rfl)
theorem dX4_isPlace_8 : decode cX4_isPlace 8 = .ok (.invokestatic 121, 3) := dk_184 0 121 (dk_at dksX4_isPlace_0 8 rfl rfl)
theorem dX4_isPlace_11 : decode cX4_isPlace 11 = .ok (.ireturn, 1) := dk_172 (dk_at dksX4_isPlace_0 11 rfl rfl)
abbrev cX4_ofPlace : ByteArray := prog_14_method_98_code
def yX4_ofPlace : MethodName := ⟨RX4, "ofPlace", "(II)I"⟩
def dkwX4_ofPlace_1 : List UInt8 := [182, 0, 197, 167, 0, 8, 42, 27, 182, 1, 99, 172]
abbrev dktX4_ofPlace_1 : List UInt8 := dkwX4_ofPlace_1 ++ []
def dkwX4_ofPlace_0 : List UInt8 := [42, 182, 0, 165, 28, 7, 160, 0, 11, 42, 27, 182, 0, 140, 167, 0, 21, 28, 8, 160, 0, 11, 42, 27]
abbrev dktX4_ofPlace_0 : List UInt8 := dkwX4_ofPlace_0 ++ dktX4_ofPlace_1
theorem dksX4_ofPlace_0 : cX4_ofPlace.data.toList.drop 0 = dktX4_ofPlace_0 := by decide +kernel
theorem dksX4_ofPlace_1 : cX4_ofPlace.data.toList.drop 24 = dktX4_ofPlace_1 := dk_seg dksX4_ofPlace_0 24 rfl rfl
theorem dX4_ofPlace_0 : decode cX4_ofPlace 0 = .ok (.aload_n 0, 1) := dk_42 (dk_at dksX4_ofPlace_0 0 rfl rfl)
theorem dX4_ofPlace_1 : decode cX4_ofPlace 1 = .ok (.invokevirtual 165, 3) := dk_182 0 165 (dk_at dksX4_ofPlace_0 1 rfl rfl)
theorem dX4_ofPlace_4 : decode cX4_ofPlace 4 = .ok (.iload_n 2, 1) := dk_28 (dk_at dksX4_ofPlace_0 4 rfl rfl)
theorem dX4_ofPlace_5 : decode cX4_ofPlace 5 = .ok (.iconst 4, 1) := dk_7 (dk_at dksX4_ofPlace_0 5 rfl rfl)
theorem dX4_ofPlace_6 : decode cX4_ofPlace 6 = .ok (.if_icmp .ne 11, 3) := dk_160 0 11 (dk_at dksX4_ofPlace_0 6 rfl rfl)
theorem dX4_ofPlace_9 : decode cX4_ofPlace 9 = .ok (.aload_n 0, 1) := dk_42 (dk_at dksX4_ofPlace_0 9 rfl rfl)
theorem dX4_ofPlace_10 : decode cX4_ofPlace 10 = .ok (.iload_n 1, 1) := dk_27 (dk_at dksX4_ofPlace_0 10 rfl rfl)
theorem dX4_ofPlace_11 : decode cX4_ofPlace 11 = .ok (.invokevirtual 140, 3) := dk_182 0 140 (dk_at dksX4_ofPlace_0 11 rfl rfl)
theorem dX4_ofPlace_14 : decode cX4_ofPlace 14 = .ok (.goto 21, 3) := dk_167 0 21 (dk_at dksX4_ofPlace_0 14 rfl rfl)
theorem dX4_ofPlace_17 : decode cX4_ofPlace 17 = .ok (.iload_n 2, 1) := dk_28 (dk_at dksX4_ofPlace_0 17 rfl rfl)
theorem dX4_ofPlace_18 : decode cX4_ofPlace 18 = .ok (.iconst 5, 1) := dk_8 (dk_at dksX4_ofPlace_0 18 rfl rfl)
theorem dX4_ofPlace_19 : decode cX4_ofPlace 19 = .ok (.if_icmp .ne 11, 3) := dk_160 0 11 (dk_at dksX4_ofPlace_0 19 rfl rfl)
theorem dX4_ofPlace_22 : decode cX4_ofPlace 22 = .ok (.aload_n 0, 1) := dk_42 (dk_at dksX4_ofPlace_0 22 rfl rfl)
theorem dX4_ofPlace_23 : decode cX4_ofPlace 23 = .ok (.iload_n 1, 1) := dk_27 (dk_at dksX4_ofPlace_0 23 rfl rfl)
theorem dX4_ofPlace_24 : decode cX4_ofPlace 24 = .ok (.invokevirtual 197, 3) := dk_182 0 197 (dk_at dksX4_ofPlace_1 0 rfl rfl)
theorem dX4_ofPlace_27 : decode cX4_ofPlace 27 = .ok (.goto 8, 3) := dk_167 0 8 (dk_at dksX4_ofPlace_1 3 rfl rfl)
theorem dX4_ofPlace_30 : decode cX4_ofPlace 30 = .ok (.aload_n 0, 1) := dk_42 (dk_at dksX4_ofPlace_1 6 rfl rfl)
theorem dX4_ofPlace_31 : decode cX4_ofPlace 31 = .ok (.iload_n 1, 1) := dk_27 (dk_at dksX4_ofPlace_1 7 rfl rfl)
theorem dX4_ofPlace_32 : decode cX4_ofPlace 32 = .ok (.invokevirtual 355, 3) := dk_182 1 99 (dk_at dksX4_ofPlace_1 8 rfl rfl)
theorem dX4_ofPlace_35 : decode cX4_ofPlace 35 = .ok (.ireturn, 1) := dk_172 (dk_at dksX4_ofPlace_1 11 rfl rfl)
abbrev cX4_nearestOf : ByteArray := prog_14_method_31_code
def yX4_nearestOf : MethodName := ⟨RX4, "nearestOf", "(I)I"⟩
def dkwX4_nearestOf_1 : List UInt8 := [28, 160, 0, 5, 29, 172, 132, 3, 1, 167, 255, 231, 3, 172]
abbrev dktX4_nearestOf_1 : List UInt8 := dkwX4_nearestOf_1 ++ []
def dkwX4_nearestOf_0 : List UInt8 := [42, 27, 182, 0, 140, 61, 4, 62, 29, 16, 33, 162, 0, 25, 28, 158, 0, 21, 42, 27, 29, 182, 0, 137]
abbrev dktX4_nearestOf_0 : List UInt8 := dkwX4_nearestOf_0 ++ dktX4_nearestOf_1
theorem dksX4_nearestOf_0 : cX4_nearestOf.data.toList.drop 0 = dktX4_nearestOf_0 := by decide +kernel
theorem dksX4_nearestOf_1 : cX4_nearestOf.data.toList.drop 24 = dktX4_nearestOf_1 := dk_seg dksX4_nearestOf_0 24 rfl rfl
theorem dX4_nearestOf_0 : decode cX4_nearestOf 0 = .ok (.aload_n 0, 1) := dk_42 (dk_at dksX4_nearestOf_0 0 rfl rfl)
theorem dX4_nearestOf_1 : decode cX4_nearestOf 1 = .ok (.iload_n 1, 1) := dk_27 (dk_at dksX4_nearestOf_0 1 rfl rfl)
theorem dX4_nearestOf_2 : decode cX4_nearestOf 2 = .ok (.invokevirtual 140, 3) := dk_182 0 140 (dk_at dksX4_nearestOf_0 2 rfl rfl)
theorem dX4_nearestOf_5 : decode cX4_nearestOf 5 = .ok (.istore_n 2, 1) := dk_61 (dk_at dksX4_nearestOf_0 5 rfl rfl)
theorem dX4_nearestOf_6 : decode cX4_nearestOf 6 = .ok (.iconst 1, 1) := dk_4 (dk_at dksX4_nearestOf_0 6 rfl rfl)
theorem dX4_nearestOf_7 : decode cX4_nearestOf 7 = .ok (.istore_n 3, 1) := dk_62 (dk_at dksX4_nearestOf_0 7 rfl rfl)
theorem dX4_nearestOf_8 : decode cX4_nearestOf 8 = .ok (.iload_n 3, 1) := dk_29 (dk_at dksX4_nearestOf_0 8 rfl rfl)
theorem dX4_nearestOf_9 : decode cX4_nearestOf 9 = .ok (.bipush 33, 2) := dk_16 33 (dk_at dksX4_nearestOf_0 9 rfl rfl)
theorem dX4_nearestOf_11 : decode cX4_nearestOf 11 = .ok (.if_icmp .ge 25, 3) := dk_162 0 25 (dk_at dksX4_nearestOf_0 11 rfl rfl)
theorem dX4_nearestOf_14 : decode cX4_nearestOf 14 = .ok (.iload_n 2, 1) := dk_28 (dk_at dksX4_nearestOf_0 14 rfl rfl)
theorem dX4_nearestOf_15 : decode cX4_nearestOf 15 = .ok (.ifCond .le 21, 3) := dk_158 0 21 (dk_at dksX4_nearestOf_0 15 rfl rfl)
theorem dX4_nearestOf_18 : decode cX4_nearestOf 18 = .ok (.aload_n 0, 1) := dk_42 (dk_at dksX4_nearestOf_0 18 rfl rfl)
theorem dX4_nearestOf_19 : decode cX4_nearestOf 19 = .ok (.iload_n 1, 1) := dk_27 (dk_at dksX4_nearestOf_0 19 rfl rfl)
theorem dX4_nearestOf_20 : decode cX4_nearestOf 20 = .ok (.iload_n 3, 1) := dk_29 (dk_at dksX4_nearestOf_0 20 rfl rfl)
theorem dX4_nearestOf_21 : decode cX4_nearestOf 21 = .ok (.invokevirtual 137, 3) := dk_182 0 137 (dk_at dksX4_nearestOf_0 21 rfl rfl)
theorem dX4_nearestOf_24 : decode cX4_nearestOf 24 = .ok (.iload_n 2, 1) := dk_28 (dk_at dksX4_nearestOf_1 0 rfl rfl)
theorem dX4_nearestOf_25 : decode cX4_nearestOf 25 = .ok (.if_icmp .ne 5, 3) := dk_160 0 5 (dk_at dksX4_nearestOf_1 1 rfl rfl)
theorem dX4_nearestOf_28 : decode cX4_nearestOf 28 = .ok (.iload_n 3, 1) := dk_29 (dk_at dksX4_nearestOf_1 4 rfl rfl)
theorem dX4_nearestOf_29 : decode cX4_nearestOf 29 = .ok (.ireturn, 1) := dk_172 (dk_at dksX4_nearestOf_1 5 rfl rfl)
theorem dX4_nearestOf_30 : decode cX4_nearestOf 30 = .ok (.iinc 3 1, 3) := dk_132 3 1 (dk_at dksX4_nearestOf_1 6 rfl rfl)
theorem dX4_nearestOf_33 : decode cX4_nearestOf 33 = .ok (.goto (-25), 3) := dk_167 255 231 (dk_at dksX4_nearestOf_1 9 rfl rfl)
theorem dX4_nearestOf_36 : decode cX4_nearestOf 36 = .ok (.iconst 0, 1) := dk_3 (dk_at dksX4_nearestOf_1 12 rfl rfl)
theorem dX4_nearestOf_37 : decode cX4_nearestOf 37 = .ok (.ireturn, 1) := dk_172 (dk_at dksX4_nearestOf_1 13 rfl rfl)
abbrev cX4_candidate : ByteArray := prog_14_method_100_code
def yX4_candidate : MethodName := ⟨RX4, "candidate", "(II)I"⟩
def dkwX4_candidate_1 : List UInt8 := [153, 0, 7, 4, 167, 0, 4, 3, 182, 1, 102, 154, 0, 5, 3, 172, 42, 27, 28, 182, 1, 133, 172]
abbrev dktX4_candidate_1 : List UInt8 := dkwX4_candidate_1 ++ []
def dkwX4_candidate_0 : List UInt8 := [42, 27, 182, 1, 127, 62, 42, 29, 153, 0, 22, 28, 3, 42, 27, 182, 1, 96, 4, 100, 184, 0, 121]
abbrev dktX4_candidate_0 : List UInt8 := dkwX4_candidate_0 ++ dktX4_candidate_1
theorem dksX4_candidate_0 : cX4_candidate.data.toList.drop 0 = dktX4_candidate_0 := by decide +kernel
theorem dksX4_candidate_1 : cX4_candidate.data.toList.drop 23 = dktX4_candidate_1 := dk_seg dksX4_candidate_0 23 rfl rfl
theorem dX4_candidate_0 : decode cX4_candidate 0 = .ok (.aload_n 0, 1) := dk_42 (dk_at dksX4_candidate_0 0 rfl rfl)
theorem dX4_candidate_1 : decode cX4_candidate 1 = .ok (.iload_n 1, 1) := dk_27 (dk_at dksX4_candidate_0 1 rfl rfl)
theorem dX4_candidate_2 : decode cX4_candidate 2 = .ok (.invokevirtual 383, 3) := dk_182 1 127 (dk_at dksX4_candidate_0 2 rfl rfl)
theorem dX4_candidate_5 : decode cX4_candidate 5 = .ok (.istore_n 3, 1) := dk_62 (dk_at dksX4_candidate_0 5 rfl rfl)
theorem dX4_candidate_6 : decode cX4_candidate 6 = .ok (.aload_n 0, 1) := dk_42 (dk_at dksX4_candidate_0 6 rfl rfl)
theorem dX4_candidate_7 : decode cX4_candidate 7 = .ok (.iload_n 3, 1) := dk_29 (dk_at dksX4_candidate_0 7 rfl rfl)
theorem dX4_candidate_8 : decode cX4_candidate 8 = .ok (.ifCond .eq 22, 3) := dk_153 0 22 (dk_at dksX4_candidate_0 8 rfl rfl)
theorem dX4_candidate_11 : decode cX4_candidate 11 = .ok (.iload_n 2, 1) := dk_28 (dk_at dksX4_candidate_0 11 rfl rfl)
theorem dX4_candidate_12 : decode cX4_candidate 12 = .ok (.iconst 0, 1) := dk_3 (dk_at dksX4_candidate_0 12 rfl rfl)
theorem dX4_candidate_13 : decode cX4_candidate 13 = .ok (.aload_n 0, 1) := dk_42 (dk_at dksX4_candidate_0 13 rfl rfl)
theorem dX4_candidate_14 : decode cX4_candidate 14 = .ok (.iload_n 1, 1) := dk_27 (dk_at dksX4_candidate_0 14 rfl rfl)
theorem dX4_candidate_15 : decode cX4_candidate 15 = .ok (.invokevirtual 352, 3) := dk_182 1 96 (dk_at dksX4_candidate_0 15 rfl rfl)
theorem dX4_candidate_18 : decode cX4_candidate 18 = .ok (.iconst 1, 1) := dk_4 (dk_at dksX4_candidate_0 18 rfl rfl)
theorem dX4_candidate_19 : decode cX4_candidate 19 = .ok (.isub, 1) := dk_100 (dk_at dksX4_candidate_0 19 rfl rfl)
theorem dX4_candidate_20 : decode cX4_candidate 20 = .ok (.invokestatic 121, 3) := dk_184 0 121 (dk_at dksX4_candidate_0 20 rfl rfl)
theorem dX4_candidate_23 : decode cX4_candidate 23 = .ok (.ifCond .eq 7, 3) := dk_153 0 7 (dk_at dksX4_candidate_1 0 rfl rfl)
theorem dX4_candidate_26 : decode cX4_candidate 26 = .ok (.iconst 1, 1) := dk_4 (dk_at dksX4_candidate_1 3 rfl rfl)
theorem dX4_candidate_27 : decode cX4_candidate 27 = .ok (.goto 4, 3) := dk_167 0 4 (dk_at dksX4_candidate_1 4 rfl rfl)
theorem dX4_candidate_30 : decode cX4_candidate 30 = .ok (.iconst 0, 1) := dk_3 (dk_at dksX4_candidate_1 7 rfl rfl)
theorem dX4_candidate_31 : decode cX4_candidate 31 = .ok (.invokevirtual 358, 3) := dk_182 1 102 (dk_at dksX4_candidate_1 8 rfl rfl)
theorem dX4_candidate_34 : decode cX4_candidate 34 = .ok (.ifCond .ne 5, 3) := dk_154 0 5 (dk_at dksX4_candidate_1 11 rfl rfl)
theorem dX4_candidate_37 : decode cX4_candidate 37 = .ok (.iconst 0, 1) := dk_3 (dk_at dksX4_candidate_1 14 rfl rfl)
theorem dX4_candidate_38 : decode cX4_candidate 38 = .ok (.ireturn, 1) := dk_172 (dk_at dksX4_candidate_1 15 rfl rfl)
theorem dX4_candidate_39 : decode cX4_candidate 39 = .ok (.aload_n 0, 1) := dk_42 (dk_at dksX4_candidate_1 16 rfl rfl)
theorem dX4_candidate_40 : decode cX4_candidate 40 = .ok (.iload_n 1, 1) := dk_27 (dk_at dksX4_candidate_1 17 rfl rfl)
theorem dX4_candidate_41 : decode cX4_candidate 41 = .ok (.iload_n 2, 1) := dk_28 (dk_at dksX4_candidate_1 18 rfl rfl)
theorem dX4_candidate_42 : decode cX4_candidate 42 = .ok (.invokevirtual 389, 3) := dk_182 1 133 (dk_at dksX4_candidate_1 19 rfl rfl)
theorem dX4_candidate_45 : decode cX4_candidate 45 = .ok (.ireturn, 1) := dk_172 (dk_at dksX4_candidate_1 22 rfl rfl)
abbrev cX4_chainAt : ByteArray := prog_14_method_21_code
def yX4_chainAt : MethodName := ⟨RX4, "chainAt", "(II)I"⟩
def dkwX4_chainAt_2 : List UInt8 := [172]
abbrev dktX4_chainAt_2 : List UInt8 := dkwX4_chainAt_2 ++ []
def dkwX4_chainAt_1 : List UInt8 := [154, 0, 6, 167, 0, 14, 29, 154, 0, 6, 21, 4, 172, 29, 4, 100, 62, 132, 4, 255, 167, 255, 219, 2]
abbrev dktX4_chainAt_1 : List UInt8 := dkwX4_chainAt_1 ++ dktX4_chainAt_2
def dkwX4_chainAt_0 : List UInt8 := [28, 62, 27, 4, 100, 54, 4, 21, 4, 42, 27, 182, 0, 100, 161, 0, 33, 42, 27, 21, 4, 182, 0, 103]
abbrev dktX4_chainAt_0 : List UInt8 := dkwX4_chainAt_0 ++ dktX4_chainAt_1
theorem dksX4_chainAt_0 : cX4_chainAt.data.toList.drop 0 = dktX4_chainAt_0 := by decide +kernel
theorem dksX4_chainAt_1 : cX4_chainAt.data.toList.drop 24 = dktX4_chainAt_1 := dk_seg dksX4_chainAt_0 24 rfl rfl
theorem dksX4_chainAt_2 : cX4_chainAt.data.toList.drop 48 = dktX4_chainAt_2 := dk_seg dksX4_chainAt_1 24 rfl rfl
theorem dX4_chainAt_0 : decode cX4_chainAt 0 = .ok (.iload_n 2, 1) := dk_28 (dk_at dksX4_chainAt_0 0 rfl rfl)
theorem dX4_chainAt_1 : decode cX4_chainAt 1 = .ok (.istore_n 3, 1) := dk_62 (dk_at dksX4_chainAt_0 1 rfl rfl)
theorem dX4_chainAt_2 : decode cX4_chainAt 2 = .ok (.iload_n 1, 1) := dk_27 (dk_at dksX4_chainAt_0 2 rfl rfl)
theorem dX4_chainAt_3 : decode cX4_chainAt 3 = .ok (.iconst 1, 1) := dk_4 (dk_at dksX4_chainAt_0 3 rfl rfl)
theorem dX4_chainAt_4 : decode cX4_chainAt 4 = .ok (.isub, 1) := dk_100 (dk_at dksX4_chainAt_0 4 rfl rfl)
theorem dX4_chainAt_5 : decode cX4_chainAt 5 = .ok (.istore 4, 2) := dk_54 4 (dk_at dksX4_chainAt_0 5 rfl rfl)
theorem dX4_chainAt_7 : decode cX4_chainAt 7 = .ok (.iload 4, 2) := dk_21 4 (dk_at dksX4_chainAt_0 7 rfl rfl)
theorem dX4_chainAt_9 : decode cX4_chainAt 9 = .ok (.aload_n 0, 1) := dk_42 (dk_at dksX4_chainAt_0 9 rfl rfl)
theorem dX4_chainAt_10 : decode cX4_chainAt 10 = .ok (.iload_n 1, 1) := dk_27 (dk_at dksX4_chainAt_0 10 rfl rfl)
theorem dX4_chainAt_11 : decode cX4_chainAt 11 = .ok (.invokevirtual 100, 3) := dk_182 0 100 (dk_at dksX4_chainAt_0 11 rfl rfl)
theorem dX4_chainAt_14 : decode cX4_chainAt 14 = .ok (.if_icmp .lt 33, 3) := dk_161 0 33 (dk_at dksX4_chainAt_0 14 rfl rfl)
theorem dX4_chainAt_17 : decode cX4_chainAt 17 = .ok (.aload_n 0, 1) := dk_42 (dk_at dksX4_chainAt_0 17 rfl rfl)
theorem dX4_chainAt_18 : decode cX4_chainAt 18 = .ok (.iload_n 1, 1) := dk_27 (dk_at dksX4_chainAt_0 18 rfl rfl)
theorem dX4_chainAt_19 : decode cX4_chainAt 19 = .ok (.iload 4, 2) := dk_21 4 (dk_at dksX4_chainAt_0 19 rfl rfl)
theorem dX4_chainAt_21 : decode cX4_chainAt 21 = .ok (.invokevirtual 103, 3) := dk_182 0 103 (dk_at dksX4_chainAt_0 21 rfl rfl)
theorem dX4_chainAt_24 : decode cX4_chainAt 24 = .ok (.ifCond .ne 6, 3) := dk_154 0 6 (dk_at dksX4_chainAt_1 0 rfl rfl)
theorem dX4_chainAt_27 : decode cX4_chainAt 27 = .ok (.goto 14, 3) := dk_167 0 14 (dk_at dksX4_chainAt_1 3 rfl rfl)
theorem dX4_chainAt_30 : decode cX4_chainAt 30 = .ok (.iload_n 3, 1) := dk_29 (dk_at dksX4_chainAt_1 6 rfl rfl)
theorem dX4_chainAt_31 : decode cX4_chainAt 31 = .ok (.ifCond .ne 6, 3) := dk_154 0 6 (dk_at dksX4_chainAt_1 7 rfl rfl)
theorem dX4_chainAt_34 : decode cX4_chainAt 34 = .ok (.iload 4, 2) := dk_21 4 (dk_at dksX4_chainAt_1 10 rfl rfl)
theorem dX4_chainAt_36 : decode cX4_chainAt 36 = .ok (.ireturn, 1) := dk_172 (dk_at dksX4_chainAt_1 12 rfl rfl)
theorem dX4_chainAt_37 : decode cX4_chainAt 37 = .ok (.iload_n 3, 1) := dk_29 (dk_at dksX4_chainAt_1 13 rfl rfl)
theorem dX4_chainAt_38 : decode cX4_chainAt 38 = .ok (.iconst 1, 1) := dk_4 (dk_at dksX4_chainAt_1 14 rfl rfl)
theorem dX4_chainAt_39 : decode cX4_chainAt 39 = .ok (.isub, 1) := dk_100 (dk_at dksX4_chainAt_1 15 rfl rfl)
theorem dX4_chainAt_40 : decode cX4_chainAt 40 = .ok (.istore_n 3, 1) := dk_62 (dk_at dksX4_chainAt_1 16 rfl rfl)
theorem dX4_chainAt_41 : decode cX4_chainAt 41 = .ok (.iinc 4 (-1), 3) := dk_132 4 255 (dk_at dksX4_chainAt_1 17 rfl rfl)
theorem dX4_chainAt_44 : decode cX4_chainAt 44 = .ok (.goto (-37), 3) := dk_167 255 219 (dk_at dksX4_chainAt_1 20 rfl rfl)
theorem dX4_chainAt_47 : decode cX4_chainAt 47 = .ok (.iconst (-1), 1) := dk_2 (dk_at dksX4_chainAt_1 23 rfl rfl)
theorem dX4_chainAt_48 : decode cX4_chainAt 48 = .ok (.ireturn, 1) := dk_172 (dk_at dksX4_chainAt_2 0 rfl rfl)
abbrev cX4_why : ByteArray := prog_14_method_102_code
def yX4_why : MethodName := ⟨RX4, "why", "(III)I"⟩
def dkwX4_why_1 : List UInt8 := [167, 0, 4, 3, 172]
abbrev dktX4_why_1 : List UInt8 := dkwX4_why_1 ++ []
def dkwX4_why_0 : List UInt8 := [42, 42, 27, 182, 1, 127, 28, 29, 184, 1, 136, 182, 1, 92, 153, 0, 13, 42, 27, 28, 29, 182, 1, 139]
abbrev dktX4_why_0 : List UInt8 := dkwX4_why_0 ++ dktX4_why_1
theorem dksX4_why_0 : cX4_why.data.toList.drop 0 = dktX4_why_0 := by decide +kernel
theorem dksX4_why_1 : cX4_why.data.toList.drop 24 = dktX4_why_1 := dk_seg dksX4_why_0 24 rfl rfl
theorem dX4_why_0 : decode cX4_why 0 = .ok (.aload_n 0, 1) := dk_42 (dk_at dksX4_why_0 0 rfl rfl)
theorem dX4_why_1 : decode cX4_why 1 = .ok (.aload_n 0, 1) := dk_42 (dk_at dksX4_why_0 1 rfl rfl)
theorem dX4_why_2 : decode cX4_why 2 = .ok (.iload_n 1, 1) := dk_27 (dk_at dksX4_why_0 2 rfl rfl)
theorem dX4_why_3 : decode cX4_why 3 = .ok (.invokevirtual 383, 3) := dk_182 1 127 (dk_at dksX4_why_0 3 rfl rfl)
theorem dX4_why_6 : decode cX4_why 6 = .ok (.iload_n 2, 1) := dk_28 (dk_at dksX4_why_0 6 rfl rfl)
theorem dX4_why_7 : decode cX4_why 7 = .ok (.iload_n 3, 1) := dk_29 (dk_at dksX4_why_0 7 rfl rfl)
theorem dX4_why_8 : decode cX4_why 8 = .ok (.invokestatic 392, 3) := dk_184 1 136 (dk_at dksX4_why_0 8 rfl rfl)
theorem dX4_why_11 : decode cX4_why 11 = .ok (.invokevirtual 348, 3) := dk_182 1 92 (dk_at dksX4_why_0 11 rfl rfl)
theorem dX4_why_14 : decode cX4_why 14 = .ok (.ifCond .eq 13, 3) := dk_153 0 13 (dk_at dksX4_why_0 14 rfl rfl)
theorem dX4_why_17 : decode cX4_why 17 = .ok (.aload_n 0, 1) := dk_42 (dk_at dksX4_why_0 17 rfl rfl)
theorem dX4_why_18 : decode cX4_why 18 = .ok (.iload_n 1, 1) := dk_27 (dk_at dksX4_why_0 18 rfl rfl)
theorem dX4_why_19 : decode cX4_why 19 = .ok (.iload_n 2, 1) := dk_28 (dk_at dksX4_why_0 19 rfl rfl)
theorem dX4_why_20 : decode cX4_why 20 = .ok (.iload_n 3, 1) := dk_29 (dk_at dksX4_why_0 20 rfl rfl)
theorem dX4_why_21 : decode cX4_why 21 = .ok (.invokevirtual 395, 3) := dk_182 1 139 (dk_at dksX4_why_0 21 rfl rfl)
theorem dX4_why_24 : decode cX4_why 24 = .ok (.goto 4, 3) := dk_167 0 4 (dk_at dksX4_why_1 0 rfl rfl)
theorem dX4_why_27 : decode cX4_why 27 = .ok (.iconst 0, 1) := dk_3 (dk_at dksX4_why_1 3 rfl rfl)
theorem dX4_why_28 : decode cX4_why 28 = .ok (.ireturn, 1) := dk_172 (dk_at dksX4_why_1 4 rfl rfl)
abbrev cX4_isCopyNumber : ByteArray := prog_14_method_101_code
def yX4_isCopyNumber : MethodName := ⟨RX4, "isCopyNumber", "(II)Z"⟩
def dkwX4_isCopyNumber_1 : List UInt8 := [3, 172]
abbrev dktX4_isCopyNumber_1 : List UInt8 := dkwX4_isCopyNumber_1 ++ []
def dkwX4_isCopyNumber_0 : List UInt8 := [26, 4, 16, 64, 184, 0, 121, 153, 0, 17, 27, 4, 16, 64, 184, 0, 121, 153, 0, 7, 4, 167, 0, 4]
abbrev dktX4_isCopyNumber_0 : List UInt8 := dkwX4_isCopyNumber_0 ++ dktX4_isCopyNumber_1
theorem dksX4_isCopyNumber_0 : cX4_isCopyNumber.data.toList.drop 0 = dktX4_isCopyNumber_0 := by decide +kernel
theorem dksX4_isCopyNumber_1 : cX4_isCopyNumber.data.toList.drop 24 = dktX4_isCopyNumber_1 := dk_seg dksX4_isCopyNumber_0 24 rfl rfl
theorem dX4_isCopyNumber_0 : decode cX4_isCopyNumber 0 = .ok (.iload_n 0, 1) := dk_26 (dk_at dksX4_isCopyNumber_0 0 rfl rfl)
theorem dX4_isCopyNumber_1 : decode cX4_isCopyNumber 1 = .ok (.iconst 1, 1) := dk_4 (dk_at dksX4_isCopyNumber_0 1 rfl rfl)
theorem dX4_isCopyNumber_2 : decode cX4_isCopyNumber 2 = .ok (.bipush 64, 2) := dk_16 64 (dk_at dksX4_isCopyNumber_0 2 rfl rfl)
theorem dX4_isCopyNumber_4 : decode cX4_isCopyNumber 4 = .ok (.invokestatic 121, 3) := dk_184 0 121 (dk_at dksX4_isCopyNumber_0 4 rfl rfl)
theorem dX4_isCopyNumber_7 : decode cX4_isCopyNumber 7 = .ok (.ifCond .eq 17, 3) := dk_153 0 17 (dk_at dksX4_isCopyNumber_0 7 rfl rfl)
theorem dX4_isCopyNumber_10 : decode cX4_isCopyNumber 10 = .ok (.iload_n 1, 1) := dk_27 (dk_at dksX4_isCopyNumber_0 10 rfl rfl)
theorem dX4_isCopyNumber_11 : decode cX4_isCopyNumber 11 = .ok (.iconst 1, 1) := dk_4 (dk_at dksX4_isCopyNumber_0 11 rfl rfl)
theorem dX4_isCopyNumber_12 : decode cX4_isCopyNumber 12 = .ok (.bipush 64, 2) := dk_16 64 (dk_at dksX4_isCopyNumber_0 12 rfl rfl)
theorem dX4_isCopyNumber_14 : decode cX4_isCopyNumber 14 = .ok (.invokestatic 121, 3) := dk_184 0 121 (dk_at dksX4_isCopyNumber_0 14 rfl rfl)
theorem dX4_isCopyNumber_17 : decode cX4_isCopyNumber 17 = .ok (.ifCond .eq 7, 3) := dk_153 0 7 (dk_at dksX4_isCopyNumber_0 17 rfl rfl)
theorem dX4_isCopyNumber_20 : decode cX4_isCopyNumber 20 = .ok (.iconst 1, 1) := dk_4 (dk_at dksX4_isCopyNumber_0 20 rfl rfl)
theorem dX4_isCopyNumber_21 : decode cX4_isCopyNumber 21 = .ok (.goto 4, 3) := dk_167 0 4 (dk_at dksX4_isCopyNumber_0 21 rfl rfl)
theorem dX4_isCopyNumber_24 : decode cX4_isCopyNumber 24 = .ok (.iconst 0, 1) := dk_3 (dk_at dksX4_isCopyNumber_1 0 rfl rfl)
theorem dX4_isCopyNumber_25 : decode cX4_isCopyNumber 25 = .ok (.ireturn, 1) := dk_172 (dk_at dksX4_isCopyNumber_1 1 rfl rfl)
abbrev cX4_reason : ByteArray := prog_14_method_25_code
def yX4_reason : MethodName := ⟨RX4, "reason", "(III)I"⟩
def dkwX4_reason_4 : List UInt8 := [172]
abbrev dktX4_reason_4 : List UInt8 := dkwX4_reason_4 ++ []
def dkwX4_reason_3 : List UInt8 := [182, 0, 128, 154, 0, 6, 16, 6, 172, 42, 27, 28, 182, 0, 131, 153, 0, 8, 16, 7, 167, 0, 4, 3]
abbrev dktX4_reason_3 : List UInt8 := dkwX4_reason_3 ++ dktX4_reason_4
def dkwX4_reason_2 : List UInt8 := [164, 0, 5, 7, 172, 42, 27, 29, 182, 0, 125, 28, 162, 0, 5, 8, 172, 42, 27, 27, 29, 100]
abbrev dktX4_reason_2 : List UInt8 := dkwX4_reason_2 ++ dktX4_reason_3
def dkwX4_reason_1 : List UInt8 := [182, 0, 93, 164, 0, 5, 5, 172, 29, 27, 164, 0, 5, 6, 172, 27, 28, 96, 42, 182, 0, 86]
abbrev dktX4_reason_1 : List UInt8 := dkwX4_reason_1 ++ dktX4_reason_2
def dkwX4_reason_0 : List UInt8 := [28, 42, 5, 182, 0, 93, 42, 6, 182, 0, 93, 184, 0, 121, 154, 0, 5, 4, 172, 29, 42, 3]
abbrev dktX4_reason_0 : List UInt8 := dkwX4_reason_0 ++ dktX4_reason_1
theorem dksX4_reason_0 : cX4_reason.data.toList.drop 0 = dktX4_reason_0 := by decide +kernel
theorem dksX4_reason_1 : cX4_reason.data.toList.drop 22 = dktX4_reason_1 := dk_seg dksX4_reason_0 22 rfl rfl
theorem dksX4_reason_2 : cX4_reason.data.toList.drop 44 = dktX4_reason_2 := dk_seg dksX4_reason_1 22 rfl rfl
theorem dksX4_reason_3 : cX4_reason.data.toList.drop 66 = dktX4_reason_3 := dk_seg dksX4_reason_2 22 rfl rfl
theorem dksX4_reason_4 : cX4_reason.data.toList.drop 90 = dktX4_reason_4 := dk_seg dksX4_reason_3 24 rfl rfl
theorem dX4_reason_0 : decode cX4_reason 0 = .ok (.iload_n 2, 1) := dk_28 (dk_at dksX4_reason_0 0 rfl rfl)
theorem dX4_reason_1 : decode cX4_reason 1 = .ok (.aload_n 0, 1) := dk_42 (dk_at dksX4_reason_0 1 rfl rfl)
theorem dX4_reason_2 : decode cX4_reason 2 = .ok (.iconst 2, 1) := dk_5 (dk_at dksX4_reason_0 2 rfl rfl)
theorem dX4_reason_3 : decode cX4_reason 3 = .ok (.invokevirtual 93, 3) := dk_182 0 93 (dk_at dksX4_reason_0 3 rfl rfl)
theorem dX4_reason_6 : decode cX4_reason 6 = .ok (.aload_n 0, 1) := dk_42 (dk_at dksX4_reason_0 6 rfl rfl)
theorem dX4_reason_7 : decode cX4_reason 7 = .ok (.iconst 3, 1) := dk_6 (dk_at dksX4_reason_0 7 rfl rfl)
theorem dX4_reason_8 : decode cX4_reason 8 = .ok (.invokevirtual 93, 3) := dk_182 0 93 (dk_at dksX4_reason_0 8 rfl rfl)
theorem dX4_reason_11 : decode cX4_reason 11 = .ok (.invokestatic 121, 3) := dk_184 0 121 (dk_at dksX4_reason_0 11 rfl rfl)
theorem dX4_reason_14 : decode cX4_reason 14 = .ok (.ifCond .ne 5, 3) := dk_154 0 5 (dk_at dksX4_reason_0 14 rfl rfl)
theorem dX4_reason_17 : decode cX4_reason 17 = .ok (.iconst 1, 1) := dk_4 (dk_at dksX4_reason_0 17 rfl rfl)
theorem dX4_reason_18 : decode cX4_reason 18 = .ok (.ireturn, 1) := dk_172 (dk_at dksX4_reason_0 18 rfl rfl)
theorem dX4_reason_19 : decode cX4_reason 19 = .ok (.iload_n 3, 1) := dk_29 (dk_at dksX4_reason_0 19 rfl rfl)
theorem dX4_reason_20 : decode cX4_reason 20 = .ok (.aload_n 0, 1) := dk_42 (dk_at dksX4_reason_0 20 rfl rfl)
theorem dX4_reason_21 : decode cX4_reason 21 = .ok (.iconst 0, 1) := dk_3 (dk_at dksX4_reason_0 21 rfl rfl)
theorem dX4_reason_22 : decode cX4_reason 22 = .ok (.invokevirtual 93, 3) := dk_182 0 93 (dk_at dksX4_reason_1 0 rfl rfl)
theorem dX4_reason_25 : decode cX4_reason 25 = .ok (.if_icmp .le 5, 3) := dk_164 0 5 (dk_at dksX4_reason_1 3 rfl rfl)
theorem dX4_reason_28 : decode cX4_reason 28 = .ok (.iconst 2, 1) := dk_5 (dk_at dksX4_reason_1 6 rfl rfl)
theorem dX4_reason_29 : decode cX4_reason 29 = .ok (.ireturn, 1) := dk_172 (dk_at dksX4_reason_1 7 rfl rfl)
theorem dX4_reason_30 : decode cX4_reason 30 = .ok (.iload_n 3, 1) := dk_29 (dk_at dksX4_reason_1 8 rfl rfl)
theorem dX4_reason_31 : decode cX4_reason 31 = .ok (.iload_n 1, 1) := dk_27 (dk_at dksX4_reason_1 9 rfl rfl)
theorem dX4_reason_32 : decode cX4_reason 32 = .ok (.if_icmp .le 5, 3) := dk_164 0 5 (dk_at dksX4_reason_1 10 rfl rfl)
theorem dX4_reason_35 : decode cX4_reason 35 = .ok (.iconst 3, 1) := dk_6 (dk_at dksX4_reason_1 13 rfl rfl)
theorem dX4_reason_36 : decode cX4_reason 36 = .ok (.ireturn, 1) := dk_172 (dk_at dksX4_reason_1 14 rfl rfl)
theorem dX4_reason_37 : decode cX4_reason 37 = .ok (.iload_n 1, 1) := dk_27 (dk_at dksX4_reason_1 15 rfl rfl)
theorem dX4_reason_38 : decode cX4_reason 38 = .ok (.iload_n 2, 1) := dk_28 (dk_at dksX4_reason_1 16 rfl rfl)
theorem dX4_reason_39 : decode cX4_reason 39 = .ok (.iadd, 1) := dk_96 (dk_at dksX4_reason_1 17 rfl rfl)
theorem dX4_reason_40 : decode cX4_reason 40 = .ok (.aload_n 0, 1) := dk_42 (dk_at dksX4_reason_1 18 rfl rfl)
theorem dX4_reason_41 : decode cX4_reason 41 = .ok (.invokevirtual 86, 3) := dk_182 0 86 (dk_at dksX4_reason_1 19 rfl rfl)
theorem dX4_reason_44 : decode cX4_reason 44 = .ok (.if_icmp .le 5, 3) := dk_164 0 5 (dk_at dksX4_reason_2 0 rfl rfl)
theorem dX4_reason_47 : decode cX4_reason 47 = .ok (.iconst 4, 1) := dk_7 (dk_at dksX4_reason_2 3 rfl rfl)
theorem dX4_reason_48 : decode cX4_reason 48 = .ok (.ireturn, 1) := dk_172 (dk_at dksX4_reason_2 4 rfl rfl)
theorem dX4_reason_49 : decode cX4_reason 49 = .ok (.aload_n 0, 1) := dk_42 (dk_at dksX4_reason_2 5 rfl rfl)
theorem dX4_reason_50 : decode cX4_reason 50 = .ok (.iload_n 1, 1) := dk_27 (dk_at dksX4_reason_2 6 rfl rfl)
theorem dX4_reason_51 : decode cX4_reason 51 = .ok (.iload_n 3, 1) := dk_29 (dk_at dksX4_reason_2 7 rfl rfl)
theorem dX4_reason_52 : decode cX4_reason 52 = .ok (.invokevirtual 125, 3) := dk_182 0 125 (dk_at dksX4_reason_2 8 rfl rfl)
theorem dX4_reason_55 : decode cX4_reason 55 = .ok (.iload_n 2, 1) := dk_28 (dk_at dksX4_reason_2 11 rfl rfl)
theorem dX4_reason_56 : decode cX4_reason 56 = .ok (.if_icmp .ge 5, 3) := dk_162 0 5 (dk_at dksX4_reason_2 12 rfl rfl)
theorem dX4_reason_59 : decode cX4_reason 59 = .ok (.iconst 5, 1) := dk_8 (dk_at dksX4_reason_2 15 rfl rfl)
theorem dX4_reason_60 : decode cX4_reason 60 = .ok (.ireturn, 1) := dk_172 (dk_at dksX4_reason_2 16 rfl rfl)
theorem dX4_reason_61 : decode cX4_reason 61 = .ok (.aload_n 0, 1) := dk_42 (dk_at dksX4_reason_2 17 rfl rfl)
theorem dX4_reason_62 : decode cX4_reason 62 = .ok (.iload_n 1, 1) := dk_27 (dk_at dksX4_reason_2 18 rfl rfl)
theorem dX4_reason_63 : decode cX4_reason 63 = .ok (.iload_n 1, 1) := dk_27 (dk_at dksX4_reason_2 19 rfl rfl)
theorem dX4_reason_64 : decode cX4_reason 64 = .ok (.iload_n 3, 1) := dk_29 (dk_at dksX4_reason_2 20 rfl rfl)
theorem dX4_reason_65 : decode cX4_reason 65 = .ok (.isub, 1) := dk_100 (dk_at dksX4_reason_2 21 rfl rfl)
theorem dX4_reason_66 : decode cX4_reason 66 = .ok (.invokevirtual 128, 3) := dk_182 0 128 (dk_at dksX4_reason_3 0 rfl rfl)
theorem dX4_reason_69 : decode cX4_reason 69 = .ok (.ifCond .ne 6, 3) := dk_154 0 6 (dk_at dksX4_reason_3 3 rfl rfl)
theorem dX4_reason_72 : decode cX4_reason 72 = .ok (.bipush 6, 2) := dk_16 6 (dk_at dksX4_reason_3 6 rfl rfl)
theorem dX4_reason_74 : decode cX4_reason 74 = .ok (.ireturn, 1) := dk_172 (dk_at dksX4_reason_3 8 rfl rfl)
theorem dX4_reason_75 : decode cX4_reason 75 = .ok (.aload_n 0, 1) := dk_42 (dk_at dksX4_reason_3 9 rfl rfl)
theorem dX4_reason_76 : decode cX4_reason 76 = .ok (.iload_n 1, 1) := dk_27 (dk_at dksX4_reason_3 10 rfl rfl)
theorem dX4_reason_77 : decode cX4_reason 77 = .ok (.iload_n 2, 1) := dk_28 (dk_at dksX4_reason_3 11 rfl rfl)
theorem dX4_reason_78 : decode cX4_reason 78 = .ok (.invokevirtual 131, 3) := dk_182 0 131 (dk_at dksX4_reason_3 12 rfl rfl)
theorem dX4_reason_81 : decode cX4_reason 81 = .ok (.ifCond .eq 8, 3) := dk_153 0 8 (dk_at dksX4_reason_3 15 rfl rfl)
theorem dX4_reason_84 : decode cX4_reason 84 = .ok (.bipush 7, 2) := dk_16 7 (dk_at dksX4_reason_3 18 rfl rfl)
theorem dX4_reason_86 : decode cX4_reason 86 = .ok (.goto 4, 3) := dk_167 0 4 (dk_at dksX4_reason_3 20 rfl rfl)
theorem dX4_reason_89 : decode cX4_reason 89 = .ok (.iconst 0, 1) := dk_3 (dk_at dksX4_reason_3 23 rfl rfl)
theorem dX4_reason_90 : decode cX4_reason 90 = .ok (.ireturn, 1) := dk_172 (dk_at dksX4_reason_4 0 rfl rfl)
abbrev cX4_isPinnedFrom : ByteArray := prog_14_method_24_code
def yX4_isPinnedFrom : MethodName := ⟨RX4, "isPinnedFrom", "(II)Z"⟩
def dkwX4_isPinnedFrom_1 : List UInt8 := [167, 255, 236, 3, 172]
abbrev dktX4_isPinnedFrom_1 : List UInt8 := dkwX4_isPinnedFrom_1 ++ []
def dkwX4_isPinnedFrom_0 : List UInt8 := [27, 62, 29, 27, 28, 96, 162, 0, 19, 42, 29, 182, 0, 117, 153, 0, 5, 4, 172, 132, 3, 1]
abbrev dktX4_isPinnedFrom_0 : List UInt8 := dkwX4_isPinnedFrom_0 ++ dktX4_isPinnedFrom_1
theorem dksX4_isPinnedFrom_0 : cX4_isPinnedFrom.data.toList.drop 0 = dktX4_isPinnedFrom_0 := by decide +kernel
theorem dksX4_isPinnedFrom_1 : cX4_isPinnedFrom.data.toList.drop 22 = dktX4_isPinnedFrom_1 := dk_seg dksX4_isPinnedFrom_0 22 rfl rfl
theorem dX4_isPinnedFrom_0 : decode cX4_isPinnedFrom 0 = .ok (.iload_n 1, 1) := dk_27 (dk_at dksX4_isPinnedFrom_0 0 rfl rfl)
theorem dX4_isPinnedFrom_1 : decode cX4_isPinnedFrom 1 = .ok (.istore_n 3, 1) := dk_62 (dk_at dksX4_isPinnedFrom_0 1 rfl rfl)
theorem dX4_isPinnedFrom_2 : decode cX4_isPinnedFrom 2 = .ok (.iload_n 3, 1) := dk_29 (dk_at dksX4_isPinnedFrom_0 2 rfl rfl)
theorem dX4_isPinnedFrom_3 : decode cX4_isPinnedFrom 3 = .ok (.iload_n 1, 1) := dk_27 (dk_at dksX4_isPinnedFrom_0 3 rfl rfl)
theorem dX4_isPinnedFrom_4 : decode cX4_isPinnedFrom 4 = .ok (.iload_n 2, 1) := dk_28 (dk_at dksX4_isPinnedFrom_0 4 rfl rfl)
theorem dX4_isPinnedFrom_5 : decode cX4_isPinnedFrom 5 = .ok (.iadd, 1) := dk_96 (dk_at dksX4_isPinnedFrom_0 5 rfl rfl)
theorem dX4_isPinnedFrom_6 : decode cX4_isPinnedFrom 6 = .ok (.if_icmp .ge 19, 3) := dk_162 0 19 (dk_at dksX4_isPinnedFrom_0 6 rfl rfl)
theorem dX4_isPinnedFrom_9 : decode cX4_isPinnedFrom 9 = .ok (.aload_n 0, 1) := dk_42 (dk_at dksX4_isPinnedFrom_0 9 rfl rfl)
theorem dX4_isPinnedFrom_10 : decode cX4_isPinnedFrom 10 = .ok (.iload_n 3, 1) := dk_29 (dk_at dksX4_isPinnedFrom_0 10 rfl rfl)
theorem dX4_isPinnedFrom_11 : decode cX4_isPinnedFrom 11 = .ok (.invokevirtual 117, 3) := dk_182 0 117 (dk_at dksX4_isPinnedFrom_0 11 rfl rfl)
theorem dX4_isPinnedFrom_14 : decode cX4_isPinnedFrom 14 = .ok (.ifCond .eq 5, 3) := dk_153 0 5 (dk_at dksX4_isPinnedFrom_0 14 rfl rfl)
theorem dX4_isPinnedFrom_17 : decode cX4_isPinnedFrom 17 = .ok (.iconst 1, 1) := dk_4 (dk_at dksX4_isPinnedFrom_0 17 rfl rfl)
theorem dX4_isPinnedFrom_18 : decode cX4_isPinnedFrom 18 = .ok (.ireturn, 1) := dk_172 (dk_at dksX4_isPinnedFrom_0 18 rfl rfl)
theorem dX4_isPinnedFrom_19 : decode cX4_isPinnedFrom 19 = .ok (.iinc 3 1, 3) := dk_132 3 1 (dk_at dksX4_isPinnedFrom_0 19 rfl rfl)
theorem dX4_isPinnedFrom_22 : decode cX4_isPinnedFrom 22 = .ok (.goto (-20), 3) := dk_167 255 236 (dk_at dksX4_isPinnedFrom_1 0 rfl rfl)
theorem dX4_isPinnedFrom_25 : decode cX4_isPinnedFrom 25 = .ok (.iconst 0, 1) := dk_3 (dk_at dksX4_isPinnedFrom_1 3 rfl rfl)
theorem dX4_isPinnedFrom_26 : decode cX4_isPinnedFrom 26 = .ok (.ireturn, 1) := dk_172 (dk_at dksX4_isPinnedFrom_1 4 rfl rfl)
abbrev cX4_same : ByteArray := prog_14_method_103_code
def yX4_same : MethodName := ⟨RX4, "same", "(II)I"⟩
def dkwX4_same_1 : List UInt8 := [164, 0, 7, 2, 167, 0, 9, 42, 27, 28, 182, 0, 125, 172]
abbrev dktX4_same_1 : List UInt8 := dkwX4_same_1 ++ []
def dkwX4_same_0 : List UInt8 := [42, 42, 27, 182, 1, 127, 28, 4, 16, 64, 184, 0, 121, 182, 1, 92, 154, 0, 5, 3, 172, 28, 27]
abbrev dktX4_same_0 : List UInt8 := dkwX4_same_0 ++ dktX4_same_1
theorem dksX4_same_0 : cX4_same.data.toList.drop 0 = dktX4_same_0 := by decide +kernel
theorem dksX4_same_1 : cX4_same.data.toList.drop 23 = dktX4_same_1 := dk_seg dksX4_same_0 23 rfl rfl
theorem dX4_same_0 : decode cX4_same 0 = .ok (.aload_n 0, 1) := dk_42 (dk_at dksX4_same_0 0 rfl rfl)
theorem dX4_same_1 : decode cX4_same 1 = .ok (.aload_n 0, 1) := dk_42 (dk_at dksX4_same_0 1 rfl rfl)
theorem dX4_same_2 : decode cX4_same 2 = .ok (.iload_n 1, 1) := dk_27 (dk_at dksX4_same_0 2 rfl rfl)
theorem dX4_same_3 : decode cX4_same 3 = .ok (.invokevirtual 383, 3) := dk_182 1 127 (dk_at dksX4_same_0 3 rfl rfl)
theorem dX4_same_6 : decode cX4_same 6 = .ok (.iload_n 2, 1) := dk_28 (dk_at dksX4_same_0 6 rfl rfl)
theorem dX4_same_7 : decode cX4_same 7 = .ok (.iconst 1, 1) := dk_4 (dk_at dksX4_same_0 7 rfl rfl)
theorem dX4_same_8 : decode cX4_same 8 = .ok (.bipush 64, 2) := dk_16 64 (dk_at dksX4_same_0 8 rfl rfl)
theorem dX4_same_10 : decode cX4_same 10 = .ok (.invokestatic 121, 3) := dk_184 0 121 (dk_at dksX4_same_0 10 rfl rfl)
theorem dX4_same_13 : decode cX4_same 13 = .ok (.invokevirtual 348, 3) := dk_182 1 92 (dk_at dksX4_same_0 13 rfl rfl)
theorem dX4_same_16 : decode cX4_same 16 = .ok (.ifCond .ne 5, 3) := dk_154 0 5 (dk_at dksX4_same_0 16 rfl rfl)
theorem dX4_same_19 : decode cX4_same 19 = .ok (.iconst 0, 1) := dk_3 (dk_at dksX4_same_0 19 rfl rfl)
theorem dX4_same_20 : decode cX4_same 20 = .ok (.ireturn, 1) := dk_172 (dk_at dksX4_same_0 20 rfl rfl)
theorem dX4_same_21 : decode cX4_same 21 = .ok (.iload_n 2, 1) := dk_28 (dk_at dksX4_same_0 21 rfl rfl)
theorem dX4_same_22 : decode cX4_same 22 = .ok (.iload_n 1, 1) := dk_27 (dk_at dksX4_same_0 22 rfl rfl)
theorem dX4_same_23 : decode cX4_same 23 = .ok (.if_icmp .le 7, 3) := dk_164 0 7 (dk_at dksX4_same_1 0 rfl rfl)
theorem dX4_same_26 : decode cX4_same 26 = .ok (.iconst (-1), 1) := dk_2 (dk_at dksX4_same_1 3 rfl rfl)
theorem dX4_same_27 : decode cX4_same 27 = .ok (.goto 9, 3) := dk_167 0 9 (dk_at dksX4_same_1 4 rfl rfl)
theorem dX4_same_30 : decode cX4_same 30 = .ok (.aload_n 0, 1) := dk_42 (dk_at dksX4_same_1 7 rfl rfl)
theorem dX4_same_31 : decode cX4_same 31 = .ok (.iload_n 1, 1) := dk_27 (dk_at dksX4_same_1 8 rfl rfl)
theorem dX4_same_32 : decode cX4_same 32 = .ok (.iload_n 2, 1) := dk_28 (dk_at dksX4_same_1 9 rfl rfl)
theorem dX4_same_33 : decode cX4_same 33 = .ok (.invokevirtual 125, 3) := dk_182 0 125 (dk_at dksX4_same_1 10 rfl rfl)
theorem dX4_same_36 : decode cX4_same 36 = .ok (.ireturn, 1) := dk_172 (dk_at dksX4_same_1 13 rfl rfl)
abbrev cX4_copyPrice : ByteArray := prog_14_method_104_code
def yX4_copyPrice : MethodName := ⟨RX4, "copyPrice", "(III)I"⟩
def dkwX4_copyPrice_1 : List UInt8 := [182, 1, 102, 153, 0, 13, 42, 27, 28, 29, 182, 0, 150, 167, 0, 4, 3, 172]
abbrev dktX4_copyPrice_1 : List UInt8 := dkwX4_copyPrice_1 ++ []
def dkwX4_copyPrice_0 : List UInt8 := [42, 27, 28, 184, 1, 136, 153, 0, 17, 29, 3, 16, 64, 184, 0, 121, 153, 0, 7, 4, 167, 0, 4, 3]
abbrev dktX4_copyPrice_0 : List UInt8 := dkwX4_copyPrice_0 ++ dktX4_copyPrice_1
theorem dksX4_copyPrice_0 : cX4_copyPrice.data.toList.drop 0 = dktX4_copyPrice_0 := by decide +kernel
theorem dksX4_copyPrice_1 : cX4_copyPrice.data.toList.drop 24 = dktX4_copyPrice_1 := dk_seg dksX4_copyPrice_0 24 rfl rfl
theorem dX4_copyPrice_0 : decode cX4_copyPrice 0 = .ok (.aload_n 0, 1) := dk_42 (dk_at dksX4_copyPrice_0 0 rfl rfl)
theorem dX4_copyPrice_1 : decode cX4_copyPrice 1 = .ok (.iload_n 1, 1) := dk_27 (dk_at dksX4_copyPrice_0 1 rfl rfl)
theorem dX4_copyPrice_2 : decode cX4_copyPrice 2 = .ok (.iload_n 2, 1) := dk_28 (dk_at dksX4_copyPrice_0 2 rfl rfl)
theorem dX4_copyPrice_3 : decode cX4_copyPrice 3 = .ok (.invokestatic 392, 3) := dk_184 1 136 (dk_at dksX4_copyPrice_0 3 rfl rfl)
theorem dX4_copyPrice_6 : decode cX4_copyPrice 6 = .ok (.ifCond .eq 17, 3) := dk_153 0 17 (dk_at dksX4_copyPrice_0 6 rfl rfl)
theorem dX4_copyPrice_9 : decode cX4_copyPrice 9 = .ok (.iload_n 3, 1) := dk_29 (dk_at dksX4_copyPrice_0 9 rfl rfl)
theorem dX4_copyPrice_10 : decode cX4_copyPrice 10 = .ok (.iconst 0, 1) := dk_3 (dk_at dksX4_copyPrice_0 10 rfl rfl)
theorem dX4_copyPrice_11 : decode cX4_copyPrice 11 = .ok (.bipush 64, 2) := dk_16 64 (dk_at dksX4_copyPrice_0 11 rfl rfl)
theorem dX4_copyPrice_13 : decode cX4_copyPrice 13 = .ok (.invokestatic 121, 3) := dk_184 0 121 (dk_at dksX4_copyPrice_0 13 rfl rfl)
theorem dX4_copyPrice_16 : decode cX4_copyPrice 16 = .ok (.ifCond .eq 7, 3) := dk_153 0 7 (dk_at dksX4_copyPrice_0 16 rfl rfl)
theorem dX4_copyPrice_19 : decode cX4_copyPrice 19 = .ok (.iconst 1, 1) := dk_4 (dk_at dksX4_copyPrice_0 19 rfl rfl)
theorem dX4_copyPrice_20 : decode cX4_copyPrice 20 = .ok (.goto 4, 3) := dk_167 0 4 (dk_at dksX4_copyPrice_0 20 rfl rfl)
theorem dX4_copyPrice_23 : decode cX4_copyPrice 23 = .ok (.iconst 0, 1) := dk_3 (dk_at dksX4_copyPrice_0 23 rfl rfl)
theorem dX4_copyPrice_24 : decode cX4_copyPrice 24 = .ok (.invokevirtual 358, 3) := dk_182 1 102 (dk_at dksX4_copyPrice_1 0 rfl rfl)
theorem dX4_copyPrice_27 : decode cX4_copyPrice 27 = .ok (.ifCond .eq 13, 3) := dk_153 0 13 (dk_at dksX4_copyPrice_1 3 rfl rfl)
theorem dX4_copyPrice_30 : decode cX4_copyPrice 30 = .ok (.aload_n 0, 1) := dk_42 (dk_at dksX4_copyPrice_1 6 rfl rfl)
theorem dX4_copyPrice_31 : decode cX4_copyPrice 31 = .ok (.iload_n 1, 1) := dk_27 (dk_at dksX4_copyPrice_1 7 rfl rfl)
theorem dX4_copyPrice_32 : decode cX4_copyPrice 32 = .ok (.iload_n 2, 1) := dk_28 (dk_at dksX4_copyPrice_1 8 rfl rfl)
theorem dX4_copyPrice_33 : decode cX4_copyPrice 33 = .ok (.iload_n 3, 1) := dk_29 (dk_at dksX4_copyPrice_1 9 rfl rfl)
theorem dX4_copyPrice_34 : decode cX4_copyPrice 34 = .ok (.invokevirtual 150, 3) := dk_182 0 150 (dk_at dksX4_copyPrice_1 10 rfl rfl)
theorem dX4_copyPrice_37 : decode cX4_copyPrice 37 = .ok (.goto 4, 3) := dk_167 0 4 (dk_at dksX4_copyPrice_1 13 rfl rfl)
theorem dX4_copyPrice_40 : decode cX4_copyPrice 40 = .ok (.iconst 0, 1) := dk_3 (dk_at dksX4_copyPrice_1 16 rfl rfl)
theorem dX4_copyPrice_41 : decode cX4_copyPrice 41 = .ok (.ireturn, 1) := dk_172 (dk_at dksX4_copyPrice_1 17 rfl rfl)
abbrev cX4_copyCost : ByteArray := prog_14_method_33_code
def yX4_copyCost : MethodName := ⟨RX4, "copyCost", "(III)I"⟩
def dkwX4_copyCost_1 : List UInt8 := [184, 0, 146, 104, 96, 54, 4, 42, 6, 182, 0, 143, 27, 184, 0, 146, 104, 21, 4, 96, 172]
abbrev dktX4_copyCost_1 : List UInt8 := dkwX4_copyCost_1 ++ []
def dkwX4_copyCost_0 : List UInt8 := [28, 29, 160, 0, 11, 42, 7, 182, 0, 143, 167, 0, 19, 42, 4, 182, 0, 143, 42, 5, 182, 0, 143, 28]
abbrev dktX4_copyCost_0 : List UInt8 := dkwX4_copyCost_0 ++ dktX4_copyCost_1
theorem dksX4_copyCost_0 : cX4_copyCost.data.toList.drop 0 = dktX4_copyCost_0 := by decide +kernel
theorem dksX4_copyCost_1 : cX4_copyCost.data.toList.drop 24 = dktX4_copyCost_1 := dk_seg dksX4_copyCost_0 24 rfl rfl
theorem dX4_copyCost_0 : decode cX4_copyCost 0 = .ok (.iload_n 2, 1) := dk_28 (dk_at dksX4_copyCost_0 0 rfl rfl)
theorem dX4_copyCost_1 : decode cX4_copyCost 1 = .ok (.iload_n 3, 1) := dk_29 (dk_at dksX4_copyCost_0 1 rfl rfl)
theorem dX4_copyCost_2 : decode cX4_copyCost 2 = .ok (.if_icmp .ne 11, 3) := dk_160 0 11 (dk_at dksX4_copyCost_0 2 rfl rfl)
theorem dX4_copyCost_5 : decode cX4_copyCost 5 = .ok (.aload_n 0, 1) := dk_42 (dk_at dksX4_copyCost_0 5 rfl rfl)
theorem dX4_copyCost_6 : decode cX4_copyCost 6 = .ok (.iconst 4, 1) := dk_7 (dk_at dksX4_copyCost_0 6 rfl rfl)
theorem dX4_copyCost_7 : decode cX4_copyCost 7 = .ok (.invokevirtual 143, 3) := dk_182 0 143 (dk_at dksX4_copyCost_0 7 rfl rfl)
theorem dX4_copyCost_10 : decode cX4_copyCost 10 = .ok (.goto 19, 3) := dk_167 0 19 (dk_at dksX4_copyCost_0 10 rfl rfl)
theorem dX4_copyCost_13 : decode cX4_copyCost 13 = .ok (.aload_n 0, 1) := dk_42 (dk_at dksX4_copyCost_0 13 rfl rfl)
theorem dX4_copyCost_14 : decode cX4_copyCost 14 = .ok (.iconst 1, 1) := dk_4 (dk_at dksX4_copyCost_0 14 rfl rfl)
theorem dX4_copyCost_15 : decode cX4_copyCost 15 = .ok (.invokevirtual 143, 3) := dk_182 0 143 (dk_at dksX4_copyCost_0 15 rfl rfl)
theorem dX4_copyCost_18 : decode cX4_copyCost 18 = .ok (.aload_n 0, 1) := dk_42 (dk_at dksX4_copyCost_0 18 rfl rfl)
theorem dX4_copyCost_19 : decode cX4_copyCost 19 = .ok (.iconst 2, 1) := dk_5 (dk_at dksX4_copyCost_0 19 rfl rfl)
theorem dX4_copyCost_20 : decode cX4_copyCost 20 = .ok (.invokevirtual 143, 3) := dk_182 0 143 (dk_at dksX4_copyCost_0 20 rfl rfl)
theorem dX4_copyCost_23 : decode cX4_copyCost 23 = .ok (.iload_n 2, 1) := dk_28 (dk_at dksX4_copyCost_0 23 rfl rfl)
theorem dX4_copyCost_24 : decode cX4_copyCost 24 = .ok (.invokestatic 146, 3) := dk_184 0 146 (dk_at dksX4_copyCost_1 0 rfl rfl)
theorem dX4_copyCost_27 : decode cX4_copyCost 27 = .ok (.imul, 1) := dk_104 (dk_at dksX4_copyCost_1 3 rfl rfl)
theorem dX4_copyCost_28 : decode cX4_copyCost 28 = .ok (.iadd, 1) := dk_96 (dk_at dksX4_copyCost_1 4 rfl rfl)
theorem dX4_copyCost_29 : decode cX4_copyCost 29 = .ok (.istore 4, 2) := dk_54 4 (dk_at dksX4_copyCost_1 5 rfl rfl)
theorem dX4_copyCost_31 : decode cX4_copyCost 31 = .ok (.aload_n 0, 1) := dk_42 (dk_at dksX4_copyCost_1 7 rfl rfl)
theorem dX4_copyCost_32 : decode cX4_copyCost 32 = .ok (.iconst 3, 1) := dk_6 (dk_at dksX4_copyCost_1 8 rfl rfl)
theorem dX4_copyCost_33 : decode cX4_copyCost 33 = .ok (.invokevirtual 143, 3) := dk_182 0 143 (dk_at dksX4_copyCost_1 9 rfl rfl)
theorem dX4_copyCost_36 : decode cX4_copyCost 36 = .ok (.iload_n 1, 1) := dk_27 (dk_at dksX4_copyCost_1 12 rfl rfl)
theorem dX4_copyCost_37 : decode cX4_copyCost 37 = .ok (.invokestatic 146, 3) := dk_184 0 146 (dk_at dksX4_copyCost_1 13 rfl rfl)
theorem dX4_copyCost_40 : decode cX4_copyCost 40 = .ok (.imul, 1) := dk_104 (dk_at dksX4_copyCost_1 16 rfl rfl)
theorem dX4_copyCost_41 : decode cX4_copyCost 41 = .ok (.iload 4, 2) := dk_21 4 (dk_at dksX4_copyCost_1 17 rfl rfl)
theorem dX4_copyCost_43 : decode cX4_copyCost 43 = .ok (.iadd, 1) := dk_96 (dk_at dksX4_copyCost_1 19 rfl rfl)
theorem dX4_copyCost_44 : decode cX4_copyCost 44 = .ok (.ireturn, 1) := dk_172 (dk_at dksX4_copyCost_1 20 rfl rfl)
abbrev cX4_bitsOf : ByteArray := prog_14_method_32_code
def yX4_bitsOf : MethodName := ⟨RX4, "bitsOf", "(I)I"⟩
def dkwX4_bitsOf_0 : List UInt8 := [3, 60, 26, 61, 28, 158, 0, 14, 27, 4, 96, 60, 28, 5, 108, 61, 167, 255, 244, 27, 172]
abbrev dktX4_bitsOf_0 : List UInt8 := dkwX4_bitsOf_0 ++ []
theorem dksX4_bitsOf_0 : cX4_bitsOf.data.toList.drop 0 = dktX4_bitsOf_0 := by decide +kernel
theorem dX4_bitsOf_0 : decode cX4_bitsOf 0 = .ok (.iconst 0, 1) := dk_3 (dk_at dksX4_bitsOf_0 0 rfl rfl)
theorem dX4_bitsOf_1 : decode cX4_bitsOf 1 = .ok (.istore_n 1, 1) := dk_60 (dk_at dksX4_bitsOf_0 1 rfl rfl)
theorem dX4_bitsOf_2 : decode cX4_bitsOf 2 = .ok (.iload_n 0, 1) := dk_26 (dk_at dksX4_bitsOf_0 2 rfl rfl)
theorem dX4_bitsOf_3 : decode cX4_bitsOf 3 = .ok (.istore_n 2, 1) := dk_61 (dk_at dksX4_bitsOf_0 3 rfl rfl)
theorem dX4_bitsOf_4 : decode cX4_bitsOf 4 = .ok (.iload_n 2, 1) := dk_28 (dk_at dksX4_bitsOf_0 4 rfl rfl)
theorem dX4_bitsOf_5 : decode cX4_bitsOf 5 = .ok (.ifCond .le 14, 3) := dk_158 0 14 (dk_at dksX4_bitsOf_0 5 rfl rfl)
theorem dX4_bitsOf_8 : decode cX4_bitsOf 8 = .ok (.iload_n 1, 1) := dk_27 (dk_at dksX4_bitsOf_0 8 rfl rfl)
theorem dX4_bitsOf_9 : decode cX4_bitsOf 9 = .ok (.iconst 1, 1) := dk_4 (dk_at dksX4_bitsOf_0 9 rfl rfl)
theorem dX4_bitsOf_10 : decode cX4_bitsOf 10 = .ok (.iadd, 1) := dk_96 (dk_at dksX4_bitsOf_0 10 rfl rfl)
theorem dX4_bitsOf_11 : decode cX4_bitsOf 11 = .ok (.istore_n 1, 1) := dk_60 (dk_at dksX4_bitsOf_0 11 rfl rfl)
theorem dX4_bitsOf_12 : decode cX4_bitsOf 12 = .ok (.iload_n 2, 1) := dk_28 (dk_at dksX4_bitsOf_0 12 rfl rfl)
theorem dX4_bitsOf_13 : decode cX4_bitsOf 13 = .ok (.iconst 2, 1) := dk_5 (dk_at dksX4_bitsOf_0 13 rfl rfl)
theorem dX4_bitsOf_14 : decode cX4_bitsOf 14 = .ok (.idiv, 1) := dk_108 (dk_at dksX4_bitsOf_0 14 rfl rfl)
theorem dX4_bitsOf_15 : decode cX4_bitsOf 15 = .ok (.istore_n 2, 1) := dk_61 (dk_at dksX4_bitsOf_0 15 rfl rfl)
theorem dX4_bitsOf_16 : decode cX4_bitsOf 16 = .ok (.goto (-12), 3) := dk_167 255 244 (dk_at dksX4_bitsOf_0 16 rfl rfl)
theorem dX4_bitsOf_19 : decode cX4_bitsOf 19 = .ok (.iload_n 1, 1) := dk_27 (dk_at dksX4_bitsOf_0 19 rfl rfl)
theorem dX4_bitsOf_20 : decode cX4_bitsOf 20 = .ok (.ireturn, 1) := dk_172 (dk_at dksX4_bitsOf_0 20 rfl rfl)
abbrev cX4_steps : ByteArray := prog_14_method_105_code
def yX4_steps : MethodName := ⟨RX4, "steps", "(I)I"⟩
def dkwX4_steps_0 : List UInt8 := [42, 27, 184, 1, 142, 182, 1, 102, 154, 0, 5, 3, 172, 42, 27, 182, 0, 217, 42, 180, 0, 179, 172]
abbrev dktX4_steps_0 : List UInt8 := dkwX4_steps_0 ++ []
theorem dksX4_steps_0 : cX4_steps.data.toList.drop 0 = dktX4_steps_0 := by decide +kernel
theorem dX4_steps_0 : decode cX4_steps 0 = .ok (.aload_n 0, 1) := dk_42 (dk_at dksX4_steps_0 0 rfl rfl)
theorem dX4_steps_1 : decode cX4_steps 1 = .ok (.iload_n 1, 1) := dk_27 (dk_at dksX4_steps_0 1 rfl rfl)
theorem dX4_steps_2 : decode cX4_steps 2 = .ok (.invokestatic 398, 3) := dk_184 1 142 (dk_at dksX4_steps_0 2 rfl rfl)
theorem dX4_steps_5 : decode cX4_steps 5 = .ok (.invokevirtual 358, 3) := dk_182 1 102 (dk_at dksX4_steps_0 5 rfl rfl)
theorem dX4_steps_8 : decode cX4_steps 8 = .ok (.ifCond .ne 5, 3) := dk_154 0 5 (dk_at dksX4_steps_0 8 rfl rfl)
theorem dX4_steps_11 : decode cX4_steps 11 = .ok (.iconst 0, 1) := dk_3 (dk_at dksX4_steps_0 11 rfl rfl)
theorem dX4_steps_12 : decode cX4_steps 12 = .ok (.ireturn, 1) := dk_172 (dk_at dksX4_steps_0 12 rfl rfl)
theorem dX4_steps_13 : decode cX4_steps 13 = .ok (.aload_n 0, 1) := dk_42 (dk_at dksX4_steps_0 13 rfl rfl)
theorem dX4_steps_14 : decode cX4_steps 14 = .ok (.iload_n 1, 1) := dk_27 (dk_at dksX4_steps_0 14 rfl rfl)
theorem dX4_steps_15 : decode cX4_steps 15 = .ok (.invokevirtual 217, 3) := dk_182 0 217 (dk_at dksX4_steps_0 15 rfl rfl)
theorem dX4_steps_18 : decode cX4_steps 18 = .ok (.aload_n 0, 1) := dk_42 (dk_at dksX4_steps_0 18 rfl rfl)
theorem dX4_steps_19 : decode cX4_steps 19 = .ok (.getfield 179, 3) := dk_180 0 179 (dk_at dksX4_steps_0 19 rfl rfl)
theorem dX4_steps_22 : decode cX4_steps 22 = .ok (.ireturn, 1) := dk_172 (dk_at dksX4_steps_0 22 rfl rfl)
abbrev cX4_isKind : ByteArray := prog_14_method_94_code
def yX4_isKind : MethodName := ⟨RX4, "isKind", "(I)Z"⟩
def dkwX4_isKind_0 : List UInt8 := [26, 3, 6, 184, 0, 121, 172]
abbrev dktX4_isKind_0 : List UInt8 := dkwX4_isKind_0 ++ []
theorem dksX4_isKind_0 : cX4_isKind.data.toList.drop 0 = dktX4_isKind_0 := by decide +kernel
theorem dX4_isKind_0 : decode cX4_isKind 0 = .ok (.iload_n 0, 1) := dk_26 (dk_at dksX4_isKind_0 0 rfl rfl)
theorem dX4_isKind_1 : decode cX4_isKind 1 = .ok (.iconst 0, 1) := dk_3 (dk_at dksX4_isKind_0 1 rfl rfl)
theorem dX4_isKind_2 : decode cX4_isKind 2 = .ok (.iconst 3, 1) := dk_6 (dk_at dksX4_isKind_0 2 rfl rfl)
theorem dX4_isKind_3 : decode cX4_isKind 3 = .ok (.invokestatic 121, 3) := dk_184 0 121 (dk_at dksX4_isKind_0 3 rfl rfl)
theorem dX4_isKind_6 : decode cX4_isKind 6 = .ok (.ireturn, 1) := dk_172 (dk_at dksX4_isKind_0 6 rfl rfl)
abbrev cX4_laysParse : ByteArray := prog_14_method_53_code
def yX4_laysParse : MethodName := ⟨RX4, "laysParse", "(I)V"⟩
def dkwX4_laysParse_3 : List UInt8 := [182, 0, 213, 167, 255, 206, 177]
abbrev dktX4_laysParse_3 : List UInt8 := dkwX4_laysParse_3 ++ []
def dkwX4_laysParse_2 : List UInt8 := [6, 160, 0, 10, 42, 182, 0, 210, 167, 255, 223, 42, 27, 5, 160, 0, 7, 4, 167, 0, 4, 3]
abbrev dktX4_laysParse_2 : List UInt8 := dkwX4_laysParse_2 ++ dktX4_laysParse_3
def dkwX4_laysParse_1 : List UInt8 := [182, 0, 182, 42, 182, 0, 86, 162, 0, 45, 27, 154, 0, 12, 42, 4, 3, 182, 0, 200, 167, 255, 235, 27]
abbrev dktX4_laysParse_1 : List UInt8 := dkwX4_laysParse_1 ++ dktX4_laysParse_2
def dkwX4_laysParse_0 : List UInt8 := [42, 3, 181, 0, 179, 27, 6, 160, 0, 11, 42, 182, 0, 207, 61, 167, 0, 7, 42, 182, 0, 165, 42]
abbrev dktX4_laysParse_0 : List UInt8 := dkwX4_laysParse_0 ++ dktX4_laysParse_1
theorem dksX4_laysParse_0 : cX4_laysParse.data.toList.drop 0 = dktX4_laysParse_0 := by decide +kernel
theorem dksX4_laysParse_1 : cX4_laysParse.data.toList.drop 23 = dktX4_laysParse_1 := dk_seg dksX4_laysParse_0 23 rfl rfl
theorem dksX4_laysParse_2 : cX4_laysParse.data.toList.drop 47 = dktX4_laysParse_2 := dk_seg dksX4_laysParse_1 24 rfl rfl
theorem dksX4_laysParse_3 : cX4_laysParse.data.toList.drop 69 = dktX4_laysParse_3 := dk_seg dksX4_laysParse_2 22 rfl rfl
theorem dX4_laysParse_0 : decode cX4_laysParse 0 = .ok (.aload_n 0, 1) := dk_42 (dk_at dksX4_laysParse_0 0 rfl rfl)
theorem dX4_laysParse_1 : decode cX4_laysParse 1 = .ok (.iconst 0, 1) := dk_3 (dk_at dksX4_laysParse_0 1 rfl rfl)
theorem dX4_laysParse_2 : decode cX4_laysParse 2 = .ok (.putfield 179, 3) := dk_181 0 179 (dk_at dksX4_laysParse_0 2 rfl rfl)
theorem dX4_laysParse_5 : decode cX4_laysParse 5 = .ok (.iload_n 1, 1) := dk_27 (dk_at dksX4_laysParse_0 5 rfl rfl)
theorem dX4_laysParse_6 : decode cX4_laysParse 6 = .ok (.iconst 3, 1) := dk_6 (dk_at dksX4_laysParse_0 6 rfl rfl)
theorem dX4_laysParse_7 : decode cX4_laysParse 7 = .ok (.if_icmp .ne 11, 3) := dk_160 0 11 (dk_at dksX4_laysParse_0 7 rfl rfl)
theorem dX4_laysParse_10 : decode cX4_laysParse 10 = .ok (.aload_n 0, 1) := dk_42 (dk_at dksX4_laysParse_0 10 rfl rfl)
theorem dX4_laysParse_11 : decode cX4_laysParse 11 = .ok (.invokevirtual 207, 3) := dk_182 0 207 (dk_at dksX4_laysParse_0 11 rfl rfl)
theorem dX4_laysParse_14 : decode cX4_laysParse 14 = .ok (.istore_n 2, 1) := dk_61 (dk_at dksX4_laysParse_0 14 rfl rfl)
theorem dX4_laysParse_15 : decode cX4_laysParse 15 = .ok (.goto 7, 3) := dk_167 0 7 (dk_at dksX4_laysParse_0 15 rfl rfl)
theorem dX4_laysParse_18 : decode cX4_laysParse 18 = .ok (.aload_n 0, 1) := dk_42 (dk_at dksX4_laysParse_0 18 rfl rfl)
theorem dX4_laysParse_19 : decode cX4_laysParse 19 = .ok (.invokevirtual 165, 3) := dk_182 0 165 (dk_at dksX4_laysParse_0 19 rfl rfl)
theorem dX4_laysParse_22 : decode cX4_laysParse 22 = .ok (.aload_n 0, 1) := dk_42 (dk_at dksX4_laysParse_0 22 rfl rfl)
theorem dX4_laysParse_23 : decode cX4_laysParse 23 = .ok (.invokevirtual 182, 3) := dk_182 0 182 (dk_at dksX4_laysParse_1 0 rfl rfl)
theorem dX4_laysParse_26 : decode cX4_laysParse 26 = .ok (.aload_n 0, 1) := dk_42 (dk_at dksX4_laysParse_1 3 rfl rfl)
theorem dX4_laysParse_27 : decode cX4_laysParse 27 = .ok (.invokevirtual 86, 3) := dk_182 0 86 (dk_at dksX4_laysParse_1 4 rfl rfl)
theorem dX4_laysParse_30 : decode cX4_laysParse 30 = .ok (.if_icmp .ge 45, 3) := dk_162 0 45 (dk_at dksX4_laysParse_1 7 rfl rfl)
theorem dX4_laysParse_33 : decode cX4_laysParse 33 = .ok (.iload_n 1, 1) := dk_27 (dk_at dksX4_laysParse_1 10 rfl rfl)
theorem dX4_laysParse_34 : decode cX4_laysParse 34 = .ok (.ifCond .ne 12, 3) := dk_154 0 12 (dk_at dksX4_laysParse_1 11 rfl rfl)
theorem dX4_laysParse_37 : decode cX4_laysParse 37 = .ok (.aload_n 0, 1) := dk_42 (dk_at dksX4_laysParse_1 14 rfl rfl)
theorem dX4_laysParse_38 : decode cX4_laysParse 38 = .ok (.iconst 1, 1) := dk_4 (dk_at dksX4_laysParse_1 15 rfl rfl)
theorem dX4_laysParse_39 : decode cX4_laysParse 39 = .ok (.iconst 0, 1) := dk_3 (dk_at dksX4_laysParse_1 16 rfl rfl)
theorem dX4_laysParse_40 : decode cX4_laysParse 40 = .ok (.invokevirtual 200, 3) := dk_182 0 200 (dk_at dksX4_laysParse_1 17 rfl rfl)
theorem dX4_laysParse_43 : decode cX4_laysParse 43 = .ok (.goto (-21), 3) := dk_167 255 235 (dk_at dksX4_laysParse_1 20 rfl rfl)
theorem dX4_laysParse_46 : decode cX4_laysParse 46 = .ok (.iload_n 1, 1) := dk_27 (dk_at dksX4_laysParse_1 23 rfl rfl)
theorem dX4_laysParse_47 : decode cX4_laysParse 47 = .ok (.iconst 3, 1) := dk_6 (dk_at dksX4_laysParse_2 0 rfl rfl)
theorem dX4_laysParse_48 : decode cX4_laysParse 48 = .ok (.if_icmp .ne 10, 3) := dk_160 0 10 (dk_at dksX4_laysParse_2 1 rfl rfl)
theorem dX4_laysParse_51 : decode cX4_laysParse 51 = .ok (.aload_n 0, 1) := dk_42 (dk_at dksX4_laysParse_2 4 rfl rfl)
theorem dX4_laysParse_52 : decode cX4_laysParse 52 = .ok (.invokevirtual 210, 3) := dk_182 0 210 (dk_at dksX4_laysParse_2 5 rfl rfl)
theorem dX4_laysParse_55 : decode cX4_laysParse 55 = .ok (.goto (-33), 3) := dk_167 255 223 (dk_at dksX4_laysParse_2 8 rfl rfl)
theorem dX4_laysParse_58 : decode cX4_laysParse 58 = .ok (.aload_n 0, 1) := dk_42 (dk_at dksX4_laysParse_2 11 rfl rfl)
theorem dX4_laysParse_59 : decode cX4_laysParse 59 = .ok (.iload_n 1, 1) := dk_27 (dk_at dksX4_laysParse_2 12 rfl rfl)
theorem dX4_laysParse_60 : decode cX4_laysParse 60 = .ok (.iconst 2, 1) := dk_5 (dk_at dksX4_laysParse_2 13 rfl rfl)
theorem dX4_laysParse_61 : decode cX4_laysParse 61 = .ok (.if_icmp .ne 7, 3) := dk_160 0 7 (dk_at dksX4_laysParse_2 14 rfl rfl)
theorem dX4_laysParse_64 : decode cX4_laysParse 64 = .ok (.iconst 1, 1) := dk_4 (dk_at dksX4_laysParse_2 17 rfl rfl)
theorem dX4_laysParse_65 : decode cX4_laysParse 65 = .ok (.goto 4, 3) := dk_167 0 4 (dk_at dksX4_laysParse_2 18 rfl rfl)
theorem dX4_laysParse_68 : decode cX4_laysParse 68 = .ok (.iconst 0, 1) := dk_3 (dk_at dksX4_laysParse_2 21 rfl rfl)
theorem dX4_laysParse_69 : decode cX4_laysParse 69 = .ok (.invokevirtual 213, 3) := dk_182 0 213 (dk_at dksX4_laysParse_3 0 rfl rfl)
theorem dX4_laysParse_72 : decode cX4_laysParse 72 = .ok (.goto (-50), 3) := dk_167 255 206 (dk_at dksX4_laysParse_3 3 rfl rfl)
theorem dX4_laysParse_75 : decode cX4_laysParse 75 = .ok (.return_, 1) := dk_177 (dk_at dksX4_laysParse_3 6 rfl rfl)
abbrev cX4_laysRest : ByteArray := prog_14_method_38_code
def yX4_laysRest : MethodName := ⟨RX4, "laysRest", "()I"⟩
def dkwX4_laysRest_3 : List UInt8 := [167, 255, 244, 42, 180, 0, 32, 3, 3, 3, 184, 0, 154, 46, 172]
abbrev dktX4_laysRest_3 : List UInt8 := dkwX4_laysRest_3 ++ []
def dkwX4_laysRest_2 : List UInt8 := [167, 255, 217, 42, 182, 0, 86, 4, 100, 60, 27, 155, 0, 14, 42, 27, 182, 0, 168, 132, 1, 255]
abbrev dktX4_laysRest_2 : List UInt8 := dkwX4_laysRest_2 ++ dktX4_laysRest_3
def dkwX4_laysRest_1 : List UInt8 := [184, 0, 154, 3, 79, 42, 180, 0, 32, 42, 182, 0, 86, 27, 4, 184, 0, 154, 3, 79, 132, 1, 1]
abbrev dktX4_laysRest_1 : List UInt8 := dkwX4_laysRest_1 ++ dktX4_laysRest_2
def dkwX4_laysRest_0 : List UInt8 := [42, 182, 0, 165, 3, 60, 27, 16, 33, 162, 0, 39, 42, 180, 0, 32, 42, 182, 0, 86, 27, 3]
abbrev dktX4_laysRest_0 : List UInt8 := dkwX4_laysRest_0 ++ dktX4_laysRest_1
theorem dksX4_laysRest_0 : cX4_laysRest.data.toList.drop 0 = dktX4_laysRest_0 := by decide +kernel
theorem dksX4_laysRest_1 : cX4_laysRest.data.toList.drop 22 = dktX4_laysRest_1 := dk_seg dksX4_laysRest_0 22 rfl rfl
theorem dksX4_laysRest_2 : cX4_laysRest.data.toList.drop 45 = dktX4_laysRest_2 := dk_seg dksX4_laysRest_1 23 rfl rfl
theorem dksX4_laysRest_3 : cX4_laysRest.data.toList.drop 67 = dktX4_laysRest_3 := dk_seg dksX4_laysRest_2 22 rfl rfl
theorem dX4_laysRest_0 : decode cX4_laysRest 0 = .ok (.aload_n 0, 1) := dk_42 (dk_at dksX4_laysRest_0 0 rfl rfl)
theorem dX4_laysRest_1 : decode cX4_laysRest 1 = .ok (.invokevirtual 165, 3) := dk_182 0 165 (dk_at dksX4_laysRest_0 1 rfl rfl)
theorem dX4_laysRest_4 : decode cX4_laysRest 4 = .ok (.iconst 0, 1) := dk_3 (dk_at dksX4_laysRest_0 4 rfl rfl)
theorem dX4_laysRest_5 : decode cX4_laysRest 5 = .ok (.istore_n 1, 1) := dk_60 (dk_at dksX4_laysRest_0 5 rfl rfl)
theorem dX4_laysRest_6 : decode cX4_laysRest 6 = .ok (.iload_n 1, 1) := dk_27 (dk_at dksX4_laysRest_0 6 rfl rfl)
theorem dX4_laysRest_7 : decode cX4_laysRest 7 = .ok (.bipush 33, 2) := dk_16 33 (dk_at dksX4_laysRest_0 7 rfl rfl)
theorem dX4_laysRest_9 : decode cX4_laysRest 9 = .ok (.if_icmp .ge 39, 3) := dk_162 0 39 (dk_at dksX4_laysRest_0 9 rfl rfl)
theorem dX4_laysRest_12 : decode cX4_laysRest 12 = .ok (.aload_n 0, 1) := dk_42 (dk_at dksX4_laysRest_0 12 rfl rfl)
theorem dX4_laysRest_13 : decode cX4_laysRest 13 = .ok (.getfield 32, 3) := dk_180 0 32 (dk_at dksX4_laysRest_0 13 rfl rfl)
theorem dX4_laysRest_16 : decode cX4_laysRest 16 = .ok (.aload_n 0, 1) := dk_42 (dk_at dksX4_laysRest_0 16 rfl rfl)
theorem dX4_laysRest_17 : decode cX4_laysRest 17 = .ok (.invokevirtual 86, 3) := dk_182 0 86 (dk_at dksX4_laysRest_0 17 rfl rfl)
theorem dX4_laysRest_20 : decode cX4_laysRest 20 = .ok (.iload_n 1, 1) := dk_27 (dk_at dksX4_laysRest_0 20 rfl rfl)
theorem dX4_laysRest_21 : decode cX4_laysRest 21 = .ok (.iconst 0, 1) := dk_3 (dk_at dksX4_laysRest_0 21 rfl rfl)
theorem dX4_laysRest_22 : decode cX4_laysRest 22 = .ok (.invokestatic 154, 3) := dk_184 0 154 (dk_at dksX4_laysRest_1 0 rfl rfl)
theorem dX4_laysRest_25 : decode cX4_laysRest 25 = .ok (.iconst 0, 1) := dk_3 (dk_at dksX4_laysRest_1 3 rfl rfl)
theorem dX4_laysRest_26 : decode cX4_laysRest 26 = .ok (.iastore, 1) := dk_79 (dk_at dksX4_laysRest_1 4 rfl rfl)
theorem dX4_laysRest_27 : decode cX4_laysRest 27 = .ok (.aload_n 0, 1) := dk_42 (dk_at dksX4_laysRest_1 5 rfl rfl)
theorem dX4_laysRest_28 : decode cX4_laysRest 28 = .ok (.getfield 32, 3) := dk_180 0 32 (dk_at dksX4_laysRest_1 6 rfl rfl)
theorem dX4_laysRest_31 : decode cX4_laysRest 31 = .ok (.aload_n 0, 1) := dk_42 (dk_at dksX4_laysRest_1 9 rfl rfl)
theorem dX4_laysRest_32 : decode cX4_laysRest 32 = .ok (.invokevirtual 86, 3) := dk_182 0 86 (dk_at dksX4_laysRest_1 10 rfl rfl)
theorem dX4_laysRest_35 : decode cX4_laysRest 35 = .ok (.iload_n 1, 1) := dk_27 (dk_at dksX4_laysRest_1 13 rfl rfl)
theorem dX4_laysRest_36 : decode cX4_laysRest 36 = .ok (.iconst 1, 1) := dk_4 (dk_at dksX4_laysRest_1 14 rfl rfl)
theorem dX4_laysRest_37 : decode cX4_laysRest 37 = .ok (.invokestatic 154, 3) := dk_184 0 154 (dk_at dksX4_laysRest_1 15 rfl rfl)
theorem dX4_laysRest_40 : decode cX4_laysRest 40 = .ok (.iconst 0, 1) := dk_3 (dk_at dksX4_laysRest_1 18 rfl rfl)
theorem dX4_laysRest_41 : decode cX4_laysRest 41 = .ok (.iastore, 1) := dk_79 (dk_at dksX4_laysRest_1 19 rfl rfl)
theorem dX4_laysRest_42 : decode cX4_laysRest 42 = .ok (.iinc 1 1, 3) := dk_132 1 1 (dk_at dksX4_laysRest_1 20 rfl rfl)
theorem dX4_laysRest_45 : decode cX4_laysRest 45 = .ok (.goto (-39), 3) := dk_167 255 217 (dk_at dksX4_laysRest_2 0 rfl rfl)
theorem dX4_laysRest_48 : decode cX4_laysRest 48 = .ok (.aload_n 0, 1) := dk_42 (dk_at dksX4_laysRest_2 3 rfl rfl)
theorem dX4_laysRest_49 : decode cX4_laysRest 49 = .ok (.invokevirtual 86, 3) := dk_182 0 86 (dk_at dksX4_laysRest_2 4 rfl rfl)
theorem dX4_laysRest_52 : decode cX4_laysRest 52 = .ok (.iconst 1, 1) := dk_4 (dk_at dksX4_laysRest_2 7 rfl rfl)
theorem dX4_laysRest_53 : decode cX4_laysRest 53 = .ok (.isub, 1) := dk_100 (dk_at dksX4_laysRest_2 8 rfl rfl)
theorem dX4_laysRest_54 : decode cX4_laysRest 54 = .ok (.istore_n 1, 1) := dk_60 (dk_at dksX4_laysRest_2 9 rfl rfl)
theorem dX4_laysRest_55 : decode cX4_laysRest 55 = .ok (.iload_n 1, 1) := dk_27 (dk_at dksX4_laysRest_2 10 rfl rfl)
theorem dX4_laysRest_56 : decode cX4_laysRest 56 = .ok (.ifCond .lt 14, 3) := dk_155 0 14 (dk_at dksX4_laysRest_2 11 rfl rfl)
theorem dX4_laysRest_59 : decode cX4_laysRest 59 = .ok (.aload_n 0, 1) := dk_42 (dk_at dksX4_laysRest_2 14 rfl rfl)
theorem dX4_laysRest_60 : decode cX4_laysRest 60 = .ok (.iload_n 1, 1) := dk_27 (dk_at dksX4_laysRest_2 15 rfl rfl)
theorem dX4_laysRest_61 : decode cX4_laysRest 61 = .ok (.invokevirtual 168, 3) := dk_182 0 168 (dk_at dksX4_laysRest_2 16 rfl rfl)
theorem dX4_laysRest_64 : decode cX4_laysRest 64 = .ok (.iinc 1 (-1), 3) := dk_132 1 255 (dk_at dksX4_laysRest_2 19 rfl rfl)
theorem dX4_laysRest_67 : decode cX4_laysRest 67 = .ok (.goto (-12), 3) := dk_167 255 244 (dk_at dksX4_laysRest_3 0 rfl rfl)
theorem dX4_laysRest_70 : decode cX4_laysRest 70 = .ok (.aload_n 0, 1) := dk_42 (dk_at dksX4_laysRest_3 3 rfl rfl)
theorem dX4_laysRest_71 : decode cX4_laysRest 71 = .ok (.getfield 32, 3) := dk_180 0 32 (dk_at dksX4_laysRest_3 4 rfl rfl)
theorem dX4_laysRest_74 : decode cX4_laysRest 74 = .ok (.iconst 0, 1) := dk_3 (dk_at dksX4_laysRest_3 7 rfl rfl)
theorem dX4_laysRest_75 : decode cX4_laysRest 75 = .ok (.iconst 0, 1) := dk_3 (dk_at dksX4_laysRest_3 8 rfl rfl)
theorem dX4_laysRest_76 : decode cX4_laysRest 76 = .ok (.iconst 0, 1) := dk_3 (dk_at dksX4_laysRest_3 9 rfl rfl)
theorem dX4_laysRest_77 : decode cX4_laysRest 77 = .ok (.invokestatic 154, 3) := dk_184 0 154 (dk_at dksX4_laysRest_3 10 rfl rfl)
theorem dX4_laysRest_80 : decode cX4_laysRest 80 = .ok (.iaload, 1) := dk_46 (dk_at dksX4_laysRest_3 13 rfl rfl)
theorem dX4_laysRest_81 : decode cX4_laysRest 81 = .ok (.ireturn, 1) := dk_172 (dk_at dksX4_laysRest_3 14 rfl rfl)
abbrev cX4_state : ByteArray := prog_14_method_35_code
def yX4_state : MethodName := ⟨RX4, "state", "(IIZ)I"⟩
def dkwX4_state_0 : List UInt8 := [5, 16, 33, 26, 104, 27, 96, 104, 28, 184, 0, 107, 96, 172]
abbrev dktX4_state_0 : List UInt8 := dkwX4_state_0 ++ []
theorem dksX4_state_0 : cX4_state.data.toList.drop 0 = dktX4_state_0 := by decide +kernel
theorem dX4_state_0 : decode cX4_state 0 = .ok (.iconst 2, 1) := dk_5 (dk_at dksX4_state_0 0 rfl rfl)
theorem dX4_state_1 : decode cX4_state 1 = .ok (.bipush 33, 2) := dk_16 33 (dk_at dksX4_state_0 1 rfl rfl)
theorem dX4_state_3 : decode cX4_state 3 = .ok (.iload_n 0, 1) := dk_26 (dk_at dksX4_state_0 3 rfl rfl)
theorem dX4_state_4 : decode cX4_state 4 = .ok (.imul, 1) := dk_104 (dk_at dksX4_state_0 4 rfl rfl)
theorem dX4_state_5 : decode cX4_state 5 = .ok (.iload_n 1, 1) := dk_27 (dk_at dksX4_state_0 5 rfl rfl)
theorem dX4_state_6 : decode cX4_state 6 = .ok (.iadd, 1) := dk_96 (dk_at dksX4_state_0 6 rfl rfl)
theorem dX4_state_7 : decode cX4_state 7 = .ok (.imul, 1) := dk_104 (dk_at dksX4_state_0 7 rfl rfl)
theorem dX4_state_8 : decode cX4_state 8 = .ok (.iload_n 2, 1) := dk_28 (dk_at dksX4_state_0 8 rfl rfl)
theorem dX4_state_9 : decode cX4_state 9 = .ok (.invokestatic 107, 3) := dk_184 0 107 (dk_at dksX4_state_0 9 rfl rfl)
theorem dX4_state_12 : decode cX4_state 12 = .ok (.iadd, 1) := dk_96 (dk_at dksX4_state_0 12 rfl rfl)
theorem dX4_state_13 : decode cX4_state 13 = .ok (.ireturn, 1) := dk_172 (dk_at dksX4_state_0 13 rfl rfl)
abbrev cX4_laysRestAt : ByteArray := prog_14_method_37_code
def yX4_laysRestAt : MethodName := ⟨RX4, "laysRestAt", "(I)V"⟩
def dkwX4_laysRestAt_3 : List UInt8 := [21, 4, 96, 184, 0, 114, 79, 132, 2, 1, 167, 255, 177, 177]
abbrev dktX4_laysRestAt_3 : List UInt8 := dkwX4_laysRestAt_3 ++ []
def dkwX4_laysRestAt_2 : List UInt8 := [21, 4, 96, 184, 0, 114, 79, 42, 180, 0, 32, 27, 28, 4, 184, 0, 154, 29, 42, 27, 4, 182, 0, 161]
abbrev dktX4_laysRestAt_2 : List UInt8 := dkwX4_laysRestAt_2 ++ dktX4_laysRestAt_3
def dkwX4_laysRestAt_1 : List UInt8 := [184, 0, 154, 46, 54, 4, 42, 180, 0, 32, 27, 28, 3, 184, 0, 154, 29, 42, 27, 3, 182, 0, 161]
abbrev dktX4_laysRestAt_1 : List UInt8 := dkwX4_laysRestAt_1 ++ dktX4_laysRestAt_2
def dkwX4_laysRestAt_0 : List UInt8 := [3, 61, 28, 16, 33, 162, 0, 79, 42, 27, 28, 182, 0, 158, 62, 42, 180, 0, 32, 27, 4, 96, 28, 4]
abbrev dktX4_laysRestAt_0 : List UInt8 := dkwX4_laysRestAt_0 ++ dktX4_laysRestAt_1
theorem dksX4_laysRestAt_0 : cX4_laysRestAt.data.toList.drop 0 = dktX4_laysRestAt_0 := by decide +kernel
theorem dksX4_laysRestAt_1 : cX4_laysRestAt.data.toList.drop 24 = dktX4_laysRestAt_1 := dk_seg dksX4_laysRestAt_0 24 rfl rfl
theorem dksX4_laysRestAt_2 : cX4_laysRestAt.data.toList.drop 47 = dktX4_laysRestAt_2 := dk_seg dksX4_laysRestAt_1 23 rfl rfl
theorem dksX4_laysRestAt_3 : cX4_laysRestAt.data.toList.drop 71 = dktX4_laysRestAt_3 := dk_seg dksX4_laysRestAt_2 24 rfl rfl
theorem dX4_laysRestAt_0 : decode cX4_laysRestAt 0 = .ok (.iconst 0, 1) := dk_3 (dk_at dksX4_laysRestAt_0 0 rfl rfl)
theorem dX4_laysRestAt_1 : decode cX4_laysRestAt 1 = .ok (.istore_n 2, 1) := dk_61 (dk_at dksX4_laysRestAt_0 1 rfl rfl)
theorem dX4_laysRestAt_2 : decode cX4_laysRestAt 2 = .ok (.iload_n 2, 1) := dk_28 (dk_at dksX4_laysRestAt_0 2 rfl rfl)
theorem dX4_laysRestAt_3 : decode cX4_laysRestAt 3 = .ok (.bipush 33, 2) := dk_16 33 (dk_at dksX4_laysRestAt_0 3 rfl rfl)
theorem dX4_laysRestAt_5 : decode cX4_laysRestAt 5 = .ok (.if_icmp .ge 79, 3) := dk_162 0 79 (dk_at dksX4_laysRestAt_0 5 rfl rfl)
theorem dX4_laysRestAt_8 : decode cX4_laysRestAt 8 = .ok (.aload_n 0, 1) := dk_42 (dk_at dksX4_laysRestAt_0 8 rfl rfl)
theorem dX4_laysRestAt_9 : decode cX4_laysRestAt 9 = .ok (.iload_n 1, 1) := dk_27 (dk_at dksX4_laysRestAt_0 9 rfl rfl)
theorem dX4_laysRestAt_10 : decode cX4_laysRestAt 10 = .ok (.iload_n 2, 1) := dk_28 (dk_at dksX4_laysRestAt_0 10 rfl rfl)
theorem dX4_laysRestAt_11 : decode cX4_laysRestAt 11 = .ok (.invokevirtual 158, 3) := dk_182 0 158 (dk_at dksX4_laysRestAt_0 11 rfl rfl)
theorem dX4_laysRestAt_14 : decode cX4_laysRestAt 14 = .ok (.istore_n 3, 1) := dk_62 (dk_at dksX4_laysRestAt_0 14 rfl rfl)
theorem dX4_laysRestAt_15 : decode cX4_laysRestAt 15 = .ok (.aload_n 0, 1) := dk_42 (dk_at dksX4_laysRestAt_0 15 rfl rfl)
theorem dX4_laysRestAt_16 : decode cX4_laysRestAt 16 = .ok (.getfield 32, 3) := dk_180 0 32 (dk_at dksX4_laysRestAt_0 16 rfl rfl)
theorem dX4_laysRestAt_19 : decode cX4_laysRestAt 19 = .ok (.iload_n 1, 1) := dk_27 (dk_at dksX4_laysRestAt_0 19 rfl rfl)
theorem dX4_laysRestAt_20 : decode cX4_laysRestAt 20 = .ok (.iconst 1, 1) := dk_4 (dk_at dksX4_laysRestAt_0 20 rfl rfl)
theorem dX4_laysRestAt_21 : decode cX4_laysRestAt 21 = .ok (.iadd, 1) := dk_96 (dk_at dksX4_laysRestAt_0 21 rfl rfl)
theorem dX4_laysRestAt_22 : decode cX4_laysRestAt 22 = .ok (.iload_n 2, 1) := dk_28 (dk_at dksX4_laysRestAt_0 22 rfl rfl)
theorem dX4_laysRestAt_23 : decode cX4_laysRestAt 23 = .ok (.iconst 1, 1) := dk_4 (dk_at dksX4_laysRestAt_0 23 rfl rfl)
theorem dX4_laysRestAt_24 : decode cX4_laysRestAt 24 = .ok (.invokestatic 154, 3) := dk_184 0 154 (dk_at dksX4_laysRestAt_1 0 rfl rfl)
theorem dX4_laysRestAt_27 : decode cX4_laysRestAt 27 = .ok (.iaload, 1) := dk_46 (dk_at dksX4_laysRestAt_1 3 rfl rfl)
theorem dX4_laysRestAt_28 : decode cX4_laysRestAt 28 = .ok (.istore 4, 2) := dk_54 4 (dk_at dksX4_laysRestAt_1 4 rfl rfl)
theorem dX4_laysRestAt_30 : decode cX4_laysRestAt 30 = .ok (.aload_n 0, 1) := dk_42 (dk_at dksX4_laysRestAt_1 6 rfl rfl)
theorem dX4_laysRestAt_31 : decode cX4_laysRestAt 31 = .ok (.getfield 32, 3) := dk_180 0 32 (dk_at dksX4_laysRestAt_1 7 rfl rfl)
theorem dX4_laysRestAt_34 : decode cX4_laysRestAt 34 = .ok (.iload_n 1, 1) := dk_27 (dk_at dksX4_laysRestAt_1 10 rfl rfl)
theorem dX4_laysRestAt_35 : decode cX4_laysRestAt 35 = .ok (.iload_n 2, 1) := dk_28 (dk_at dksX4_laysRestAt_1 11 rfl rfl)
theorem dX4_laysRestAt_36 : decode cX4_laysRestAt 36 = .ok (.iconst 0, 1) := dk_3 (dk_at dksX4_laysRestAt_1 12 rfl rfl)
theorem dX4_laysRestAt_37 : decode cX4_laysRestAt 37 = .ok (.invokestatic 154, 3) := dk_184 0 154 (dk_at dksX4_laysRestAt_1 13 rfl rfl)
theorem dX4_laysRestAt_40 : decode cX4_laysRestAt 40 = .ok (.iload_n 3, 1) := dk_29 (dk_at dksX4_laysRestAt_1 16 rfl rfl)
theorem dX4_laysRestAt_41 : decode cX4_laysRestAt 41 = .ok (.aload_n 0, 1) := dk_42 (dk_at dksX4_laysRestAt_1 17 rfl rfl)
theorem dX4_laysRestAt_42 : decode cX4_laysRestAt 42 = .ok (.iload_n 1, 1) := dk_27 (dk_at dksX4_laysRestAt_1 18 rfl rfl)
theorem dX4_laysRestAt_43 : decode cX4_laysRestAt 43 = .ok (.iconst 0, 1) := dk_3 (dk_at dksX4_laysRestAt_1 19 rfl rfl)
theorem dX4_laysRestAt_44 : decode cX4_laysRestAt 44 = .ok (.invokevirtual 161, 3) := dk_182 0 161 (dk_at dksX4_laysRestAt_1 20 rfl rfl)
theorem dX4_laysRestAt_47 : decode cX4_laysRestAt 47 = .ok (.iload 4, 2) := dk_21 4 (dk_at dksX4_laysRestAt_2 0 rfl rfl)
theorem dX4_laysRestAt_49 : decode cX4_laysRestAt 49 = .ok (.iadd, 1) := dk_96 (dk_at dksX4_laysRestAt_2 2 rfl rfl)
theorem dX4_laysRestAt_50 : decode cX4_laysRestAt 50 = .ok (.invokestatic 114, 3) := dk_184 0 114 (dk_at dksX4_laysRestAt_2 3 rfl rfl)
theorem dX4_laysRestAt_53 : decode cX4_laysRestAt 53 = .ok (.iastore, 1) := dk_79 (dk_at dksX4_laysRestAt_2 6 rfl rfl)
theorem dX4_laysRestAt_54 : decode cX4_laysRestAt 54 = .ok (.aload_n 0, 1) := dk_42 (dk_at dksX4_laysRestAt_2 7 rfl rfl)
theorem dX4_laysRestAt_55 : decode cX4_laysRestAt 55 = .ok (.getfield 32, 3) := dk_180 0 32 (dk_at dksX4_laysRestAt_2 8 rfl rfl)
theorem dX4_laysRestAt_58 : decode cX4_laysRestAt 58 = .ok (.iload_n 1, 1) := dk_27 (dk_at dksX4_laysRestAt_2 11 rfl rfl)
theorem dX4_laysRestAt_59 : decode cX4_laysRestAt 59 = .ok (.iload_n 2, 1) := dk_28 (dk_at dksX4_laysRestAt_2 12 rfl rfl)
theorem dX4_laysRestAt_60 : decode cX4_laysRestAt 60 = .ok (.iconst 1, 1) := dk_4 (dk_at dksX4_laysRestAt_2 13 rfl rfl)
theorem dX4_laysRestAt_61 : decode cX4_laysRestAt 61 = .ok (.invokestatic 154, 3) := dk_184 0 154 (dk_at dksX4_laysRestAt_2 14 rfl rfl)
theorem dX4_laysRestAt_64 : decode cX4_laysRestAt 64 = .ok (.iload_n 3, 1) := dk_29 (dk_at dksX4_laysRestAt_2 17 rfl rfl)
theorem dX4_laysRestAt_65 : decode cX4_laysRestAt 65 = .ok (.aload_n 0, 1) := dk_42 (dk_at dksX4_laysRestAt_2 18 rfl rfl)
theorem dX4_laysRestAt_66 : decode cX4_laysRestAt 66 = .ok (.iload_n 1, 1) := dk_27 (dk_at dksX4_laysRestAt_2 19 rfl rfl)
theorem dX4_laysRestAt_67 : decode cX4_laysRestAt 67 = .ok (.iconst 1, 1) := dk_4 (dk_at dksX4_laysRestAt_2 20 rfl rfl)
theorem dX4_laysRestAt_68 : decode cX4_laysRestAt 68 = .ok (.invokevirtual 161, 3) := dk_182 0 161 (dk_at dksX4_laysRestAt_2 21 rfl rfl)
theorem dX4_laysRestAt_71 : decode cX4_laysRestAt 71 = .ok (.iload 4, 2) := dk_21 4 (dk_at dksX4_laysRestAt_3 0 rfl rfl)
theorem dX4_laysRestAt_73 : decode cX4_laysRestAt 73 = .ok (.iadd, 1) := dk_96 (dk_at dksX4_laysRestAt_3 2 rfl rfl)
theorem dX4_laysRestAt_74 : decode cX4_laysRestAt 74 = .ok (.invokestatic 114, 3) := dk_184 0 114 (dk_at dksX4_laysRestAt_3 3 rfl rfl)
theorem dX4_laysRestAt_77 : decode cX4_laysRestAt 77 = .ok (.iastore, 1) := dk_79 (dk_at dksX4_laysRestAt_3 6 rfl rfl)
theorem dX4_laysRestAt_78 : decode cX4_laysRestAt 78 = .ok (.iinc 2 1, 3) := dk_132 2 1 (dk_at dksX4_laysRestAt_3 7 rfl rfl)
theorem dX4_laysRestAt_81 : decode cX4_laysRestAt 81 = .ok (.goto (-79), 3) := dk_167 255 177 (dk_at dksX4_laysRestAt_3 10 rfl rfl)
theorem dX4_laysRestAt_84 : decode cX4_laysRestAt 84 = .ok (.return_, 1) := dk_177 (dk_at dksX4_laysRestAt_3 13 rfl rfl)
abbrev cX4_cheapestCopy : ByteArray := prog_14_method_36_code
def yX4_cheapestCopy : MethodName := ⟨RX4, "cheapestCopy", "(II)I"⟩
def dkwX4_cheapestCopy_3 : List UInt8 := [167, 255, 191, 29, 172]
abbrev dktX4_cheapestCopy_3 : List UInt8 := dkwX4_cheapestCopy_3 ++ []
def dkwX4_cheapestCopy_2 : List UInt8 := [21, 5, 96, 21, 4, 3, 184, 0, 154, 46, 96, 184, 0, 114, 62, 132, 5, 1, 167, 255, 211, 132, 4, 1]
abbrev dktX4_cheapestCopy_2 : List UInt8 := dkwX4_cheapestCopy_2 ++ dktX4_cheapestCopy_3
def dkwX4_cheapestCopy_1 : List UInt8 := [21, 4, 182, 0, 137, 163, 0, 39, 29, 42, 21, 5, 21, 4, 28, 182, 0, 150, 42, 180, 0, 32, 27]
abbrev dktX4_cheapestCopy_1 : List UInt8 := dkwX4_cheapestCopy_1 ++ dktX4_cheapestCopy_2
def dkwX4_cheapestCopy_0 : List UInt8 := [18, 149, 62, 4, 54, 4, 21, 4, 16, 33, 162, 0, 64, 42, 5, 182, 0, 93, 54, 5, 21, 5, 42, 27]
abbrev dktX4_cheapestCopy_0 : List UInt8 := dkwX4_cheapestCopy_0 ++ dktX4_cheapestCopy_1
theorem dksX4_cheapestCopy_0 : cX4_cheapestCopy.data.toList.drop 0 = dktX4_cheapestCopy_0 := by decide +kernel
theorem dksX4_cheapestCopy_1 : cX4_cheapestCopy.data.toList.drop 24 = dktX4_cheapestCopy_1 := dk_seg dksX4_cheapestCopy_0 24 rfl rfl
theorem dksX4_cheapestCopy_2 : cX4_cheapestCopy.data.toList.drop 47 = dktX4_cheapestCopy_2 := dk_seg dksX4_cheapestCopy_1 23 rfl rfl
theorem dksX4_cheapestCopy_3 : cX4_cheapestCopy.data.toList.drop 71 = dktX4_cheapestCopy_3 := dk_seg dksX4_cheapestCopy_2 24 rfl rfl
theorem dX4_cheapestCopy_0 : decode cX4_cheapestCopy 0 = .ok (.ldc 149, 2) := dk_18 149 (dk_at dksX4_cheapestCopy_0 0 rfl rfl)
theorem dX4_cheapestCopy_2 : decode cX4_cheapestCopy 2 = .ok (.istore_n 3, 1) := dk_62 (dk_at dksX4_cheapestCopy_0 2 rfl rfl)
theorem dX4_cheapestCopy_3 : decode cX4_cheapestCopy 3 = .ok (.iconst 1, 1) := dk_4 (dk_at dksX4_cheapestCopy_0 3 rfl rfl)
theorem dX4_cheapestCopy_4 : decode cX4_cheapestCopy 4 = .ok (.istore 4, 2) := dk_54 4 (dk_at dksX4_cheapestCopy_0 4 rfl rfl)
theorem dX4_cheapestCopy_6 : decode cX4_cheapestCopy 6 = .ok (.iload 4, 2) := dk_21 4 (dk_at dksX4_cheapestCopy_0 6 rfl rfl)
theorem dX4_cheapestCopy_8 : decode cX4_cheapestCopy 8 = .ok (.bipush 33, 2) := dk_16 33 (dk_at dksX4_cheapestCopy_0 8 rfl rfl)
theorem dX4_cheapestCopy_10 : decode cX4_cheapestCopy 10 = .ok (.if_icmp .ge 64, 3) := dk_162 0 64 (dk_at dksX4_cheapestCopy_0 10 rfl rfl)
theorem dX4_cheapestCopy_13 : decode cX4_cheapestCopy 13 = .ok (.aload_n 0, 1) := dk_42 (dk_at dksX4_cheapestCopy_0 13 rfl rfl)
theorem dX4_cheapestCopy_14 : decode cX4_cheapestCopy 14 = .ok (.iconst 2, 1) := dk_5 (dk_at dksX4_cheapestCopy_0 14 rfl rfl)
theorem dX4_cheapestCopy_15 : decode cX4_cheapestCopy 15 = .ok (.invokevirtual 93, 3) := dk_182 0 93 (dk_at dksX4_cheapestCopy_0 15 rfl rfl)
theorem dX4_cheapestCopy_18 : decode cX4_cheapestCopy 18 = .ok (.istore 5, 2) := dk_54 5 (dk_at dksX4_cheapestCopy_0 18 rfl rfl)
theorem dX4_cheapestCopy_20 : decode cX4_cheapestCopy 20 = .ok (.iload 5, 2) := dk_21 5 (dk_at dksX4_cheapestCopy_0 20 rfl rfl)
theorem dX4_cheapestCopy_22 : decode cX4_cheapestCopy 22 = .ok (.aload_n 0, 1) := dk_42 (dk_at dksX4_cheapestCopy_0 22 rfl rfl)
theorem dX4_cheapestCopy_23 : decode cX4_cheapestCopy 23 = .ok (.iload_n 1, 1) := dk_27 (dk_at dksX4_cheapestCopy_0 23 rfl rfl)
theorem dX4_cheapestCopy_24 : decode cX4_cheapestCopy 24 = .ok (.iload 4, 2) := dk_21 4 (dk_at dksX4_cheapestCopy_1 0 rfl rfl)
theorem dX4_cheapestCopy_26 : decode cX4_cheapestCopy 26 = .ok (.invokevirtual 137, 3) := dk_182 0 137 (dk_at dksX4_cheapestCopy_1 2 rfl rfl)
theorem dX4_cheapestCopy_29 : decode cX4_cheapestCopy 29 = .ok (.if_icmp .gt 39, 3) := dk_163 0 39 (dk_at dksX4_cheapestCopy_1 5 rfl rfl)
theorem dX4_cheapestCopy_32 : decode cX4_cheapestCopy 32 = .ok (.iload_n 3, 1) := dk_29 (dk_at dksX4_cheapestCopy_1 8 rfl rfl)
theorem dX4_cheapestCopy_33 : decode cX4_cheapestCopy 33 = .ok (.aload_n 0, 1) := dk_42 (dk_at dksX4_cheapestCopy_1 9 rfl rfl)
theorem dX4_cheapestCopy_34 : decode cX4_cheapestCopy 34 = .ok (.iload 5, 2) := dk_21 5 (dk_at dksX4_cheapestCopy_1 10 rfl rfl)
theorem dX4_cheapestCopy_36 : decode cX4_cheapestCopy 36 = .ok (.iload 4, 2) := dk_21 4 (dk_at dksX4_cheapestCopy_1 12 rfl rfl)
theorem dX4_cheapestCopy_38 : decode cX4_cheapestCopy 38 = .ok (.iload_n 2, 1) := dk_28 (dk_at dksX4_cheapestCopy_1 14 rfl rfl)
theorem dX4_cheapestCopy_39 : decode cX4_cheapestCopy 39 = .ok (.invokevirtual 150, 3) := dk_182 0 150 (dk_at dksX4_cheapestCopy_1 15 rfl rfl)
theorem dX4_cheapestCopy_42 : decode cX4_cheapestCopy 42 = .ok (.aload_n 0, 1) := dk_42 (dk_at dksX4_cheapestCopy_1 18 rfl rfl)
theorem dX4_cheapestCopy_43 : decode cX4_cheapestCopy 43 = .ok (.getfield 32, 3) := dk_180 0 32 (dk_at dksX4_cheapestCopy_1 19 rfl rfl)
theorem dX4_cheapestCopy_46 : decode cX4_cheapestCopy 46 = .ok (.iload_n 1, 1) := dk_27 (dk_at dksX4_cheapestCopy_1 22 rfl rfl)
theorem dX4_cheapestCopy_47 : decode cX4_cheapestCopy 47 = .ok (.iload 5, 2) := dk_21 5 (dk_at dksX4_cheapestCopy_2 0 rfl rfl)
theorem dX4_cheapestCopy_49 : decode cX4_cheapestCopy 49 = .ok (.iadd, 1) := dk_96 (dk_at dksX4_cheapestCopy_2 2 rfl rfl)
theorem dX4_cheapestCopy_50 : decode cX4_cheapestCopy 50 = .ok (.iload 4, 2) := dk_21 4 (dk_at dksX4_cheapestCopy_2 3 rfl rfl)
theorem dX4_cheapestCopy_52 : decode cX4_cheapestCopy 52 = .ok (.iconst 0, 1) := dk_3 (dk_at dksX4_cheapestCopy_2 5 rfl rfl)
theorem dX4_cheapestCopy_53 : decode cX4_cheapestCopy 53 = .ok (.invokestatic 154, 3) := dk_184 0 154 (dk_at dksX4_cheapestCopy_2 6 rfl rfl)
theorem dX4_cheapestCopy_56 : decode cX4_cheapestCopy 56 = .ok (.iaload, 1) := dk_46 (dk_at dksX4_cheapestCopy_2 9 rfl rfl)
theorem dX4_cheapestCopy_57 : decode cX4_cheapestCopy 57 = .ok (.iadd, 1) := dk_96 (dk_at dksX4_cheapestCopy_2 10 rfl rfl)
theorem dX4_cheapestCopy_58 : decode cX4_cheapestCopy 58 = .ok (.invokestatic 114, 3) := dk_184 0 114 (dk_at dksX4_cheapestCopy_2 11 rfl rfl)
theorem dX4_cheapestCopy_61 : decode cX4_cheapestCopy 61 = .ok (.istore_n 3, 1) := dk_62 (dk_at dksX4_cheapestCopy_2 14 rfl rfl)
theorem dX4_cheapestCopy_62 : decode cX4_cheapestCopy 62 = .ok (.iinc 5 1, 3) := dk_132 5 1 (dk_at dksX4_cheapestCopy_2 15 rfl rfl)
theorem dX4_cheapestCopy_65 : decode cX4_cheapestCopy 65 = .ok (.goto (-45), 3) := dk_167 255 211 (dk_at dksX4_cheapestCopy_2 18 rfl rfl)
theorem dX4_cheapestCopy_68 : decode cX4_cheapestCopy 68 = .ok (.iinc 4 1, 3) := dk_132 4 1 (dk_at dksX4_cheapestCopy_2 21 rfl rfl)
theorem dX4_cheapestCopy_71 : decode cX4_cheapestCopy 71 = .ok (.goto (-65), 3) := dk_167 255 191 (dk_at dksX4_cheapestCopy_3 0 rfl rfl)
theorem dX4_cheapestCopy_74 : decode cX4_cheapestCopy 74 = .ok (.iload_n 3, 1) := dk_29 (dk_at dksX4_cheapestCopy_3 3 rfl rfl)
theorem dX4_cheapestCopy_75 : decode cX4_cheapestCopy 75 = .ok (.ireturn, 1) := dk_172 (dk_at dksX4_cheapestCopy_3 4 rfl rfl)
abbrev cX4_literalCost : ByteArray := prog_14_method_34_code
def yX4_literalCost : MethodName := ⟨RX4, "literalCost", "(IZ)I"⟩
def dkwX4_literalCost_1 : List UInt8 := [96, 172]
abbrev dktX4_literalCost_1 : List UInt8 := dkwX4_literalCost_1 ++ []
def dkwX4_literalCost_0 : List UInt8 := [42, 8, 42, 27, 182, 0, 89, 96, 182, 0, 143, 28, 153, 0, 7, 3, 167, 0, 8, 42, 3, 182, 0, 143]
abbrev dktX4_literalCost_0 : List UInt8 := dkwX4_literalCost_0 ++ dktX4_literalCost_1
theorem dksX4_literalCost_0 : cX4_literalCost.data.toList.drop 0 = dktX4_literalCost_0 := by decide +kernel
theorem dksX4_literalCost_1 : cX4_literalCost.data.toList.drop 24 = dktX4_literalCost_1 := dk_seg dksX4_literalCost_0 24 rfl rfl
theorem dX4_literalCost_0 : decode cX4_literalCost 0 = .ok (.aload_n 0, 1) := dk_42 (dk_at dksX4_literalCost_0 0 rfl rfl)
theorem dX4_literalCost_1 : decode cX4_literalCost 1 = .ok (.iconst 5, 1) := dk_8 (dk_at dksX4_literalCost_0 1 rfl rfl)
theorem dX4_literalCost_2 : decode cX4_literalCost 2 = .ok (.aload_n 0, 1) := dk_42 (dk_at dksX4_literalCost_0 2 rfl rfl)
theorem dX4_literalCost_3 : decode cX4_literalCost 3 = .ok (.iload_n 1, 1) := dk_27 (dk_at dksX4_literalCost_0 3 rfl rfl)
theorem dX4_literalCost_4 : decode cX4_literalCost 4 = .ok (.invokevirtual 89, 3) := dk_182 0 89 (dk_at dksX4_literalCost_0 4 rfl rfl)
theorem dX4_literalCost_7 : decode cX4_literalCost 7 = .ok (.iadd, 1) := dk_96 (dk_at dksX4_literalCost_0 7 rfl rfl)
theorem dX4_literalCost_8 : decode cX4_literalCost 8 = .ok (.invokevirtual 143, 3) := dk_182 0 143 (dk_at dksX4_literalCost_0 8 rfl rfl)
theorem dX4_literalCost_11 : decode cX4_literalCost 11 = .ok (.iload_n 2, 1) := dk_28 (dk_at dksX4_literalCost_0 11 rfl rfl)
theorem dX4_literalCost_12 : decode cX4_literalCost 12 = .ok (.ifCond .eq 7, 3) := dk_153 0 7 (dk_at dksX4_literalCost_0 12 rfl rfl)
theorem dX4_literalCost_15 : decode cX4_literalCost 15 = .ok (.iconst 0, 1) := dk_3 (dk_at dksX4_literalCost_0 15 rfl rfl)
theorem dX4_literalCost_16 : decode cX4_literalCost 16 = .ok (.goto 8, 3) := dk_167 0 8 (dk_at dksX4_literalCost_0 16 rfl rfl)
theorem dX4_literalCost_19 : decode cX4_literalCost 19 = .ok (.aload_n 0, 1) := dk_42 (dk_at dksX4_literalCost_0 19 rfl rfl)
theorem dX4_literalCost_20 : decode cX4_literalCost 20 = .ok (.iconst 0, 1) := dk_3 (dk_at dksX4_literalCost_0 20 rfl rfl)
theorem dX4_literalCost_21 : decode cX4_literalCost 21 = .ok (.invokevirtual 143, 3) := dk_182 0 143 (dk_at dksX4_literalCost_0 21 rfl rfl)
theorem dX4_literalCost_24 : decode cX4_literalCost 24 = .ok (.iadd, 1) := dk_96 (dk_at dksX4_literalCost_1 0 rfl rfl)
theorem dX4_literalCost_25 : decode cX4_literalCost 25 = .ok (.ireturn, 1) := dk_172 (dk_at dksX4_literalCost_1 1 rfl rfl)
abbrev cX4_ends : ByteArray := prog_14_method_43_code
def yX4_ends : MethodName := ⟨RX4, "ends", "()I"⟩
def dkwX4_ends_1 : List UInt8 := [180, 0, 41, 42, 180, 0, 179, 4, 100, 46, 96, 172]
abbrev dktX4_ends_1 : List UInt8 := dkwX4_ends_1 ++ []
def dkwX4_ends_0 : List UInt8 := [42, 180, 0, 179, 154, 0, 7, 3, 167, 0, 26, 42, 180, 0, 38, 42, 180, 0, 179, 4, 100, 46, 42]
abbrev dktX4_ends_0 : List UInt8 := dkwX4_ends_0 ++ dktX4_ends_1
theorem dksX4_ends_0 : cX4_ends.data.toList.drop 0 = dktX4_ends_0 := by decide +kernel
theorem dksX4_ends_1 : cX4_ends.data.toList.drop 23 = dktX4_ends_1 := dk_seg dksX4_ends_0 23 rfl rfl
theorem dX4_ends_0 : decode cX4_ends 0 = .ok (.aload_n 0, 1) := dk_42 (dk_at dksX4_ends_0 0 rfl rfl)
theorem dX4_ends_1 : decode cX4_ends 1 = .ok (.getfield 179, 3) := dk_180 0 179 (dk_at dksX4_ends_0 1 rfl rfl)
theorem dX4_ends_4 : decode cX4_ends 4 = .ok (.ifCond .ne 7, 3) := dk_154 0 7 (dk_at dksX4_ends_0 4 rfl rfl)
theorem dX4_ends_7 : decode cX4_ends 7 = .ok (.iconst 0, 1) := dk_3 (dk_at dksX4_ends_0 7 rfl rfl)
theorem dX4_ends_8 : decode cX4_ends 8 = .ok (.goto 26, 3) := dk_167 0 26 (dk_at dksX4_ends_0 8 rfl rfl)
theorem dX4_ends_11 : decode cX4_ends 11 = .ok (.aload_n 0, 1) := dk_42 (dk_at dksX4_ends_0 11 rfl rfl)
theorem dX4_ends_12 : decode cX4_ends 12 = .ok (.getfield 38, 3) := dk_180 0 38 (dk_at dksX4_ends_0 12 rfl rfl)
theorem dX4_ends_15 : decode cX4_ends 15 = .ok (.aload_n 0, 1) := dk_42 (dk_at dksX4_ends_0 15 rfl rfl)
theorem dX4_ends_16 : decode cX4_ends 16 = .ok (.getfield 179, 3) := dk_180 0 179 (dk_at dksX4_ends_0 16 rfl rfl)
theorem dX4_ends_19 : decode cX4_ends 19 = .ok (.iconst 1, 1) := dk_4 (dk_at dksX4_ends_0 19 rfl rfl)
theorem dX4_ends_20 : decode cX4_ends 20 = .ok (.isub, 1) := dk_100 (dk_at dksX4_ends_0 20 rfl rfl)
theorem dX4_ends_21 : decode cX4_ends 21 = .ok (.iaload, 1) := dk_46 (dk_at dksX4_ends_0 21 rfl rfl)
theorem dX4_ends_22 : decode cX4_ends 22 = .ok (.aload_n 0, 1) := dk_42 (dk_at dksX4_ends_0 22 rfl rfl)
theorem dX4_ends_23 : decode cX4_ends 23 = .ok (.getfield 41, 3) := dk_180 0 41 (dk_at dksX4_ends_1 0 rfl rfl)
theorem dX4_ends_26 : decode cX4_ends 26 = .ok (.aload_n 0, 1) := dk_42 (dk_at dksX4_ends_1 3 rfl rfl)
theorem dX4_ends_27 : decode cX4_ends 27 = .ok (.getfield 179, 3) := dk_180 0 179 (dk_at dksX4_ends_1 4 rfl rfl)
theorem dX4_ends_30 : decode cX4_ends 30 = .ok (.iconst 1, 1) := dk_4 (dk_at dksX4_ends_1 7 rfl rfl)
theorem dX4_ends_31 : decode cX4_ends 31 = .ok (.isub, 1) := dk_100 (dk_at dksX4_ends_1 8 rfl rfl)
theorem dX4_ends_32 : decode cX4_ends 32 = .ok (.iaload, 1) := dk_46 (dk_at dksX4_ends_1 9 rfl rfl)
theorem dX4_ends_33 : decode cX4_ends 33 = .ok (.iadd, 1) := dk_96 (dk_at dksX4_ends_1 10 rfl rfl)
theorem dX4_ends_34 : decode cX4_ends 34 = .ok (.ireturn, 1) := dk_172 (dk_at dksX4_ends_1 11 rfl rfl)
abbrev cX4_steps0 : ByteArray := prog_14_method_44_code
def yX4_steps0 : MethodName := ⟨RX4, "steps0", "(II)V"⟩
def dkwX4_steps0_1 : List UInt8 := [79, 42, 180, 0, 44, 42, 180, 0, 179, 28, 79, 42, 42, 180, 0, 179, 4, 96, 181, 0, 179, 177]
abbrev dktX4_steps0_1 : List UInt8 := dkwX4_steps0_1 ++ []
def dkwX4_steps0_0 : List UInt8 := [42, 182, 0, 182, 62, 42, 180, 0, 38, 42, 180, 0, 179, 29, 79, 42, 180, 0, 41, 42, 180, 0, 179, 27]
abbrev dktX4_steps0_0 : List UInt8 := dkwX4_steps0_0 ++ dktX4_steps0_1
theorem dksX4_steps0_0 : cX4_steps0.data.toList.drop 0 = dktX4_steps0_0 := by decide +kernel
theorem dksX4_steps0_1 : cX4_steps0.data.toList.drop 24 = dktX4_steps0_1 := dk_seg dksX4_steps0_0 24 rfl rfl
theorem dX4_steps0_0 : decode cX4_steps0 0 = .ok (.aload_n 0, 1) := dk_42 (dk_at dksX4_steps0_0 0 rfl rfl)
theorem dX4_steps0_1 : decode cX4_steps0 1 = .ok (.invokevirtual 182, 3) := dk_182 0 182 (dk_at dksX4_steps0_0 1 rfl rfl)
theorem dX4_steps0_4 : decode cX4_steps0 4 = .ok (.istore_n 3, 1) := dk_62 (dk_at dksX4_steps0_0 4 rfl rfl)
theorem dX4_steps0_5 : decode cX4_steps0 5 = .ok (.aload_n 0, 1) := dk_42 (dk_at dksX4_steps0_0 5 rfl rfl)
theorem dX4_steps0_6 : decode cX4_steps0 6 = .ok (.getfield 38, 3) := dk_180 0 38 (dk_at dksX4_steps0_0 6 rfl rfl)
theorem dX4_steps0_9 : decode cX4_steps0 9 = .ok (.aload_n 0, 1) := dk_42 (dk_at dksX4_steps0_0 9 rfl rfl)
theorem dX4_steps0_10 : decode cX4_steps0 10 = .ok (.getfield 179, 3) := dk_180 0 179 (dk_at dksX4_steps0_0 10 rfl rfl)
theorem dX4_steps0_13 : decode cX4_steps0 13 = .ok (.iload_n 3, 1) := dk_29 (dk_at dksX4_steps0_0 13 rfl rfl)
theorem dX4_steps0_14 : decode cX4_steps0 14 = .ok (.iastore, 1) := dk_79 (dk_at dksX4_steps0_0 14 rfl rfl)
theorem dX4_steps0_15 : decode cX4_steps0 15 = .ok (.aload_n 0, 1) := dk_42 (dk_at dksX4_steps0_0 15 rfl rfl)
theorem dX4_steps0_16 : decode cX4_steps0 16 = .ok (.getfield 41, 3) := dk_180 0 41 (dk_at dksX4_steps0_0 16 rfl rfl)
theorem dX4_steps0_19 : decode cX4_steps0 19 = .ok (.aload_n 0, 1) := dk_42 (dk_at dksX4_steps0_0 19 rfl rfl)
theorem dX4_steps0_20 : decode cX4_steps0 20 = .ok (.getfield 179, 3) := dk_180 0 179 (dk_at dksX4_steps0_0 20 rfl rfl)
theorem dX4_steps0_23 : decode cX4_steps0 23 = .ok (.iload_n 1, 1) := dk_27 (dk_at dksX4_steps0_0 23 rfl rfl)
theorem dX4_steps0_24 : decode cX4_steps0 24 = .ok (.iastore, 1) := dk_79 (dk_at dksX4_steps0_1 0 rfl rfl)
theorem dX4_steps0_25 : decode cX4_steps0 25 = .ok (.aload_n 0, 1) := dk_42 (dk_at dksX4_steps0_1 1 rfl rfl)
theorem dX4_steps0_26 : decode cX4_steps0 26 = .ok (.getfield 44, 3) := dk_180 0 44 (dk_at dksX4_steps0_1 2 rfl rfl)
theorem dX4_steps0_29 : decode cX4_steps0 29 = .ok (.aload_n 0, 1) := dk_42 (dk_at dksX4_steps0_1 5 rfl rfl)
theorem dX4_steps0_30 : decode cX4_steps0 30 = .ok (.getfield 179, 3) := dk_180 0 179 (dk_at dksX4_steps0_1 6 rfl rfl)
theorem dX4_steps0_33 : decode cX4_steps0 33 = .ok (.iload_n 2, 1) := dk_28 (dk_at dksX4_steps0_1 9 rfl rfl)
theorem dX4_steps0_34 : decode cX4_steps0 34 = .ok (.iastore, 1) := dk_79 (dk_at dksX4_steps0_1 10 rfl rfl)
theorem dX4_steps0_35 : decode cX4_steps0 35 = .ok (.aload_n 0, 1) := dk_42 (dk_at dksX4_steps0_1 11 rfl rfl)
theorem dX4_steps0_36 : decode cX4_steps0 36 = .ok (.aload_n 0, 1) := dk_42 (dk_at dksX4_steps0_1 12 rfl rfl)
theorem dX4_steps0_37 : decode cX4_steps0 37 = .ok (.getfield 179, 3) := dk_180 0 179 (dk_at dksX4_steps0_1 13 rfl rfl)
theorem dX4_steps0_40 : decode cX4_steps0 40 = .ok (.iconst 1, 1) := dk_4 (dk_at dksX4_steps0_1 16 rfl rfl)
theorem dX4_steps0_41 : decode cX4_steps0 41 = .ok (.iadd, 1) := dk_96 (dk_at dksX4_steps0_1 17 rfl rfl)
theorem dX4_steps0_42 : decode cX4_steps0 42 = .ok (.putfield 179, 3) := dk_181 0 179 (dk_at dksX4_steps0_1 18 rfl rfl)
theorem dX4_steps0_45 : decode cX4_steps0 45 = .ok (.return_, 1) := dk_177 (dk_at dksX4_steps0_1 21 rfl rfl)
abbrev cX4_bestStep : ByteArray := prog_14_method_52_code
def yX4_bestStep : MethodName := ⟨RX4, "bestStep", "()V"⟩
def dkwX4_bestStep_6 : List UInt8 := [182, 0, 200, 177, 132, 6, 1, 167, 255, 192, 132, 5, 255, 167, 255, 173, 177]
abbrev dktX4_bestStep_6 : List UInt8 := dkwX4_bestStep_6 ++ []
def dkwX4_bestStep_5 : List UInt8 := [96, 21, 6, 3, 184, 0, 154, 46, 96, 21, 4, 159, 0, 6, 167, 0, 12, 42, 21, 5, 21, 6]
abbrev dktX4_bestStep_5 : List UInt8 := dkwX4_bestStep_5 ++ dktX4_bestStep_6
def dkwX4_bestStep_4 : List UInt8 := [182, 0, 137, 21, 5, 161, 0, 45, 42, 21, 5, 21, 6, 28, 182, 0, 150, 42, 180, 0, 32, 27, 21, 5]
abbrev dktX4_bestStep_4 : List UInt8 := dkwX4_bestStep_4 ++ dktX4_bestStep_5
def dkwX4_bestStep_3 : List UInt8 := [21, 5, 42, 5, 182, 0, 93, 161, 0, 79, 4, 54, 6, 21, 6, 16, 33, 162, 0, 63, 42, 27, 21, 6]
abbrev dktX4_bestStep_3 : List UInt8 := dkwX4_bestStep_3 ++ dktX4_bestStep_4
def dkwX4_bestStep_2 : List UInt8 := [184, 0, 154, 46, 96, 21, 4, 160, 0, 10, 42, 4, 3, 182, 0, 200, 177, 42, 6, 182, 0, 93, 54, 5]
abbrev dktX4_bestStep_2 : List UInt8 := dkwX4_bestStep_2 ++ dktX4_bestStep_3
def dkwX4_bestStep_1 : List UInt8 := [28, 29, 184, 0, 154, 46, 54, 4, 42, 27, 29, 182, 0, 161, 42, 180, 0, 32, 27, 4, 96, 28, 4]
abbrev dktX4_bestStep_1 : List UInt8 := dkwX4_bestStep_1 ++ dktX4_bestStep_2
def dkwX4_bestStep_0 : List UInt8 := [42, 182, 0, 182, 60, 42, 182, 0, 204, 61, 42, 42, 180, 0, 179, 182, 0, 185, 62, 42, 180, 0, 32, 27]
abbrev dktX4_bestStep_0 : List UInt8 := dkwX4_bestStep_0 ++ dktX4_bestStep_1
theorem dksX4_bestStep_0 : cX4_bestStep.data.toList.drop 0 = dktX4_bestStep_0 := by decide +kernel
theorem dksX4_bestStep_1 : cX4_bestStep.data.toList.drop 24 = dktX4_bestStep_1 := dk_seg dksX4_bestStep_0 24 rfl rfl
theorem dksX4_bestStep_2 : cX4_bestStep.data.toList.drop 47 = dktX4_bestStep_2 := dk_seg dksX4_bestStep_1 23 rfl rfl
theorem dksX4_bestStep_3 : cX4_bestStep.data.toList.drop 71 = dktX4_bestStep_3 := dk_seg dksX4_bestStep_2 24 rfl rfl
theorem dksX4_bestStep_4 : cX4_bestStep.data.toList.drop 95 = dktX4_bestStep_4 := dk_seg dksX4_bestStep_3 24 rfl rfl
theorem dksX4_bestStep_5 : cX4_bestStep.data.toList.drop 119 = dktX4_bestStep_5 := dk_seg dksX4_bestStep_4 24 rfl rfl
theorem dksX4_bestStep_6 : cX4_bestStep.data.toList.drop 141 = dktX4_bestStep_6 := dk_seg dksX4_bestStep_5 22 rfl rfl
theorem dX4_bestStep_0 : decode cX4_bestStep 0 = .ok (.aload_n 0, 1) := dk_42 (dk_at dksX4_bestStep_0 0 rfl rfl)
theorem dX4_bestStep_1 : decode cX4_bestStep 1 = .ok (.invokevirtual 182, 3) := dk_182 0 182 (dk_at dksX4_bestStep_0 1 rfl rfl)
theorem dX4_bestStep_4 : decode cX4_bestStep 4 = .ok (.istore_n 1, 1) := dk_60 (dk_at dksX4_bestStep_0 4 rfl rfl)
theorem dX4_bestStep_5 : decode cX4_bestStep 5 = .ok (.aload_n 0, 1) := dk_42 (dk_at dksX4_bestStep_0 5 rfl rfl)
theorem dX4_bestStep_6 : decode cX4_bestStep 6 = .ok (.invokevirtual 204, 3) := dk_182 0 204 (dk_at dksX4_bestStep_0 6 rfl rfl)
theorem dX4_bestStep_9 : decode cX4_bestStep 9 = .ok (.istore_n 2, 1) := dk_61 (dk_at dksX4_bestStep_0 9 rfl rfl)
theorem dX4_bestStep_10 : decode cX4_bestStep 10 = .ok (.aload_n 0, 1) := dk_42 (dk_at dksX4_bestStep_0 10 rfl rfl)
theorem dX4_bestStep_11 : decode cX4_bestStep 11 = .ok (.aload_n 0, 1) := dk_42 (dk_at dksX4_bestStep_0 11 rfl rfl)
theorem dX4_bestStep_12 : decode cX4_bestStep 12 = .ok (.getfield 179, 3) := dk_180 0 179 (dk_at dksX4_bestStep_0 12 rfl rfl)
theorem dX4_bestStep_15 : decode cX4_bestStep 15 = .ok (.invokevirtual 185, 3) := dk_182 0 185 (dk_at dksX4_bestStep_0 15 rfl rfl)
theorem dX4_bestStep_18 : decode cX4_bestStep 18 = .ok (.istore_n 3, 1) := dk_62 (dk_at dksX4_bestStep_0 18 rfl rfl)
theorem dX4_bestStep_19 : decode cX4_bestStep 19 = .ok (.aload_n 0, 1) := dk_42 (dk_at dksX4_bestStep_0 19 rfl rfl)
theorem dX4_bestStep_20 : decode cX4_bestStep 20 = .ok (.getfield 32, 3) := dk_180 0 32 (dk_at dksX4_bestStep_0 20 rfl rfl)
theorem dX4_bestStep_23 : decode cX4_bestStep 23 = .ok (.iload_n 1, 1) := dk_27 (dk_at dksX4_bestStep_0 23 rfl rfl)
theorem dX4_bestStep_24 : decode cX4_bestStep 24 = .ok (.iload_n 2, 1) := dk_28 (dk_at dksX4_bestStep_1 0 rfl rfl)
theorem dX4_bestStep_25 : decode cX4_bestStep 25 = .ok (.iload_n 3, 1) := dk_29 (dk_at dksX4_bestStep_1 1 rfl rfl)
theorem dX4_bestStep_26 : decode cX4_bestStep 26 = .ok (.invokestatic 154, 3) := dk_184 0 154 (dk_at dksX4_bestStep_1 2 rfl rfl)
theorem dX4_bestStep_29 : decode cX4_bestStep 29 = .ok (.iaload, 1) := dk_46 (dk_at dksX4_bestStep_1 5 rfl rfl)
theorem dX4_bestStep_30 : decode cX4_bestStep 30 = .ok (.istore 4, 2) := dk_54 4 (dk_at dksX4_bestStep_1 6 rfl rfl)
theorem dX4_bestStep_32 : decode cX4_bestStep 32 = .ok (.aload_n 0, 1) := dk_42 (dk_at dksX4_bestStep_1 8 rfl rfl)
theorem dX4_bestStep_33 : decode cX4_bestStep 33 = .ok (.iload_n 1, 1) := dk_27 (dk_at dksX4_bestStep_1 9 rfl rfl)
theorem dX4_bestStep_34 : decode cX4_bestStep 34 = .ok (.iload_n 3, 1) := dk_29 (dk_at dksX4_bestStep_1 10 rfl rfl)
theorem dX4_bestStep_35 : decode cX4_bestStep 35 = .ok (.invokevirtual 161, 3) := dk_182 0 161 (dk_at dksX4_bestStep_1 11 rfl rfl)
theorem dX4_bestStep_38 : decode cX4_bestStep 38 = .ok (.aload_n 0, 1) := dk_42 (dk_at dksX4_bestStep_1 14 rfl rfl)
theorem dX4_bestStep_39 : decode cX4_bestStep 39 = .ok (.getfield 32, 3) := dk_180 0 32 (dk_at dksX4_bestStep_1 15 rfl rfl)
theorem dX4_bestStep_42 : decode cX4_bestStep 42 = .ok (.iload_n 1, 1) := dk_27 (dk_at dksX4_bestStep_1 18 rfl rfl)
theorem dX4_bestStep_43 : decode cX4_bestStep 43 = .ok (.iconst 1, 1) := dk_4 (dk_at dksX4_bestStep_1 19 rfl rfl)
theorem dX4_bestStep_44 : decode cX4_bestStep 44 = .ok (.iadd, 1) := dk_96 (dk_at dksX4_bestStep_1 20 rfl rfl)
theorem dX4_bestStep_45 : decode cX4_bestStep 45 = .ok (.iload_n 2, 1) := dk_28 (dk_at dksX4_bestStep_1 21 rfl rfl)
theorem dX4_bestStep_46 : decode cX4_bestStep 46 = .ok (.iconst 1, 1) := dk_4 (dk_at dksX4_bestStep_1 22 rfl rfl)
theorem dX4_bestStep_47 : decode cX4_bestStep 47 = .ok (.invokestatic 154, 3) := dk_184 0 154 (dk_at dksX4_bestStep_2 0 rfl rfl)
theorem dX4_bestStep_50 : decode cX4_bestStep 50 = .ok (.iaload, 1) := dk_46 (dk_at dksX4_bestStep_2 3 rfl rfl)
theorem dX4_bestStep_51 : decode cX4_bestStep 51 = .ok (.iadd, 1) := dk_96 (dk_at dksX4_bestStep_2 4 rfl rfl)
theorem dX4_bestStep_52 : decode cX4_bestStep 52 = .ok (.iload 4, 2) := dk_21 4 (dk_at dksX4_bestStep_2 5 rfl rfl)
theorem dX4_bestStep_54 : decode cX4_bestStep 54 = .ok (.if_icmp .ne 10, 3) := dk_160 0 10 (dk_at dksX4_bestStep_2 7 rfl rfl)
theorem dX4_bestStep_57 : decode cX4_bestStep 57 = .ok (.aload_n 0, 1) := dk_42 (dk_at dksX4_bestStep_2 10 rfl rfl)
theorem dX4_bestStep_58 : decode cX4_bestStep 58 = .ok (.iconst 1, 1) := dk_4 (dk_at dksX4_bestStep_2 11 rfl rfl)
theorem dX4_bestStep_59 : decode cX4_bestStep 59 = .ok (.iconst 0, 1) := dk_3 (dk_at dksX4_bestStep_2 12 rfl rfl)
theorem dX4_bestStep_60 : decode cX4_bestStep 60 = .ok (.invokevirtual 200, 3) := dk_182 0 200 (dk_at dksX4_bestStep_2 13 rfl rfl)
theorem dX4_bestStep_63 : decode cX4_bestStep 63 = .ok (.return_, 1) := dk_177 (dk_at dksX4_bestStep_2 16 rfl rfl)
theorem dX4_bestStep_64 : decode cX4_bestStep 64 = .ok (.aload_n 0, 1) := dk_42 (dk_at dksX4_bestStep_2 17 rfl rfl)
theorem dX4_bestStep_65 : decode cX4_bestStep 65 = .ok (.iconst 3, 1) := dk_6 (dk_at dksX4_bestStep_2 18 rfl rfl)
theorem dX4_bestStep_66 : decode cX4_bestStep 66 = .ok (.invokevirtual 93, 3) := dk_182 0 93 (dk_at dksX4_bestStep_2 19 rfl rfl)
theorem dX4_bestStep_69 : decode cX4_bestStep 69 = .ok (.istore 5, 2) := dk_54 5 (dk_at dksX4_bestStep_2 22 rfl rfl)
theorem dX4_bestStep_71 : decode cX4_bestStep 71 = .ok (.iload 5, 2) := dk_21 5 (dk_at dksX4_bestStep_3 0 rfl rfl)
theorem dX4_bestStep_73 : decode cX4_bestStep 73 = .ok (.aload_n 0, 1) := dk_42 (dk_at dksX4_bestStep_3 2 rfl rfl)
theorem dX4_bestStep_74 : decode cX4_bestStep 74 = .ok (.iconst 2, 1) := dk_5 (dk_at dksX4_bestStep_3 3 rfl rfl)
theorem dX4_bestStep_75 : decode cX4_bestStep 75 = .ok (.invokevirtual 93, 3) := dk_182 0 93 (dk_at dksX4_bestStep_3 4 rfl rfl)
theorem dX4_bestStep_78 : decode cX4_bestStep 78 = .ok (.if_icmp .lt 79, 3) := dk_161 0 79 (dk_at dksX4_bestStep_3 7 rfl rfl)
theorem dX4_bestStep_81 : decode cX4_bestStep 81 = .ok (.iconst 1, 1) := dk_4 (dk_at dksX4_bestStep_3 10 rfl rfl)
theorem dX4_bestStep_82 : decode cX4_bestStep 82 = .ok (.istore 6, 2) := dk_54 6 (dk_at dksX4_bestStep_3 11 rfl rfl)
theorem dX4_bestStep_84 : decode cX4_bestStep 84 = .ok (.iload 6, 2) := dk_21 6 (dk_at dksX4_bestStep_3 13 rfl rfl)
theorem dX4_bestStep_86 : decode cX4_bestStep 86 = .ok (.bipush 33, 2) := dk_16 33 (dk_at dksX4_bestStep_3 15 rfl rfl)
theorem dX4_bestStep_88 : decode cX4_bestStep 88 = .ok (.if_icmp .ge 63, 3) := dk_162 0 63 (dk_at dksX4_bestStep_3 17 rfl rfl)
theorem dX4_bestStep_91 : decode cX4_bestStep 91 = .ok (.aload_n 0, 1) := dk_42 (dk_at dksX4_bestStep_3 20 rfl rfl)
theorem dX4_bestStep_92 : decode cX4_bestStep 92 = .ok (.iload_n 1, 1) := dk_27 (dk_at dksX4_bestStep_3 21 rfl rfl)
theorem dX4_bestStep_93 : decode cX4_bestStep 93 = .ok (.iload 6, 2) := dk_21 6 (dk_at dksX4_bestStep_3 22 rfl rfl)
theorem dX4_bestStep_95 : decode cX4_bestStep 95 = .ok (.invokevirtual 137, 3) := dk_182 0 137 (dk_at dksX4_bestStep_4 0 rfl rfl)
theorem dX4_bestStep_98 : decode cX4_bestStep 98 = .ok (.iload 5, 2) := dk_21 5 (dk_at dksX4_bestStep_4 3 rfl rfl)
theorem dX4_bestStep_100 : decode cX4_bestStep 100 = .ok (.if_icmp .lt 45, 3) := dk_161 0 45 (dk_at dksX4_bestStep_4 5 rfl rfl)
theorem dX4_bestStep_103 : decode cX4_bestStep 103 = .ok (.aload_n 0, 1) := dk_42 (dk_at dksX4_bestStep_4 8 rfl rfl)
theorem dX4_bestStep_104 : decode cX4_bestStep 104 = .ok (.iload 5, 2) := dk_21 5 (dk_at dksX4_bestStep_4 9 rfl rfl)
theorem dX4_bestStep_106 : decode cX4_bestStep 106 = .ok (.iload 6, 2) := dk_21 6 (dk_at dksX4_bestStep_4 11 rfl rfl)
theorem dX4_bestStep_108 : decode cX4_bestStep 108 = .ok (.iload_n 2, 1) := dk_28 (dk_at dksX4_bestStep_4 13 rfl rfl)
theorem dX4_bestStep_109 : decode cX4_bestStep 109 = .ok (.invokevirtual 150, 3) := dk_182 0 150 (dk_at dksX4_bestStep_4 14 rfl rfl)
theorem dX4_bestStep_112 : decode cX4_bestStep 112 = .ok (.aload_n 0, 1) := dk_42 (dk_at dksX4_bestStep_4 17 rfl rfl)
theorem dX4_bestStep_113 : decode cX4_bestStep 113 = .ok (.getfield 32, 3) := dk_180 0 32 (dk_at dksX4_bestStep_4 18 rfl rfl)
theorem dX4_bestStep_116 : decode cX4_bestStep 116 = .ok (.iload_n 1, 1) := dk_27 (dk_at dksX4_bestStep_4 21 rfl rfl)
theorem dX4_bestStep_117 : decode cX4_bestStep 117 = .ok (.iload 5, 2) := dk_21 5 (dk_at dksX4_bestStep_4 22 rfl rfl)
theorem dX4_bestStep_119 : decode cX4_bestStep 119 = .ok (.iadd, 1) := dk_96 (dk_at dksX4_bestStep_5 0 rfl rfl)
theorem dX4_bestStep_120 : decode cX4_bestStep 120 = .ok (.iload 6, 2) := dk_21 6 (dk_at dksX4_bestStep_5 1 rfl rfl)
theorem dX4_bestStep_122 : decode cX4_bestStep 122 = .ok (.iconst 0, 1) := dk_3 (dk_at dksX4_bestStep_5 3 rfl rfl)
theorem dX4_bestStep_123 : decode cX4_bestStep 123 = .ok (.invokestatic 154, 3) := dk_184 0 154 (dk_at dksX4_bestStep_5 4 rfl rfl)
theorem dX4_bestStep_126 : decode cX4_bestStep 126 = .ok (.iaload, 1) := dk_46 (dk_at dksX4_bestStep_5 7 rfl rfl)
theorem dX4_bestStep_127 : decode cX4_bestStep 127 = .ok (.iadd, 1) := dk_96 (dk_at dksX4_bestStep_5 8 rfl rfl)
theorem dX4_bestStep_128 : decode cX4_bestStep 128 = .ok (.iload 4, 2) := dk_21 4 (dk_at dksX4_bestStep_5 9 rfl rfl)
theorem dX4_bestStep_130 : decode cX4_bestStep 130 = .ok (.if_icmp .eq 6, 3) := dk_159 0 6 (dk_at dksX4_bestStep_5 11 rfl rfl)
theorem dX4_bestStep_133 : decode cX4_bestStep 133 = .ok (.goto 12, 3) := dk_167 0 12 (dk_at dksX4_bestStep_5 14 rfl rfl)
theorem dX4_bestStep_136 : decode cX4_bestStep 136 = .ok (.aload_n 0, 1) := dk_42 (dk_at dksX4_bestStep_5 17 rfl rfl)
theorem dX4_bestStep_137 : decode cX4_bestStep 137 = .ok (.iload 5, 2) := dk_21 5 (dk_at dksX4_bestStep_5 18 rfl rfl)
theorem dX4_bestStep_139 : decode cX4_bestStep 139 = .ok (.iload 6, 2) := dk_21 6 (dk_at dksX4_bestStep_5 20 rfl rfl)
theorem dX4_bestStep_141 : decode cX4_bestStep 141 = .ok (.invokevirtual 200, 3) := dk_182 0 200 (dk_at dksX4_bestStep_6 0 rfl rfl)
theorem dX4_bestStep_144 : decode cX4_bestStep 144 = .ok (.return_, 1) := dk_177 (dk_at dksX4_bestStep_6 3 rfl rfl)
theorem dX4_bestStep_145 : decode cX4_bestStep 145 = .ok (.iinc 6 1, 3) := dk_132 6 1 (dk_at dksX4_bestStep_6 4 rfl rfl)
theorem dX4_bestStep_148 : decode cX4_bestStep 148 = .ok (.goto (-64), 3) := dk_167 255 192 (dk_at dksX4_bestStep_6 7 rfl rfl)
theorem dX4_bestStep_151 : decode cX4_bestStep 151 = .ok (.iinc 5 (-1), 3) := dk_132 5 255 (dk_at dksX4_bestStep_6 10 rfl rfl)
theorem dX4_bestStep_154 : decode cX4_bestStep 154 = .ok (.goto (-83), 3) := dk_167 255 173 (dk_at dksX4_bestStep_6 13 rfl rfl)
theorem dX4_bestStep_157 : decode cX4_bestStep 157 = .ok (.return_, 1) := dk_177 (dk_at dksX4_bestStep_6 16 rfl rfl)
abbrev cX4_lastNow : ByteArray := prog_14_method_51_code
def yX4_lastNow : MethodName := ⟨RX4, "lastNow", "()I"⟩
def dkwX4_lastNow_0 : List UInt8 := [42, 42, 180, 0, 179, 182, 0, 188, 172]
abbrev dktX4_lastNow_0 : List UInt8 := dkwX4_lastNow_0 ++ []
theorem dksX4_lastNow_0 : cX4_lastNow.data.toList.drop 0 = dktX4_lastNow_0 := by decide +kernel
theorem dX4_lastNow_0 : decode cX4_lastNow 0 = .ok (.aload_n 0, 1) := dk_42 (dk_at dksX4_lastNow_0 0 rfl rfl)
theorem dX4_lastNow_1 : decode cX4_lastNow 1 = .ok (.aload_n 0, 1) := dk_42 (dk_at dksX4_lastNow_0 1 rfl rfl)
theorem dX4_lastNow_2 : decode cX4_lastNow 2 = .ok (.getfield 179, 3) := dk_180 0 179 (dk_at dksX4_lastNow_0 2 rfl rfl)
theorem dX4_lastNow_5 : decode cX4_lastNow 5 = .ok (.invokevirtual 188, 3) := dk_182 0 188 (dk_at dksX4_lastNow_0 5 rfl rfl)
theorem dX4_lastNow_8 : decode cX4_lastNow 8 = .ok (.ireturn, 1) := dk_172 (dk_at dksX4_lastNow_0 8 rfl rfl)
abbrev cX4_lastOf : ByteArray := prog_14_method_45_code
def yX4_lastOf : MethodName := ⟨RX4, "lastOf", "(I)I"⟩
def dkwX4_lastOf_1 : List UInt8 := [132, 2, 255, 167, 255, 233, 3, 172]
abbrev dktX4_lastOf_1 : List UInt8 := dkwX4_lastOf_1 ++ []
def dkwX4_lastOf_0 : List UInt8 := [27, 4, 100, 61, 28, 155, 0, 25, 42, 180, 0, 44, 28, 46, 158, 0, 10, 42, 180, 0, 44, 28, 46, 172]
abbrev dktX4_lastOf_0 : List UInt8 := dkwX4_lastOf_0 ++ dktX4_lastOf_1
theorem dksX4_lastOf_0 : cX4_lastOf.data.toList.drop 0 = dktX4_lastOf_0 := by decide +kernel
theorem dksX4_lastOf_1 : cX4_lastOf.data.toList.drop 24 = dktX4_lastOf_1 := dk_seg dksX4_lastOf_0 24 rfl rfl
theorem dX4_lastOf_0 : decode cX4_lastOf 0 = .ok (.iload_n 1, 1) := dk_27 (dk_at dksX4_lastOf_0 0 rfl rfl)
theorem dX4_lastOf_1 : decode cX4_lastOf 1 = .ok (.iconst 1, 1) := dk_4 (dk_at dksX4_lastOf_0 1 rfl rfl)
theorem dX4_lastOf_2 : decode cX4_lastOf 2 = .ok (.isub, 1) := dk_100 (dk_at dksX4_lastOf_0 2 rfl rfl)
theorem dX4_lastOf_3 : decode cX4_lastOf 3 = .ok (.istore_n 2, 1) := dk_61 (dk_at dksX4_lastOf_0 3 rfl rfl)
theorem dX4_lastOf_4 : decode cX4_lastOf 4 = .ok (.iload_n 2, 1) := dk_28 (dk_at dksX4_lastOf_0 4 rfl rfl)
theorem dX4_lastOf_5 : decode cX4_lastOf 5 = .ok (.ifCond .lt 25, 3) := dk_155 0 25 (dk_at dksX4_lastOf_0 5 rfl rfl)
theorem dX4_lastOf_8 : decode cX4_lastOf 8 = .ok (.aload_n 0, 1) := dk_42 (dk_at dksX4_lastOf_0 8 rfl rfl)
theorem dX4_lastOf_9 : decode cX4_lastOf 9 = .ok (.getfield 44, 3) := dk_180 0 44 (dk_at dksX4_lastOf_0 9 rfl rfl)
theorem dX4_lastOf_12 : decode cX4_lastOf 12 = .ok (.iload_n 2, 1) := dk_28 (dk_at dksX4_lastOf_0 12 rfl rfl)
theorem dX4_lastOf_13 : decode cX4_lastOf 13 = .ok (.iaload, 1) := dk_46 (dk_at dksX4_lastOf_0 13 rfl rfl)
theorem dX4_lastOf_14 : decode cX4_lastOf 14 = .ok (.ifCond .le 10, 3) := dk_158 0 10 (dk_at dksX4_lastOf_0 14 rfl rfl)
theorem dX4_lastOf_17 : decode cX4_lastOf 17 = .ok (.aload_n 0, 1) := dk_42 (dk_at dksX4_lastOf_0 17 rfl rfl)
theorem dX4_lastOf_18 : decode cX4_lastOf 18 = .ok (.getfield 44, 3) := dk_180 0 44 (dk_at dksX4_lastOf_0 18 rfl rfl)
theorem dX4_lastOf_21 : decode cX4_lastOf 21 = .ok (.iload_n 2, 1) := dk_28 (dk_at dksX4_lastOf_0 21 rfl rfl)
theorem dX4_lastOf_22 : decode cX4_lastOf 22 = .ok (.iaload, 1) := dk_46 (dk_at dksX4_lastOf_0 22 rfl rfl)
theorem dX4_lastOf_23 : decode cX4_lastOf 23 = .ok (.ireturn, 1) := dk_172 (dk_at dksX4_lastOf_0 23 rfl rfl)
theorem dX4_lastOf_24 : decode cX4_lastOf 24 = .ok (.iinc 2 (-1), 3) := dk_132 2 255 (dk_at dksX4_lastOf_1 0 rfl rfl)
theorem dX4_lastOf_27 : decode cX4_lastOf 27 = .ok (.goto (-23), 3) := dk_167 255 233 (dk_at dksX4_lastOf_1 3 rfl rfl)
theorem dX4_lastOf_30 : decode cX4_lastOf 30 = .ok (.iconst 0, 1) := dk_3 (dk_at dksX4_lastOf_1 6 rfl rfl)
theorem dX4_lastOf_31 : decode cX4_lastOf 31 = .ok (.ireturn, 1) := dk_172 (dk_at dksX4_lastOf_1 7 rfl rfl)
abbrev cX4_isInRun : ByteArray := prog_14_method_46_code
def yX4_isInRun : MethodName := ⟨RX4, "isInRun", "(I)Z"⟩
def dkwX4_isInRun_0 : List UInt8 := [27, 158, 0, 18, 42, 180, 0, 44, 27, 4, 100, 46, 154, 0, 7, 4, 167, 0, 4, 3, 172]
abbrev dktX4_isInRun_0 : List UInt8 := dkwX4_isInRun_0 ++ []
theorem dksX4_isInRun_0 : cX4_isInRun.data.toList.drop 0 = dktX4_isInRun_0 := by decide +kernel
theorem dX4_isInRun_0 : decode cX4_isInRun 0 = .ok (.iload_n 1, 1) := dk_27 (dk_at dksX4_isInRun_0 0 rfl rfl)
theorem dX4_isInRun_1 : decode cX4_isInRun 1 = .ok (.ifCond .le 18, 3) := dk_158 0 18 (dk_at dksX4_isInRun_0 1 rfl rfl)
theorem dX4_isInRun_4 : decode cX4_isInRun 4 = .ok (.aload_n 0, 1) := dk_42 (dk_at dksX4_isInRun_0 4 rfl rfl)
theorem dX4_isInRun_5 : decode cX4_isInRun 5 = .ok (.getfield 44, 3) := dk_180 0 44 (dk_at dksX4_isInRun_0 5 rfl rfl)
theorem dX4_isInRun_8 : decode cX4_isInRun 8 = .ok (.iload_n 1, 1) := dk_27 (dk_at dksX4_isInRun_0 8 rfl rfl)
theorem dX4_isInRun_9 : decode cX4_isInRun 9 = .ok (.iconst 1, 1) := dk_4 (dk_at dksX4_isInRun_0 9 rfl rfl)
theorem dX4_isInRun_10 : decode cX4_isInRun 10 = .ok (.isub, 1) := dk_100 (dk_at dksX4_isInRun_0 10 rfl rfl)
theorem dX4_isInRun_11 : decode cX4_isInRun 11 = .ok (.iaload, 1) := dk_46 (dk_at dksX4_isInRun_0 11 rfl rfl)
theorem dX4_isInRun_12 : decode cX4_isInRun 12 = .ok (.ifCond .ne 7, 3) := dk_154 0 7 (dk_at dksX4_isInRun_0 12 rfl rfl)
theorem dX4_isInRun_15 : decode cX4_isInRun 15 = .ok (.iconst 1, 1) := dk_4 (dk_at dksX4_isInRun_0 15 rfl rfl)
theorem dX4_isInRun_16 : decode cX4_isInRun 16 = .ok (.goto 4, 3) := dk_167 0 4 (dk_at dksX4_isInRun_0 16 rfl rfl)
theorem dX4_isInRun_19 : decode cX4_isInRun 19 = .ok (.iconst 0, 1) := dk_3 (dk_at dksX4_isInRun_0 19 rfl rfl)
theorem dX4_isInRun_20 : decode cX4_isInRun 20 = .ok (.ireturn, 1) := dk_172 (dk_at dksX4_isInRun_0 20 rfl rfl)
abbrev cX4_greedyStep : ByteArray := prog_14_method_50_code
def yX4_greedyStep : MethodName := ⟨RX4, "greedyStep", "(Z)V"⟩
def dkwX4_greedyStep_2 : List UInt8 := [182, 0, 200, 167, 0, 9, 42, 4, 3, 182, 0, 200, 177]
abbrev dktX4_greedyStep_2 : List UInt8 := dkwX4_greedyStep_2 ++ []
def dkwX4_greedyStep_1 : List UInt8 := [154, 0, 7, 4, 167, 0, 4, 3, 62, 29, 153, 0, 20, 42, 42, 28, 182, 0, 140, 42, 28, 182, 0, 197]
abbrev dktX4_greedyStep_1 : List UInt8 := dkwX4_greedyStep_1 ++ dktX4_greedyStep_2
def dkwX4_greedyStep_0 : List UInt8 := [42, 182, 0, 182, 61, 42, 28, 182, 0, 140, 158, 0, 19, 27, 153, 0, 11, 42, 28, 182, 0, 194]
abbrev dktX4_greedyStep_0 : List UInt8 := dkwX4_greedyStep_0 ++ dktX4_greedyStep_1
theorem dksX4_greedyStep_0 : cX4_greedyStep.data.toList.drop 0 = dktX4_greedyStep_0 := by decide +kernel
theorem dksX4_greedyStep_1 : cX4_greedyStep.data.toList.drop 22 = dktX4_greedyStep_1 := dk_seg dksX4_greedyStep_0 22 rfl rfl
theorem dksX4_greedyStep_2 : cX4_greedyStep.data.toList.drop 46 = dktX4_greedyStep_2 := dk_seg dksX4_greedyStep_1 24 rfl rfl
theorem dX4_greedyStep_0 : decode cX4_greedyStep 0 = .ok (.aload_n 0, 1) := dk_42 (dk_at dksX4_greedyStep_0 0 rfl rfl)
theorem dX4_greedyStep_1 : decode cX4_greedyStep 1 = .ok (.invokevirtual 182, 3) := dk_182 0 182 (dk_at dksX4_greedyStep_0 1 rfl rfl)
theorem dX4_greedyStep_4 : decode cX4_greedyStep 4 = .ok (.istore_n 2, 1) := dk_61 (dk_at dksX4_greedyStep_0 4 rfl rfl)
theorem dX4_greedyStep_5 : decode cX4_greedyStep 5 = .ok (.aload_n 0, 1) := dk_42 (dk_at dksX4_greedyStep_0 5 rfl rfl)
theorem dX4_greedyStep_6 : decode cX4_greedyStep 6 = .ok (.iload_n 2, 1) := dk_28 (dk_at dksX4_greedyStep_0 6 rfl rfl)
theorem dX4_greedyStep_7 : decode cX4_greedyStep 7 = .ok (.invokevirtual 140, 3) := dk_182 0 140 (dk_at dksX4_greedyStep_0 7 rfl rfl)
theorem dX4_greedyStep_10 : decode cX4_greedyStep 10 = .ok (.ifCond .le 19, 3) := dk_158 0 19 (dk_at dksX4_greedyStep_0 10 rfl rfl)
theorem dX4_greedyStep_13 : decode cX4_greedyStep 13 = .ok (.iload_n 1, 1) := dk_27 (dk_at dksX4_greedyStep_0 13 rfl rfl)
theorem dX4_greedyStep_14 : decode cX4_greedyStep 14 = .ok (.ifCond .eq 11, 3) := dk_153 0 11 (dk_at dksX4_greedyStep_0 14 rfl rfl)
theorem dX4_greedyStep_17 : decode cX4_greedyStep 17 = .ok (.aload_n 0, 1) := dk_42 (dk_at dksX4_greedyStep_0 17 rfl rfl)
theorem dX4_greedyStep_18 : decode cX4_greedyStep 18 = .ok (.iload_n 2, 1) := dk_28 (dk_at dksX4_greedyStep_0 18 rfl rfl)
theorem dX4_greedyStep_19 : decode cX4_greedyStep 19 = .ok (.invokevirtual 194, 3) := dk_182 0 194 (dk_at dksX4_greedyStep_0 19 rfl rfl)
theorem dX4_greedyStep_22 : decode cX4_greedyStep 22 = .ok (.ifCond .ne 7, 3) := dk_154 0 7 (dk_at dksX4_greedyStep_1 0 rfl rfl)
theorem dX4_greedyStep_25 : decode cX4_greedyStep 25 = .ok (.iconst 1, 1) := dk_4 (dk_at dksX4_greedyStep_1 3 rfl rfl)
theorem dX4_greedyStep_26 : decode cX4_greedyStep 26 = .ok (.goto 4, 3) := dk_167 0 4 (dk_at dksX4_greedyStep_1 4 rfl rfl)
theorem dX4_greedyStep_29 : decode cX4_greedyStep 29 = .ok (.iconst 0, 1) := dk_3 (dk_at dksX4_greedyStep_1 7 rfl rfl)
theorem dX4_greedyStep_30 : decode cX4_greedyStep 30 = .ok (.istore_n 3, 1) := dk_62 (dk_at dksX4_greedyStep_1 8 rfl rfl)
theorem dX4_greedyStep_31 : decode cX4_greedyStep 31 = .ok (.iload_n 3, 1) := dk_29 (dk_at dksX4_greedyStep_1 9 rfl rfl)
theorem dX4_greedyStep_32 : decode cX4_greedyStep 32 = .ok (.ifCond .eq 20, 3) := dk_153 0 20 (dk_at dksX4_greedyStep_1 10 rfl rfl)
theorem dX4_greedyStep_35 : decode cX4_greedyStep 35 = .ok (.aload_n 0, 1) := dk_42 (dk_at dksX4_greedyStep_1 13 rfl rfl)
theorem dX4_greedyStep_36 : decode cX4_greedyStep 36 = .ok (.aload_n 0, 1) := dk_42 (dk_at dksX4_greedyStep_1 14 rfl rfl)
theorem dX4_greedyStep_37 : decode cX4_greedyStep 37 = .ok (.iload_n 2, 1) := dk_28 (dk_at dksX4_greedyStep_1 15 rfl rfl)
theorem dX4_greedyStep_38 : decode cX4_greedyStep 38 = .ok (.invokevirtual 140, 3) := dk_182 0 140 (dk_at dksX4_greedyStep_1 16 rfl rfl)
theorem dX4_greedyStep_41 : decode cX4_greedyStep 41 = .ok (.aload_n 0, 1) := dk_42 (dk_at dksX4_greedyStep_1 19 rfl rfl)
theorem dX4_greedyStep_42 : decode cX4_greedyStep 42 = .ok (.iload_n 2, 1) := dk_28 (dk_at dksX4_greedyStep_1 20 rfl rfl)
theorem dX4_greedyStep_43 : decode cX4_greedyStep 43 = .ok (.invokevirtual 197, 3) := dk_182 0 197 (dk_at dksX4_greedyStep_1 21 rfl rfl)
theorem dX4_greedyStep_46 : decode cX4_greedyStep 46 = .ok (.invokevirtual 200, 3) := dk_182 0 200 (dk_at dksX4_greedyStep_2 0 rfl rfl)
theorem dX4_greedyStep_49 : decode cX4_greedyStep 49 = .ok (.goto 9, 3) := dk_167 0 9 (dk_at dksX4_greedyStep_2 3 rfl rfl)
theorem dX4_greedyStep_52 : decode cX4_greedyStep 52 = .ok (.aload_n 0, 1) := dk_42 (dk_at dksX4_greedyStep_2 6 rfl rfl)
theorem dX4_greedyStep_53 : decode cX4_greedyStep 53 = .ok (.iconst 1, 1) := dk_4 (dk_at dksX4_greedyStep_2 7 rfl rfl)
theorem dX4_greedyStep_54 : decode cX4_greedyStep 54 = .ok (.iconst 0, 1) := dk_3 (dk_at dksX4_greedyStep_2 8 rfl rfl)
theorem dX4_greedyStep_55 : decode cX4_greedyStep 55 = .ok (.invokevirtual 200, 3) := dk_182 0 200 (dk_at dksX4_greedyStep_2 9 rfl rfl)
theorem dX4_greedyStep_58 : decode cX4_greedyStep 58 = .ok (.return_, 1) := dk_177 (dk_at dksX4_greedyStep_2 12 rfl rfl)
abbrev cX4_waits : ByteArray := prog_14_method_49_code
def yX4_waits : MethodName := ⟨RX4, "waits", "(I)Z"⟩
def dkwX4_waits_1 : List UInt8 := [182, 0, 93, 96, 161, 0, 7, 4, 167, 0, 4, 3, 172]
abbrev dktX4_waits_1 : List UInt8 := dkwX4_waits_1 ++ []
def dkwX4_waits_0 : List UInt8 := [27, 4, 96, 42, 182, 0, 86, 162, 0, 28, 42, 27, 4, 96, 182, 0, 140, 42, 27, 182, 0, 140, 42, 7]
abbrev dktX4_waits_0 : List UInt8 := dkwX4_waits_0 ++ dktX4_waits_1
theorem dksX4_waits_0 : cX4_waits.data.toList.drop 0 = dktX4_waits_0 := by decide +kernel
theorem dksX4_waits_1 : cX4_waits.data.toList.drop 24 = dktX4_waits_1 := dk_seg dksX4_waits_0 24 rfl rfl
theorem dX4_waits_0 : decode cX4_waits 0 = .ok (.iload_n 1, 1) := dk_27 (dk_at dksX4_waits_0 0 rfl rfl)
theorem dX4_waits_1 : decode cX4_waits 1 = .ok (.iconst 1, 1) := dk_4 (dk_at dksX4_waits_0 1 rfl rfl)
theorem dX4_waits_2 : decode cX4_waits 2 = .ok (.iadd, 1) := dk_96 (dk_at dksX4_waits_0 2 rfl rfl)
theorem dX4_waits_3 : decode cX4_waits 3 = .ok (.aload_n 0, 1) := dk_42 (dk_at dksX4_waits_0 3 rfl rfl)
theorem dX4_waits_4 : decode cX4_waits 4 = .ok (.invokevirtual 86, 3) := dk_182 0 86 (dk_at dksX4_waits_0 4 rfl rfl)
theorem dX4_waits_7 : decode cX4_waits 7 = .ok (.if_icmp .ge 28, 3) := dk_162 0 28 (dk_at dksX4_waits_0 7 rfl rfl)
theorem dX4_waits_10 : decode cX4_waits 10 = .ok (.aload_n 0, 1) := dk_42 (dk_at dksX4_waits_0 10 rfl rfl)
theorem dX4_waits_11 : decode cX4_waits 11 = .ok (.iload_n 1, 1) := dk_27 (dk_at dksX4_waits_0 11 rfl rfl)
theorem dX4_waits_12 : decode cX4_waits 12 = .ok (.iconst 1, 1) := dk_4 (dk_at dksX4_waits_0 12 rfl rfl)
theorem dX4_waits_13 : decode cX4_waits 13 = .ok (.iadd, 1) := dk_96 (dk_at dksX4_waits_0 13 rfl rfl)
theorem dX4_waits_14 : decode cX4_waits 14 = .ok (.invokevirtual 140, 3) := dk_182 0 140 (dk_at dksX4_waits_0 14 rfl rfl)
theorem dX4_waits_17 : decode cX4_waits 17 = .ok (.aload_n 0, 1) := dk_42 (dk_at dksX4_waits_0 17 rfl rfl)
theorem dX4_waits_18 : decode cX4_waits 18 = .ok (.iload_n 1, 1) := dk_27 (dk_at dksX4_waits_0 18 rfl rfl)
theorem dX4_waits_19 : decode cX4_waits 19 = .ok (.invokevirtual 140, 3) := dk_182 0 140 (dk_at dksX4_waits_0 19 rfl rfl)
theorem dX4_waits_22 : decode cX4_waits 22 = .ok (.aload_n 0, 1) := dk_42 (dk_at dksX4_waits_0 22 rfl rfl)
theorem dX4_waits_23 : decode cX4_waits 23 = .ok (.iconst 4, 1) := dk_7 (dk_at dksX4_waits_0 23 rfl rfl)
theorem dX4_waits_24 : decode cX4_waits 24 = .ok (.invokevirtual 93, 3) := dk_182 0 93 (dk_at dksX4_waits_1 0 rfl rfl)
theorem dX4_waits_27 : decode cX4_waits 27 = .ok (.iadd, 1) := dk_96 (dk_at dksX4_waits_1 3 rfl rfl)
theorem dX4_waits_28 : decode cX4_waits 28 = .ok (.if_icmp .lt 7, 3) := dk_161 0 7 (dk_at dksX4_waits_1 4 rfl rfl)
theorem dX4_waits_31 : decode cX4_waits 31 = .ok (.iconst 1, 1) := dk_4 (dk_at dksX4_waits_1 7 rfl rfl)
theorem dX4_waits_32 : decode cX4_waits 32 = .ok (.goto 4, 3) := dk_167 0 4 (dk_at dksX4_waits_1 8 rfl rfl)
theorem dX4_waits_35 : decode cX4_waits 35 = .ok (.iconst 0, 1) := dk_3 (dk_at dksX4_waits_1 11 rfl rfl)
theorem dX4_waits_36 : decode cX4_waits 36 = .ok (.ireturn, 1) := dk_172 (dk_at dksX4_waits_1 12 rfl rfl)
abbrev cX4_step : ByteArray := prog_14_method_107_code
def yX4_step : MethodName := ⟨RX4, "step", "(III)I"⟩
def dkwX4_step_5 : List UInt8 := [182, 0, 191, 172, 42, 28, 182, 0, 188, 172]
abbrev dktX4_step_5 : List UInt8 := dkwX4_step_5 ++ []
def dkwX4_step_4 : List UInt8 := [42, 180, 0, 38, 28, 46, 172, 42, 180, 0, 41, 28, 46, 172, 42, 180, 0, 44, 28, 46, 172, 42, 28]
abbrev dktX4_step_4 : List UInt8 := dkwX4_step_4 ++ dktX4_step_5
def dkwX4_step_3 : List UInt8 := [170, 0, 0, 0, 0, 0, 0, 59, 0, 0, 0, 0, 0, 0, 0, 3, 0, 0, 0, 32, 0, 0, 0, 39, 0, 0, 0, 46, 0, 0, 0, 53]
abbrev dktX4_step_3 : List UInt8 := dkwX4_step_3 ++ dktX4_step_4
def dkwX4_step_2 : List UInt8 := [167, 0, 4, 3, 182, 1, 92, 154, 0, 5, 3, 172, 29]
abbrev dktX4_step_2 : List UInt8 := dkwX4_step_2 ++ dktX4_step_3
def dkwX4_step_1 : List UInt8 := [21, 4, 21, 4, 153, 0, 22, 28, 3, 42, 27, 182, 1, 145, 4, 100, 184, 0, 121, 153, 0, 7, 4]
abbrev dktX4_step_1 : List UInt8 := dkwX4_step_1 ++ dktX4_step_2
def dkwX4_step_0 : List UInt8 := [27, 184, 1, 142, 153, 0, 16, 29, 3, 7, 184, 0, 121, 153, 0, 7, 4, 167, 0, 4, 3, 54, 4, 42]
abbrev dktX4_step_0 : List UInt8 := dkwX4_step_0 ++ dktX4_step_1
theorem dksX4_step_0 : cX4_step.data.toList.drop 0 = dktX4_step_0 := by decide +kernel
theorem dksX4_step_1 : cX4_step.data.toList.drop 24 = dktX4_step_1 := dk_seg dksX4_step_0 24 rfl rfl
theorem dksX4_step_2 : cX4_step.data.toList.drop 47 = dktX4_step_2 := dk_seg dksX4_step_1 23 rfl rfl
theorem dksX4_step_3 : cX4_step.data.toList.drop 60 = dktX4_step_3 := dk_seg dksX4_step_2 13 rfl rfl
theorem dksX4_step_4 : cX4_step.data.toList.drop 92 = dktX4_step_4 := dk_seg dksX4_step_3 32 rfl rfl
theorem dksX4_step_5 : cX4_step.data.toList.drop 115 = dktX4_step_5 := dk_seg dksX4_step_4 23 rfl rfl
theorem dX4_step_0 : decode cX4_step 0 = .ok (.iload_n 1, 1) := dk_27 (dk_at dksX4_step_0 0 rfl rfl)
theorem dX4_step_1 : decode cX4_step 1 = .ok (.invokestatic 398, 3) := dk_184 1 142 (dk_at dksX4_step_0 1 rfl rfl)
theorem dX4_step_4 : decode cX4_step 4 = .ok (.ifCond .eq 16, 3) := dk_153 0 16 (dk_at dksX4_step_0 4 rfl rfl)
theorem dX4_step_7 : decode cX4_step 7 = .ok (.iload_n 3, 1) := dk_29 (dk_at dksX4_step_0 7 rfl rfl)
theorem dX4_step_8 : decode cX4_step 8 = .ok (.iconst 0, 1) := dk_3 (dk_at dksX4_step_0 8 rfl rfl)
theorem dX4_step_9 : decode cX4_step 9 = .ok (.iconst 4, 1) := dk_7 (dk_at dksX4_step_0 9 rfl rfl)
theorem dX4_step_10 : decode cX4_step 10 = .ok (.invokestatic 121, 3) := dk_184 0 121 (dk_at dksX4_step_0 10 rfl rfl)
theorem dX4_step_13 : decode cX4_step 13 = .ok (.ifCond .eq 7, 3) := dk_153 0 7 (dk_at dksX4_step_0 13 rfl rfl)
theorem dX4_step_16 : decode cX4_step 16 = .ok (.iconst 1, 1) := dk_4 (dk_at dksX4_step_0 16 rfl rfl)
theorem dX4_step_17 : decode cX4_step 17 = .ok (.goto 4, 3) := dk_167 0 4 (dk_at dksX4_step_0 17 rfl rfl)
theorem dX4_step_20 : decode cX4_step 20 = .ok (.iconst 0, 1) := dk_3 (dk_at dksX4_step_0 20 rfl rfl)
theorem dX4_step_21 : decode cX4_step 21 = .ok (.istore 4, 2) := dk_54 4 (dk_at dksX4_step_0 21 rfl rfl)
theorem dX4_step_23 : decode cX4_step 23 = .ok (.aload_n 0, 1) := dk_42 (dk_at dksX4_step_0 23 rfl rfl)
theorem dX4_step_24 : decode cX4_step 24 = .ok (.iload 4, 2) := dk_21 4 (dk_at dksX4_step_1 0 rfl rfl)
theorem dX4_step_26 : decode cX4_step 26 = .ok (.iload 4, 2) := dk_21 4 (dk_at dksX4_step_1 2 rfl rfl)
theorem dX4_step_28 : decode cX4_step 28 = .ok (.ifCond .eq 22, 3) := dk_153 0 22 (dk_at dksX4_step_1 4 rfl rfl)
theorem dX4_step_31 : decode cX4_step 31 = .ok (.iload_n 2, 1) := dk_28 (dk_at dksX4_step_1 7 rfl rfl)
theorem dX4_step_32 : decode cX4_step 32 = .ok (.iconst 0, 1) := dk_3 (dk_at dksX4_step_1 8 rfl rfl)
theorem dX4_step_33 : decode cX4_step 33 = .ok (.aload_n 0, 1) := dk_42 (dk_at dksX4_step_1 9 rfl rfl)
theorem dX4_step_34 : decode cX4_step 34 = .ok (.iload_n 1, 1) := dk_27 (dk_at dksX4_step_1 10 rfl rfl)
theorem dX4_step_35 : decode cX4_step 35 = .ok (.invokevirtual 401, 3) := dk_182 1 145 (dk_at dksX4_step_1 11 rfl rfl)
theorem dX4_step_38 : decode cX4_step 38 = .ok (.iconst 1, 1) := dk_4 (dk_at dksX4_step_1 14 rfl rfl)
theorem dX4_step_39 : decode cX4_step 39 = .ok (.isub, 1) := dk_100 (dk_at dksX4_step_1 15 rfl rfl)
theorem dX4_step_40 : decode cX4_step 40 = .ok (.invokestatic 121, 3) := dk_184 0 121 (dk_at dksX4_step_1 16 rfl rfl)
theorem dX4_step_43 : decode cX4_step 43 = .ok (.ifCond .eq 7, 3) := dk_153 0 7 (dk_at dksX4_step_1 19 rfl rfl)
theorem dX4_step_46 : decode cX4_step 46 = .ok (.iconst 1, 1) := dk_4 (dk_at dksX4_step_1 22 rfl rfl)
theorem dX4_step_47 : decode cX4_step 47 = .ok (.goto 4, 3) := dk_167 0 4 (dk_at dksX4_step_2 0 rfl rfl)
theorem dX4_step_50 : decode cX4_step 50 = .ok (.iconst 0, 1) := dk_3 (dk_at dksX4_step_2 3 rfl rfl)
theorem dX4_step_51 : decode cX4_step 51 = .ok (.invokevirtual 348, 3) := dk_182 1 92 (dk_at dksX4_step_2 4 rfl rfl)
theorem dX4_step_54 : decode cX4_step 54 = .ok (.ifCond .ne 5, 3) := dk_154 0 5 (dk_at dksX4_step_2 7 rfl rfl)
theorem dX4_step_57 : decode cX4_step 57 = .ok (.iconst 0, 1) := dk_3 (dk_at dksX4_step_2 10 rfl rfl)
theorem dX4_step_58 : decode cX4_step 58 = .ok (.ireturn, 1) := dk_172 (dk_at dksX4_step_2 11 rfl rfl)
theorem dX4_step_59 : decode cX4_step 59 = .ok (.iload_n 3, 1) := dk_29 (dk_at dksX4_step_2 12 rfl rfl)
theorem dX4_step_60 : decode cX4_step 60 = .ok (.tableswitch 59 0 3 #[32, 39, 46, 53], 32) := by decide +kernel
theorem dX4_step_92 : decode cX4_step 92 = .ok (.aload_n 0, 1) := dk_42 (dk_at dksX4_step_4 0 rfl rfl)
theorem dX4_step_93 : decode cX4_step 93 = .ok (.getfield 38, 3) := dk_180 0 38 (dk_at dksX4_step_4 1 rfl rfl)
theorem dX4_step_96 : decode cX4_step 96 = .ok (.iload_n 2, 1) := dk_28 (dk_at dksX4_step_4 4 rfl rfl)
theorem dX4_step_97 : decode cX4_step 97 = .ok (.iaload, 1) := dk_46 (dk_at dksX4_step_4 5 rfl rfl)
theorem dX4_step_98 : decode cX4_step 98 = .ok (.ireturn, 1) := dk_172 (dk_at dksX4_step_4 6 rfl rfl)
theorem dX4_step_99 : decode cX4_step 99 = .ok (.aload_n 0, 1) := dk_42 (dk_at dksX4_step_4 7 rfl rfl)
theorem dX4_step_100 : decode cX4_step 100 = .ok (.getfield 41, 3) := dk_180 0 41 (dk_at dksX4_step_4 8 rfl rfl)
theorem dX4_step_103 : decode cX4_step 103 = .ok (.iload_n 2, 1) := dk_28 (dk_at dksX4_step_4 11 rfl rfl)
theorem dX4_step_104 : decode cX4_step 104 = .ok (.iaload, 1) := dk_46 (dk_at dksX4_step_4 12 rfl rfl)
theorem dX4_step_105 : decode cX4_step 105 = .ok (.ireturn, 1) := dk_172 (dk_at dksX4_step_4 13 rfl rfl)
theorem dX4_step_106 : decode cX4_step 106 = .ok (.aload_n 0, 1) := dk_42 (dk_at dksX4_step_4 14 rfl rfl)
theorem dX4_step_107 : decode cX4_step 107 = .ok (.getfield 44, 3) := dk_180 0 44 (dk_at dksX4_step_4 15 rfl rfl)
theorem dX4_step_110 : decode cX4_step 110 = .ok (.iload_n 2, 1) := dk_28 (dk_at dksX4_step_4 18 rfl rfl)
theorem dX4_step_111 : decode cX4_step 111 = .ok (.iaload, 1) := dk_46 (dk_at dksX4_step_4 19 rfl rfl)
theorem dX4_step_112 : decode cX4_step 112 = .ok (.ireturn, 1) := dk_172 (dk_at dksX4_step_4 20 rfl rfl)
theorem dX4_step_113 : decode cX4_step 113 = .ok (.aload_n 0, 1) := dk_42 (dk_at dksX4_step_4 21 rfl rfl)
theorem dX4_step_114 : decode cX4_step 114 = .ok (.iload_n 2, 1) := dk_28 (dk_at dksX4_step_4 22 rfl rfl)
theorem dX4_step_115 : decode cX4_step 115 = .ok (.invokevirtual 191, 3) := dk_182 0 191 (dk_at dksX4_step_5 0 rfl rfl)
theorem dX4_step_118 : decode cX4_step 118 = .ok (.ireturn, 1) := dk_172 (dk_at dksX4_step_5 3 rfl rfl)
theorem dX4_step_119 : decode cX4_step 119 = .ok (.aload_n 0, 1) := dk_42 (dk_at dksX4_step_5 4 rfl rfl)
theorem dX4_step_120 : decode cX4_step 120 = .ok (.iload_n 2, 1) := dk_28 (dk_at dksX4_step_5 5 rfl rfl)
theorem dX4_step_121 : decode cX4_step 121 = .ok (.invokevirtual 188, 3) := dk_182 0 188 (dk_at dksX4_step_5 6 rfl rfl)
theorem dX4_step_124 : decode cX4_step 124 = .ok (.ireturn, 1) := dk_172 (dk_at dksX4_step_5 9 rfl rfl)
abbrev cX4_laidSteps : ByteArray := prog_14_method_106_code
def yX4_laidSteps : MethodName := ⟨RX4, "laidSteps", "(I)I"⟩
def dkwX4_laidSteps_0 : List UInt8 := [27, 184, 1, 142, 154, 0, 5, 3, 172, 42, 27, 182, 0, 217, 42, 180, 0, 179, 172]
abbrev dktX4_laidSteps_0 : List UInt8 := dkwX4_laidSteps_0 ++ []
theorem dksX4_laidSteps_0 : cX4_laidSteps.data.toList.drop 0 = dktX4_laidSteps_0 := by decide +kernel
theorem dX4_laidSteps_0 : decode cX4_laidSteps 0 = .ok (.iload_n 1, 1) := dk_27 (dk_at dksX4_laidSteps_0 0 rfl rfl)
theorem dX4_laidSteps_1 : decode cX4_laidSteps 1 = .ok (.invokestatic 398, 3) := dk_184 1 142 (dk_at dksX4_laidSteps_0 1 rfl rfl)
theorem dX4_laidSteps_4 : decode cX4_laidSteps 4 = .ok (.ifCond .ne 5, 3) := dk_154 0 5 (dk_at dksX4_laidSteps_0 4 rfl rfl)
theorem dX4_laidSteps_7 : decode cX4_laidSteps 7 = .ok (.iconst 0, 1) := dk_3 (dk_at dksX4_laidSteps_0 7 rfl rfl)
theorem dX4_laidSteps_8 : decode cX4_laidSteps 8 = .ok (.ireturn, 1) := dk_172 (dk_at dksX4_laidSteps_0 8 rfl rfl)
theorem dX4_laidSteps_9 : decode cX4_laidSteps 9 = .ok (.aload_n 0, 1) := dk_42 (dk_at dksX4_laidSteps_0 9 rfl rfl)
theorem dX4_laidSteps_10 : decode cX4_laidSteps 10 = .ok (.iload_n 1, 1) := dk_27 (dk_at dksX4_laidSteps_0 10 rfl rfl)
theorem dX4_laidSteps_11 : decode cX4_laidSteps 11 = .ok (.invokevirtual 217, 3) := dk_182 0 217 (dk_at dksX4_laidSteps_0 11 rfl rfl)
theorem dX4_laidSteps_14 : decode cX4_laidSteps 14 = .ok (.aload_n 0, 1) := dk_42 (dk_at dksX4_laidSteps_0 14 rfl rfl)
theorem dX4_laidSteps_15 : decode cX4_laidSteps 15 = .ok (.getfield 179, 3) := dk_180 0 179 (dk_at dksX4_laidSteps_0 15 rfl rfl)
theorem dX4_laidSteps_18 : decode cX4_laidSteps 18 = .ok (.ireturn, 1) := dk_172 (dk_at dksX4_laidSteps_0 18 rfl rfl)
abbrev cX4_stepCost : ByteArray := prog_14_method_47_code
def yX4_stepCost : MethodName := ⟨RX4, "stepCost", "(I)I"⟩
def dkwX4_stepCost_2 : List UInt8 := [172]
abbrev dktX4_stepCost_2 : List UInt8 := dkwX4_stepCost_2 ++ []
def dkwX4_stepCost_1 : List UInt8 := [167, 0, 24, 42, 42, 180, 0, 41, 27, 46, 42, 180, 0, 44, 27, 46, 42, 27, 182, 0, 188, 182, 0, 150]
abbrev dktX4_stepCost_1 : List UInt8 := dkwX4_stepCost_1 ++ dktX4_stepCost_2
def dkwX4_stepCost_0 : List UInt8 := [42, 180, 0, 44, 27, 46, 154, 0, 21, 42, 42, 180, 0, 38, 27, 46, 42, 27, 182, 0, 185, 182, 0, 161]
abbrev dktX4_stepCost_0 : List UInt8 := dkwX4_stepCost_0 ++ dktX4_stepCost_1
theorem dksX4_stepCost_0 : cX4_stepCost.data.toList.drop 0 = dktX4_stepCost_0 := by decide +kernel
theorem dksX4_stepCost_1 : cX4_stepCost.data.toList.drop 24 = dktX4_stepCost_1 := dk_seg dksX4_stepCost_0 24 rfl rfl
theorem dksX4_stepCost_2 : cX4_stepCost.data.toList.drop 48 = dktX4_stepCost_2 := dk_seg dksX4_stepCost_1 24 rfl rfl
theorem dX4_stepCost_0 : decode cX4_stepCost 0 = .ok (.aload_n 0, 1) := dk_42 (dk_at dksX4_stepCost_0 0 rfl rfl)
theorem dX4_stepCost_1 : decode cX4_stepCost 1 = .ok (.getfield 44, 3) := dk_180 0 44 (dk_at dksX4_stepCost_0 1 rfl rfl)
theorem dX4_stepCost_4 : decode cX4_stepCost 4 = .ok (.iload_n 1, 1) := dk_27 (dk_at dksX4_stepCost_0 4 rfl rfl)
theorem dX4_stepCost_5 : decode cX4_stepCost 5 = .ok (.iaload, 1) := dk_46 (dk_at dksX4_stepCost_0 5 rfl rfl)
theorem dX4_stepCost_6 : decode cX4_stepCost 6 = .ok (.ifCond .ne 21, 3) := dk_154 0 21 (dk_at dksX4_stepCost_0 6 rfl rfl)
theorem dX4_stepCost_9 : decode cX4_stepCost 9 = .ok (.aload_n 0, 1) := dk_42 (dk_at dksX4_stepCost_0 9 rfl rfl)
theorem dX4_stepCost_10 : decode cX4_stepCost 10 = .ok (.aload_n 0, 1) := dk_42 (dk_at dksX4_stepCost_0 10 rfl rfl)
theorem dX4_stepCost_11 : decode cX4_stepCost 11 = .ok (.getfield 38, 3) := dk_180 0 38 (dk_at dksX4_stepCost_0 11 rfl rfl)
theorem dX4_stepCost_14 : decode cX4_stepCost 14 = .ok (.iload_n 1, 1) := dk_27 (dk_at dksX4_stepCost_0 14 rfl rfl)
theorem dX4_stepCost_15 : decode cX4_stepCost 15 = .ok (.iaload, 1) := dk_46 (dk_at dksX4_stepCost_0 15 rfl rfl)
theorem dX4_stepCost_16 : decode cX4_stepCost 16 = .ok (.aload_n 0, 1) := dk_42 (dk_at dksX4_stepCost_0 16 rfl rfl)
theorem dX4_stepCost_17 : decode cX4_stepCost 17 = .ok (.iload_n 1, 1) := dk_27 (dk_at dksX4_stepCost_0 17 rfl rfl)
theorem dX4_stepCost_18 : decode cX4_stepCost 18 = .ok (.invokevirtual 185, 3) := dk_182 0 185 (dk_at dksX4_stepCost_0 18 rfl rfl)
theorem dX4_stepCost_21 : decode cX4_stepCost 21 = .ok (.invokevirtual 161, 3) := dk_182 0 161 (dk_at dksX4_stepCost_0 21 rfl rfl)
theorem dX4_stepCost_24 : decode cX4_stepCost 24 = .ok (.goto 24, 3) := dk_167 0 24 (dk_at dksX4_stepCost_1 0 rfl rfl)
theorem dX4_stepCost_27 : decode cX4_stepCost 27 = .ok (.aload_n 0, 1) := dk_42 (dk_at dksX4_stepCost_1 3 rfl rfl)
theorem dX4_stepCost_28 : decode cX4_stepCost 28 = .ok (.aload_n 0, 1) := dk_42 (dk_at dksX4_stepCost_1 4 rfl rfl)
theorem dX4_stepCost_29 : decode cX4_stepCost 29 = .ok (.getfield 41, 3) := dk_180 0 41 (dk_at dksX4_stepCost_1 5 rfl rfl)
theorem dX4_stepCost_32 : decode cX4_stepCost 32 = .ok (.iload_n 1, 1) := dk_27 (dk_at dksX4_stepCost_1 8 rfl rfl)
theorem dX4_stepCost_33 : decode cX4_stepCost 33 = .ok (.iaload, 1) := dk_46 (dk_at dksX4_stepCost_1 9 rfl rfl)
theorem dX4_stepCost_34 : decode cX4_stepCost 34 = .ok (.aload_n 0, 1) := dk_42 (dk_at dksX4_stepCost_1 10 rfl rfl)
theorem dX4_stepCost_35 : decode cX4_stepCost 35 = .ok (.getfield 44, 3) := dk_180 0 44 (dk_at dksX4_stepCost_1 11 rfl rfl)
theorem dX4_stepCost_38 : decode cX4_stepCost 38 = .ok (.iload_n 1, 1) := dk_27 (dk_at dksX4_stepCost_1 14 rfl rfl)
theorem dX4_stepCost_39 : decode cX4_stepCost 39 = .ok (.iaload, 1) := dk_46 (dk_at dksX4_stepCost_1 15 rfl rfl)
theorem dX4_stepCost_40 : decode cX4_stepCost 40 = .ok (.aload_n 0, 1) := dk_42 (dk_at dksX4_stepCost_1 16 rfl rfl)
theorem dX4_stepCost_41 : decode cX4_stepCost 41 = .ok (.iload_n 1, 1) := dk_27 (dk_at dksX4_stepCost_1 17 rfl rfl)
theorem dX4_stepCost_42 : decode cX4_stepCost 42 = .ok (.invokevirtual 188, 3) := dk_182 0 188 (dk_at dksX4_stepCost_1 18 rfl rfl)
theorem dX4_stepCost_45 : decode cX4_stepCost 45 = .ok (.invokevirtual 150, 3) := dk_182 0 150 (dk_at dksX4_stepCost_1 21 rfl rfl)
theorem dX4_stepCost_48 : decode cX4_stepCost 48 = .ok (.ireturn, 1) := dk_172 (dk_at dksX4_stepCost_2 0 rfl rfl)
abbrev cX4_stepAt : ByteArray := prog_14_method_108_code
def yX4_stepAt : MethodName := ⟨RX4, "stepAt", "(II)I"⟩
def dkwX4_stepAt_2 : List UInt8 := [167, 255, 235, 29, 172]
abbrev dktX4_stepAt_2 : List UInt8 := dkwX4_stepAt_2 ++ []
def dkwX4_stepAt_1 : List UInt8 := [62, 42, 180, 0, 38, 29, 46, 42, 180, 0, 41, 29, 46, 96, 28, 163, 0, 10, 29, 4, 96, 62]
abbrev dktX4_stepAt_1 : List UInt8 := dkwX4_stepAt_1 ++ dktX4_stepAt_2
def dkwX4_stepAt_0 : List UInt8 := [42, 27, 184, 1, 142, 42, 28, 182, 1, 127, 182, 1, 92, 154, 0, 5, 3, 172, 42, 27, 182, 0, 217, 3]
abbrev dktX4_stepAt_0 : List UInt8 := dkwX4_stepAt_0 ++ dktX4_stepAt_1
theorem dksX4_stepAt_0 : cX4_stepAt.data.toList.drop 0 = dktX4_stepAt_0 := by decide +kernel
theorem dksX4_stepAt_1 : cX4_stepAt.data.toList.drop 24 = dktX4_stepAt_1 := dk_seg dksX4_stepAt_0 24 rfl rfl
theorem dksX4_stepAt_2 : cX4_stepAt.data.toList.drop 46 = dktX4_stepAt_2 := dk_seg dksX4_stepAt_1 22 rfl rfl
theorem dX4_stepAt_0 : decode cX4_stepAt 0 = .ok (.aload_n 0, 1) := dk_42 (dk_at dksX4_stepAt_0 0 rfl rfl)
theorem dX4_stepAt_1 : decode cX4_stepAt 1 = .ok (.iload_n 1, 1) := dk_27 (dk_at dksX4_stepAt_0 1 rfl rfl)
theorem dX4_stepAt_2 : decode cX4_stepAt 2 = .ok (.invokestatic 398, 3) := dk_184 1 142 (dk_at dksX4_stepAt_0 2 rfl rfl)
theorem dX4_stepAt_5 : decode cX4_stepAt 5 = .ok (.aload_n 0, 1) := dk_42 (dk_at dksX4_stepAt_0 5 rfl rfl)
theorem dX4_stepAt_6 : decode cX4_stepAt 6 = .ok (.iload_n 2, 1) := dk_28 (dk_at dksX4_stepAt_0 6 rfl rfl)
theorem dX4_stepAt_7 : decode cX4_stepAt 7 = .ok (.invokevirtual 383, 3) := dk_182 1 127 (dk_at dksX4_stepAt_0 7 rfl rfl)
theorem dX4_stepAt_10 : decode cX4_stepAt 10 = .ok (.invokevirtual 348, 3) := dk_182 1 92 (dk_at dksX4_stepAt_0 10 rfl rfl)
theorem dX4_stepAt_13 : decode cX4_stepAt 13 = .ok (.ifCond .ne 5, 3) := dk_154 0 5 (dk_at dksX4_stepAt_0 13 rfl rfl)
theorem dX4_stepAt_16 : decode cX4_stepAt 16 = .ok (.iconst 0, 1) := dk_3 (dk_at dksX4_stepAt_0 16 rfl rfl)
theorem dX4_stepAt_17 : decode cX4_stepAt 17 = .ok (.ireturn, 1) := dk_172 (dk_at dksX4_stepAt_0 17 rfl rfl)
theorem dX4_stepAt_18 : decode cX4_stepAt 18 = .ok (.aload_n 0, 1) := dk_42 (dk_at dksX4_stepAt_0 18 rfl rfl)
theorem dX4_stepAt_19 : decode cX4_stepAt 19 = .ok (.iload_n 1, 1) := dk_27 (dk_at dksX4_stepAt_0 19 rfl rfl)
theorem dX4_stepAt_20 : decode cX4_stepAt 20 = .ok (.invokevirtual 217, 3) := dk_182 0 217 (dk_at dksX4_stepAt_0 20 rfl rfl)
theorem dX4_stepAt_23 : decode cX4_stepAt 23 = .ok (.iconst 0, 1) := dk_3 (dk_at dksX4_stepAt_0 23 rfl rfl)
theorem dX4_stepAt_24 : decode cX4_stepAt 24 = .ok (.istore_n 3, 1) := dk_62 (dk_at dksX4_stepAt_1 0 rfl rfl)
theorem dX4_stepAt_25 : decode cX4_stepAt 25 = .ok (.aload_n 0, 1) := dk_42 (dk_at dksX4_stepAt_1 1 rfl rfl)
theorem dX4_stepAt_26 : decode cX4_stepAt 26 = .ok (.getfield 38, 3) := dk_180 0 38 (dk_at dksX4_stepAt_1 2 rfl rfl)
theorem dX4_stepAt_29 : decode cX4_stepAt 29 = .ok (.iload_n 3, 1) := dk_29 (dk_at dksX4_stepAt_1 5 rfl rfl)
theorem dX4_stepAt_30 : decode cX4_stepAt 30 = .ok (.iaload, 1) := dk_46 (dk_at dksX4_stepAt_1 6 rfl rfl)
theorem dX4_stepAt_31 : decode cX4_stepAt 31 = .ok (.aload_n 0, 1) := dk_42 (dk_at dksX4_stepAt_1 7 rfl rfl)
theorem dX4_stepAt_32 : decode cX4_stepAt 32 = .ok (.getfield 41, 3) := dk_180 0 41 (dk_at dksX4_stepAt_1 8 rfl rfl)
theorem dX4_stepAt_35 : decode cX4_stepAt 35 = .ok (.iload_n 3, 1) := dk_29 (dk_at dksX4_stepAt_1 11 rfl rfl)
theorem dX4_stepAt_36 : decode cX4_stepAt 36 = .ok (.iaload, 1) := dk_46 (dk_at dksX4_stepAt_1 12 rfl rfl)
theorem dX4_stepAt_37 : decode cX4_stepAt 37 = .ok (.iadd, 1) := dk_96 (dk_at dksX4_stepAt_1 13 rfl rfl)
theorem dX4_stepAt_38 : decode cX4_stepAt 38 = .ok (.iload_n 2, 1) := dk_28 (dk_at dksX4_stepAt_1 14 rfl rfl)
theorem dX4_stepAt_39 : decode cX4_stepAt 39 = .ok (.if_icmp .gt 10, 3) := dk_163 0 10 (dk_at dksX4_stepAt_1 15 rfl rfl)
theorem dX4_stepAt_42 : decode cX4_stepAt 42 = .ok (.iload_n 3, 1) := dk_29 (dk_at dksX4_stepAt_1 18 rfl rfl)
theorem dX4_stepAt_43 : decode cX4_stepAt 43 = .ok (.iconst 1, 1) := dk_4 (dk_at dksX4_stepAt_1 19 rfl rfl)
theorem dX4_stepAt_44 : decode cX4_stepAt 44 = .ok (.iadd, 1) := dk_96 (dk_at dksX4_stepAt_1 20 rfl rfl)
theorem dX4_stepAt_45 : decode cX4_stepAt 45 = .ok (.istore_n 3, 1) := dk_62 (dk_at dksX4_stepAt_1 21 rfl rfl)
theorem dX4_stepAt_46 : decode cX4_stepAt 46 = .ok (.goto (-21), 3) := dk_167 255 235 (dk_at dksX4_stepAt_2 0 rfl rfl)
theorem dX4_stepAt_49 : decode cX4_stepAt 49 = .ok (.iload_n 3, 1) := dk_29 (dk_at dksX4_stepAt_2 3 rfl rfl)
theorem dX4_stepAt_50 : decode cX4_stepAt 50 = .ok (.ireturn, 1) := dk_172 (dk_at dksX4_stepAt_2 4 rfl rfl)
abbrev cX4_parse : ByteArray := prog_14_method_114_code
def yX4_parse : MethodName := ⟨RX4, "parse", "(II)I"⟩
def dkwX4_parse_4 : List UInt8 := [172, 42, 182, 1, 154, 172, 42, 182, 1, 157, 172, 42, 182, 1, 160, 172]
abbrev dktX4_parse_4 : List UInt8 := dkwX4_parse_4 ++ []
def dkwX4_parse_3 : List UInt8 := [42, 182, 0, 220, 172, 42, 180, 0, 179, 42, 182, 1, 148, 100, 172, 42, 182, 1, 148, 172, 42, 182, 1, 151]
abbrev dktX4_parse_3 : List UInt8 := dkwX4_parse_3 ++ dktX4_parse_4
def dkwX4_parse_2 : List UInt8 := [170, 0, 0, 0, 0, 0, 74, 0, 0, 0, 0, 0, 0, 0, 5, 0, 0, 0, 39, 0, 0, 0, 44, 0, 0, 0, 54, 0, 0, 0, 59, 0, 0, 0, 64, 0, 0, 0, 69]
abbrev dktX4_parse_2 : List UInt8 := dkwX4_parse_2 ++ dktX4_parse_3
def dkwX4_parse_1 : List UInt8 := [182, 1, 102, 154, 0, 5, 3, 172, 42, 27, 182, 0, 217, 28]
abbrev dktX4_parse_1 : List UInt8 := dkwX4_parse_1 ++ dktX4_parse_2
def dkwX4_parse_0 : List UInt8 := [42, 27, 184, 1, 142, 153, 0, 17, 28, 3, 16, 6, 184, 0, 121, 153, 0, 7, 4, 167, 0, 4, 3]
abbrev dktX4_parse_0 : List UInt8 := dkwX4_parse_0 ++ dktX4_parse_1
theorem dksX4_parse_0 : cX4_parse.data.toList.drop 0 = dktX4_parse_0 := by decide +kernel
theorem dksX4_parse_1 : cX4_parse.data.toList.drop 23 = dktX4_parse_1 := dk_seg dksX4_parse_0 23 rfl rfl
theorem dksX4_parse_2 : cX4_parse.data.toList.drop 37 = dktX4_parse_2 := dk_seg dksX4_parse_1 14 rfl rfl
theorem dksX4_parse_3 : cX4_parse.data.toList.drop 76 = dktX4_parse_3 := dk_seg dksX4_parse_2 39 rfl rfl
theorem dksX4_parse_4 : cX4_parse.data.toList.drop 100 = dktX4_parse_4 := dk_seg dksX4_parse_3 24 rfl rfl
theorem dX4_parse_0 : decode cX4_parse 0 = .ok (.aload_n 0, 1) := dk_42 (dk_at dksX4_parse_0 0 rfl rfl)
theorem dX4_parse_1 : decode cX4_parse 1 = .ok (.iload_n 1, 1) := dk_27 (dk_at dksX4_parse_0 1 rfl rfl)
theorem dX4_parse_2 : decode cX4_parse 2 = .ok (.invokestatic 398, 3) := dk_184 1 142 (dk_at dksX4_parse_0 2 rfl rfl)
theorem dX4_parse_5 : decode cX4_parse 5 = .ok (.ifCond .eq 17, 3) := dk_153 0 17 (dk_at dksX4_parse_0 5 rfl rfl)
theorem dX4_parse_8 : decode cX4_parse 8 = .ok (.iload_n 2, 1) := dk_28 (dk_at dksX4_parse_0 8 rfl rfl)
theorem dX4_parse_9 : decode cX4_parse 9 = .ok (.iconst 0, 1) := dk_3 (dk_at dksX4_parse_0 9 rfl rfl)
theorem dX4_parse_10 : decode cX4_parse 10 = .ok (.bipush 6, 2) := dk_16 6 (dk_at dksX4_parse_0 10 rfl rfl)
theorem dX4_parse_12 : decode cX4_parse 12 = .ok (.invokestatic 121, 3) := dk_184 0 121 (dk_at dksX4_parse_0 12 rfl rfl)
theorem dX4_parse_15 : decode cX4_parse 15 = .ok (.ifCond .eq 7, 3) := dk_153 0 7 (dk_at dksX4_parse_0 15 rfl rfl)
theorem dX4_parse_18 : decode cX4_parse 18 = .ok (.iconst 1, 1) := dk_4 (dk_at dksX4_parse_0 18 rfl rfl)
theorem dX4_parse_19 : decode cX4_parse 19 = .ok (.goto 4, 3) := dk_167 0 4 (dk_at dksX4_parse_0 19 rfl rfl)
theorem dX4_parse_22 : decode cX4_parse 22 = .ok (.iconst 0, 1) := dk_3 (dk_at dksX4_parse_0 22 rfl rfl)
theorem dX4_parse_23 : decode cX4_parse 23 = .ok (.invokevirtual 358, 3) := dk_182 1 102 (dk_at dksX4_parse_1 0 rfl rfl)
theorem dX4_parse_26 : decode cX4_parse 26 = .ok (.ifCond .ne 5, 3) := dk_154 0 5 (dk_at dksX4_parse_1 3 rfl rfl)
theorem dX4_parse_29 : decode cX4_parse 29 = .ok (.iconst 0, 1) := dk_3 (dk_at dksX4_parse_1 6 rfl rfl)
theorem dX4_parse_30 : decode cX4_parse 30 = .ok (.ireturn, 1) := dk_172 (dk_at dksX4_parse_1 7 rfl rfl)
theorem dX4_parse_31 : decode cX4_parse 31 = .ok (.aload_n 0, 1) := dk_42 (dk_at dksX4_parse_1 8 rfl rfl)
theorem dX4_parse_32 : decode cX4_parse 32 = .ok (.iload_n 1, 1) := dk_27 (dk_at dksX4_parse_1 9 rfl rfl)
theorem dX4_parse_33 : decode cX4_parse 33 = .ok (.invokevirtual 217, 3) := dk_182 0 217 (dk_at dksX4_parse_1 10 rfl rfl)
theorem dX4_parse_36 : decode cX4_parse 36 = .ok (.iload_n 2, 1) := dk_28 (dk_at dksX4_parse_1 13 rfl rfl)
theorem dX4_parse_37 : decode cX4_parse 37 = .ok (.tableswitch 74 0 5 #[39, 44, 54, 59, 64, 69], 39) := by decide +kernel
theorem dX4_parse_76 : decode cX4_parse 76 = .ok (.aload_n 0, 1) := dk_42 (dk_at dksX4_parse_3 0 rfl rfl)
theorem dX4_parse_77 : decode cX4_parse 77 = .ok (.invokevirtual 220, 3) := dk_182 0 220 (dk_at dksX4_parse_3 1 rfl rfl)
theorem dX4_parse_80 : decode cX4_parse 80 = .ok (.ireturn, 1) := dk_172 (dk_at dksX4_parse_3 4 rfl rfl)
theorem dX4_parse_81 : decode cX4_parse 81 = .ok (.aload_n 0, 1) := dk_42 (dk_at dksX4_parse_3 5 rfl rfl)
theorem dX4_parse_82 : decode cX4_parse 82 = .ok (.getfield 179, 3) := dk_180 0 179 (dk_at dksX4_parse_3 6 rfl rfl)
theorem dX4_parse_85 : decode cX4_parse 85 = .ok (.aload_n 0, 1) := dk_42 (dk_at dksX4_parse_3 9 rfl rfl)
theorem dX4_parse_86 : decode cX4_parse 86 = .ok (.invokevirtual 404, 3) := dk_182 1 148 (dk_at dksX4_parse_3 10 rfl rfl)
theorem dX4_parse_89 : decode cX4_parse 89 = .ok (.isub, 1) := dk_100 (dk_at dksX4_parse_3 13 rfl rfl)
theorem dX4_parse_90 : decode cX4_parse 90 = .ok (.ireturn, 1) := dk_172 (dk_at dksX4_parse_3 14 rfl rfl)
theorem dX4_parse_91 : decode cX4_parse 91 = .ok (.aload_n 0, 1) := dk_42 (dk_at dksX4_parse_3 15 rfl rfl)
theorem dX4_parse_92 : decode cX4_parse 92 = .ok (.invokevirtual 404, 3) := dk_182 1 148 (dk_at dksX4_parse_3 16 rfl rfl)
theorem dX4_parse_95 : decode cX4_parse 95 = .ok (.ireturn, 1) := dk_172 (dk_at dksX4_parse_3 19 rfl rfl)
theorem dX4_parse_96 : decode cX4_parse 96 = .ok (.aload_n 0, 1) := dk_42 (dk_at dksX4_parse_3 20 rfl rfl)
theorem dX4_parse_97 : decode cX4_parse 97 = .ok (.invokevirtual 407, 3) := dk_182 1 151 (dk_at dksX4_parse_3 21 rfl rfl)
theorem dX4_parse_100 : decode cX4_parse 100 = .ok (.ireturn, 1) := dk_172 (dk_at dksX4_parse_4 0 rfl rfl)
theorem dX4_parse_101 : decode cX4_parse 101 = .ok (.aload_n 0, 1) := dk_42 (dk_at dksX4_parse_4 1 rfl rfl)
theorem dX4_parse_102 : decode cX4_parse 102 = .ok (.invokevirtual 410, 3) := dk_182 1 154 (dk_at dksX4_parse_4 2 rfl rfl)
theorem dX4_parse_105 : decode cX4_parse 105 = .ok (.ireturn, 1) := dk_172 (dk_at dksX4_parse_4 5 rfl rfl)
theorem dX4_parse_106 : decode cX4_parse 106 = .ok (.aload_n 0, 1) := dk_42 (dk_at dksX4_parse_4 6 rfl rfl)
theorem dX4_parse_107 : decode cX4_parse 107 = .ok (.invokevirtual 413, 3) := dk_182 1 157 (dk_at dksX4_parse_4 7 rfl rfl)
theorem dX4_parse_110 : decode cX4_parse 110 = .ok (.ireturn, 1) := dk_172 (dk_at dksX4_parse_4 10 rfl rfl)
theorem dX4_parse_111 : decode cX4_parse 111 = .ok (.aload_n 0, 1) := dk_42 (dk_at dksX4_parse_4 11 rfl rfl)
theorem dX4_parse_112 : decode cX4_parse 112 = .ok (.invokevirtual 416, 3) := dk_182 1 160 (dk_at dksX4_parse_4 12 rfl rfl)
theorem dX4_parse_115 : decode cX4_parse 115 = .ok (.ireturn, 1) := dk_172 (dk_at dksX4_parse_4 15 rfl rfl)
abbrev cX4_parseCost : ByteArray := prog_14_method_48_code
def yX4_parseCost : MethodName := ⟨RX4, "parseCost", "()I"⟩
def dkwX4_parseCost_1 : List UInt8 := [167, 255, 237, 27, 172]
abbrev dktX4_parseCost_1 : List UInt8 := dkwX4_parseCost_1 ++ []
def dkwX4_parseCost_0 : List UInt8 := [3, 60, 3, 61, 28, 42, 180, 0, 179, 162, 0, 17, 27, 42, 28, 182, 0, 191, 96, 60, 132, 2, 1]
abbrev dktX4_parseCost_0 : List UInt8 := dkwX4_parseCost_0 ++ dktX4_parseCost_1
theorem dksX4_parseCost_0 : cX4_parseCost.data.toList.drop 0 = dktX4_parseCost_0 := by decide +kernel
theorem dksX4_parseCost_1 : cX4_parseCost.data.toList.drop 23 = dktX4_parseCost_1 := dk_seg dksX4_parseCost_0 23 rfl rfl
theorem dX4_parseCost_0 : decode cX4_parseCost 0 = .ok (.iconst 0, 1) := dk_3 (dk_at dksX4_parseCost_0 0 rfl rfl)
theorem dX4_parseCost_1 : decode cX4_parseCost 1 = .ok (.istore_n 1, 1) := dk_60 (dk_at dksX4_parseCost_0 1 rfl rfl)
theorem dX4_parseCost_2 : decode cX4_parseCost 2 = .ok (.iconst 0, 1) := dk_3 (dk_at dksX4_parseCost_0 2 rfl rfl)
theorem dX4_parseCost_3 : decode cX4_parseCost 3 = .ok (.istore_n 2, 1) := dk_61 (dk_at dksX4_parseCost_0 3 rfl rfl)
theorem dX4_parseCost_4 : decode cX4_parseCost 4 = .ok (.iload_n 2, 1) := dk_28 (dk_at dksX4_parseCost_0 4 rfl rfl)
theorem dX4_parseCost_5 : decode cX4_parseCost 5 = .ok (.aload_n 0, 1) := dk_42 (dk_at dksX4_parseCost_0 5 rfl rfl)
theorem dX4_parseCost_6 : decode cX4_parseCost 6 = .ok (.getfield 179, 3) := dk_180 0 179 (dk_at dksX4_parseCost_0 6 rfl rfl)
theorem dX4_parseCost_9 : decode cX4_parseCost 9 = .ok (.if_icmp .ge 17, 3) := dk_162 0 17 (dk_at dksX4_parseCost_0 9 rfl rfl)
theorem dX4_parseCost_12 : decode cX4_parseCost 12 = .ok (.iload_n 1, 1) := dk_27 (dk_at dksX4_parseCost_0 12 rfl rfl)
theorem dX4_parseCost_13 : decode cX4_parseCost 13 = .ok (.aload_n 0, 1) := dk_42 (dk_at dksX4_parseCost_0 13 rfl rfl)
theorem dX4_parseCost_14 : decode cX4_parseCost 14 = .ok (.iload_n 2, 1) := dk_28 (dk_at dksX4_parseCost_0 14 rfl rfl)
theorem dX4_parseCost_15 : decode cX4_parseCost 15 = .ok (.invokevirtual 191, 3) := dk_182 0 191 (dk_at dksX4_parseCost_0 15 rfl rfl)
theorem dX4_parseCost_18 : decode cX4_parseCost 18 = .ok (.iadd, 1) := dk_96 (dk_at dksX4_parseCost_0 18 rfl rfl)
theorem dX4_parseCost_19 : decode cX4_parseCost 19 = .ok (.istore_n 1, 1) := dk_60 (dk_at dksX4_parseCost_0 19 rfl rfl)
theorem dX4_parseCost_20 : decode cX4_parseCost 20 = .ok (.iinc 2 1, 3) := dk_132 2 1 (dk_at dksX4_parseCost_0 20 rfl rfl)
theorem dX4_parseCost_23 : decode cX4_parseCost 23 = .ok (.goto (-19), 3) := dk_167 255 237 (dk_at dksX4_parseCost_1 0 rfl rfl)
theorem dX4_parseCost_26 : decode cX4_parseCost 26 = .ok (.iload_n 1, 1) := dk_27 (dk_at dksX4_parseCost_1 3 rfl rfl)
theorem dX4_parseCost_27 : decode cX4_parseCost 27 = .ok (.ireturn, 1) := dk_172 (dk_at dksX4_parseCost_1 4 rfl rfl)
abbrev cX4_copySteps : ByteArray := prog_14_method_109_code
def yX4_copySteps : MethodName := ⟨RX4, "copySteps", "()I"⟩
def dkwX4_copySteps_1 : List UInt8 := [167, 0, 4, 3, 184, 0, 107, 96, 60, 132, 2, 1, 167, 255, 225, 27, 172]
abbrev dktX4_copySteps_1 : List UInt8 := dkwX4_copySteps_1 ++ []
def dkwX4_copySteps_0 : List UInt8 := [3, 60, 3, 61, 28, 42, 180, 0, 179, 162, 0, 29, 27, 42, 180, 0, 44, 28, 46, 158, 0, 7, 4]
abbrev dktX4_copySteps_0 : List UInt8 := dkwX4_copySteps_0 ++ dktX4_copySteps_1
theorem dksX4_copySteps_0 : cX4_copySteps.data.toList.drop 0 = dktX4_copySteps_0 := by decide +kernel
theorem dksX4_copySteps_1 : cX4_copySteps.data.toList.drop 23 = dktX4_copySteps_1 := dk_seg dksX4_copySteps_0 23 rfl rfl
theorem dX4_copySteps_0 : decode cX4_copySteps 0 = .ok (.iconst 0, 1) := dk_3 (dk_at dksX4_copySteps_0 0 rfl rfl)
theorem dX4_copySteps_1 : decode cX4_copySteps 1 = .ok (.istore_n 1, 1) := dk_60 (dk_at dksX4_copySteps_0 1 rfl rfl)
theorem dX4_copySteps_2 : decode cX4_copySteps 2 = .ok (.iconst 0, 1) := dk_3 (dk_at dksX4_copySteps_0 2 rfl rfl)
theorem dX4_copySteps_3 : decode cX4_copySteps 3 = .ok (.istore_n 2, 1) := dk_61 (dk_at dksX4_copySteps_0 3 rfl rfl)
theorem dX4_copySteps_4 : decode cX4_copySteps 4 = .ok (.iload_n 2, 1) := dk_28 (dk_at dksX4_copySteps_0 4 rfl rfl)
theorem dX4_copySteps_5 : decode cX4_copySteps 5 = .ok (.aload_n 0, 1) := dk_42 (dk_at dksX4_copySteps_0 5 rfl rfl)
theorem dX4_copySteps_6 : decode cX4_copySteps 6 = .ok (.getfield 179, 3) := dk_180 0 179 (dk_at dksX4_copySteps_0 6 rfl rfl)
theorem dX4_copySteps_9 : decode cX4_copySteps 9 = .ok (.if_icmp .ge 29, 3) := dk_162 0 29 (dk_at dksX4_copySteps_0 9 rfl rfl)
theorem dX4_copySteps_12 : decode cX4_copySteps 12 = .ok (.iload_n 1, 1) := dk_27 (dk_at dksX4_copySteps_0 12 rfl rfl)
theorem dX4_copySteps_13 : decode cX4_copySteps 13 = .ok (.aload_n 0, 1) := dk_42 (dk_at dksX4_copySteps_0 13 rfl rfl)
theorem dX4_copySteps_14 : decode cX4_copySteps 14 = .ok (.getfield 44, 3) := dk_180 0 44 (dk_at dksX4_copySteps_0 14 rfl rfl)
theorem dX4_copySteps_17 : decode cX4_copySteps 17 = .ok (.iload_n 2, 1) := dk_28 (dk_at dksX4_copySteps_0 17 rfl rfl)
theorem dX4_copySteps_18 : decode cX4_copySteps 18 = .ok (.iaload, 1) := dk_46 (dk_at dksX4_copySteps_0 18 rfl rfl)
theorem dX4_copySteps_19 : decode cX4_copySteps 19 = .ok (.ifCond .le 7, 3) := dk_158 0 7 (dk_at dksX4_copySteps_0 19 rfl rfl)
theorem dX4_copySteps_22 : decode cX4_copySteps 22 = .ok (.iconst 1, 1) := dk_4 (dk_at dksX4_copySteps_0 22 rfl rfl)
theorem dX4_copySteps_23 : decode cX4_copySteps 23 = .ok (.goto 4, 3) := dk_167 0 4 (dk_at dksX4_copySteps_1 0 rfl rfl)
theorem dX4_copySteps_26 : decode cX4_copySteps 26 = .ok (.iconst 0, 1) := dk_3 (dk_at dksX4_copySteps_1 3 rfl rfl)
theorem dX4_copySteps_27 : decode cX4_copySteps 27 = .ok (.invokestatic 107, 3) := dk_184 0 107 (dk_at dksX4_copySteps_1 4 rfl rfl)
theorem dX4_copySteps_30 : decode cX4_copySteps 30 = .ok (.iadd, 1) := dk_96 (dk_at dksX4_copySteps_1 7 rfl rfl)
theorem dX4_copySteps_31 : decode cX4_copySteps 31 = .ok (.istore_n 1, 1) := dk_60 (dk_at dksX4_copySteps_1 8 rfl rfl)
theorem dX4_copySteps_32 : decode cX4_copySteps 32 = .ok (.iinc 2 1, 3) := dk_132 2 1 (dk_at dksX4_copySteps_1 9 rfl rfl)
theorem dX4_copySteps_35 : decode cX4_copySteps 35 = .ok (.goto (-31), 3) := dk_167 255 225 (dk_at dksX4_copySteps_1 12 rfl rfl)
theorem dX4_copySteps_38 : decode cX4_copySteps 38 = .ok (.iload_n 1, 1) := dk_27 (dk_at dksX4_copySteps_1 15 rfl rfl)
theorem dX4_copySteps_39 : decode cX4_copySteps 39 = .ok (.ireturn, 1) := dk_172 (dk_at dksX4_copySteps_1 16 rfl rfl)
abbrev cX4_runMany : ByteArray := prog_14_method_110_code
def yX4_runMany : MethodName := ⟨RX4, "runMany", "()I"⟩
def dkwX4_runMany_1 : List UInt8 := [182, 0, 185, 154, 0, 7, 4, 167, 0, 4, 3, 184, 0, 107, 96, 60, 132, 2, 1, 167, 255, 217, 27, 172]
abbrev dktX4_runMany_1 : List UInt8 := dkwX4_runMany_1 ++ []
def dkwX4_runMany_0 : List UInt8 := [3, 60, 3, 61, 28, 42, 180, 0, 179, 162, 0, 37, 27, 42, 180, 0, 44, 28, 46, 154, 0, 15, 42, 28]
abbrev dktX4_runMany_0 : List UInt8 := dkwX4_runMany_0 ++ dktX4_runMany_1
theorem dksX4_runMany_0 : cX4_runMany.data.toList.drop 0 = dktX4_runMany_0 := by decide +kernel
theorem dksX4_runMany_1 : cX4_runMany.data.toList.drop 24 = dktX4_runMany_1 := dk_seg dksX4_runMany_0 24 rfl rfl
theorem dX4_runMany_0 : decode cX4_runMany 0 = .ok (.iconst 0, 1) := dk_3 (dk_at dksX4_runMany_0 0 rfl rfl)
theorem dX4_runMany_1 : decode cX4_runMany 1 = .ok (.istore_n 1, 1) := dk_60 (dk_at dksX4_runMany_0 1 rfl rfl)
theorem dX4_runMany_2 : decode cX4_runMany 2 = .ok (.iconst 0, 1) := dk_3 (dk_at dksX4_runMany_0 2 rfl rfl)
theorem dX4_runMany_3 : decode cX4_runMany 3 = .ok (.istore_n 2, 1) := dk_61 (dk_at dksX4_runMany_0 3 rfl rfl)
theorem dX4_runMany_4 : decode cX4_runMany 4 = .ok (.iload_n 2, 1) := dk_28 (dk_at dksX4_runMany_0 4 rfl rfl)
theorem dX4_runMany_5 : decode cX4_runMany 5 = .ok (.aload_n 0, 1) := dk_42 (dk_at dksX4_runMany_0 5 rfl rfl)
theorem dX4_runMany_6 : decode cX4_runMany 6 = .ok (.getfield 179, 3) := dk_180 0 179 (dk_at dksX4_runMany_0 6 rfl rfl)
theorem dX4_runMany_9 : decode cX4_runMany 9 = .ok (.if_icmp .ge 37, 3) := dk_162 0 37 (dk_at dksX4_runMany_0 9 rfl rfl)
theorem dX4_runMany_12 : decode cX4_runMany 12 = .ok (.iload_n 1, 1) := dk_27 (dk_at dksX4_runMany_0 12 rfl rfl)
theorem dX4_runMany_13 : decode cX4_runMany 13 = .ok (.aload_n 0, 1) := dk_42 (dk_at dksX4_runMany_0 13 rfl rfl)
theorem dX4_runMany_14 : decode cX4_runMany 14 = .ok (.getfield 44, 3) := dk_180 0 44 (dk_at dksX4_runMany_0 14 rfl rfl)
theorem dX4_runMany_17 : decode cX4_runMany 17 = .ok (.iload_n 2, 1) := dk_28 (dk_at dksX4_runMany_0 17 rfl rfl)
theorem dX4_runMany_18 : decode cX4_runMany 18 = .ok (.iaload, 1) := dk_46 (dk_at dksX4_runMany_0 18 rfl rfl)
theorem dX4_runMany_19 : decode cX4_runMany 19 = .ok (.ifCond .ne 15, 3) := dk_154 0 15 (dk_at dksX4_runMany_0 19 rfl rfl)
theorem dX4_runMany_22 : decode cX4_runMany 22 = .ok (.aload_n 0, 1) := dk_42 (dk_at dksX4_runMany_0 22 rfl rfl)
theorem dX4_runMany_23 : decode cX4_runMany 23 = .ok (.iload_n 2, 1) := dk_28 (dk_at dksX4_runMany_0 23 rfl rfl)
theorem dX4_runMany_24 : decode cX4_runMany 24 = .ok (.invokevirtual 185, 3) := dk_182 0 185 (dk_at dksX4_runMany_1 0 rfl rfl)
theorem dX4_runMany_27 : decode cX4_runMany 27 = .ok (.ifCond .ne 7, 3) := dk_154 0 7 (dk_at dksX4_runMany_1 3 rfl rfl)
theorem dX4_runMany_30 : decode cX4_runMany 30 = .ok (.iconst 1, 1) := dk_4 (dk_at dksX4_runMany_1 6 rfl rfl)
theorem dX4_runMany_31 : decode cX4_runMany 31 = .ok (.goto 4, 3) := dk_167 0 4 (dk_at dksX4_runMany_1 7 rfl rfl)
theorem dX4_runMany_34 : decode cX4_runMany 34 = .ok (.iconst 0, 1) := dk_3 (dk_at dksX4_runMany_1 10 rfl rfl)
theorem dX4_runMany_35 : decode cX4_runMany 35 = .ok (.invokestatic 107, 3) := dk_184 0 107 (dk_at dksX4_runMany_1 11 rfl rfl)
theorem dX4_runMany_38 : decode cX4_runMany 38 = .ok (.iadd, 1) := dk_96 (dk_at dksX4_runMany_1 14 rfl rfl)
theorem dX4_runMany_39 : decode cX4_runMany 39 = .ok (.istore_n 1, 1) := dk_60 (dk_at dksX4_runMany_1 15 rfl rfl)
theorem dX4_runMany_40 : decode cX4_runMany 40 = .ok (.iinc 2 1, 3) := dk_132 2 1 (dk_at dksX4_runMany_1 16 rfl rfl)
theorem dX4_runMany_43 : decode cX4_runMany 43 = .ok (.goto (-39), 3) := dk_167 255 217 (dk_at dksX4_runMany_1 19 rfl rfl)
theorem dX4_runMany_46 : decode cX4_runMany 46 = .ok (.iload_n 1, 1) := dk_27 (dk_at dksX4_runMany_1 22 rfl rfl)
theorem dX4_runMany_47 : decode cX4_runMany 47 = .ok (.ireturn, 1) := dk_172 (dk_at dksX4_runMany_1 23 rfl rfl)
abbrev cX4_againMany : ByteArray := prog_14_method_111_code
def yX4_againMany : MethodName := ⟨RX4, "againMany", "()I"⟩
def dkwX4_againMany_2 : List UInt8 := [132, 2, 1, 167, 255, 211, 27, 172]
abbrev dktX4_againMany_2 : List UInt8 := dkwX4_againMany_2 ++ []
def dkwX4_againMany_1 : List UInt8 := [180, 0, 44, 28, 46, 42, 28, 182, 0, 188, 160, 0, 7, 4, 167, 0, 4, 3, 184, 0, 107, 96, 60]
abbrev dktX4_againMany_1 : List UInt8 := dkwX4_againMany_1 ++ dktX4_againMany_2
def dkwX4_againMany_0 : List UInt8 := [3, 60, 3, 61, 28, 42, 180, 0, 179, 162, 0, 43, 27, 42, 180, 0, 44, 28, 46, 158, 0, 21, 42]
abbrev dktX4_againMany_0 : List UInt8 := dkwX4_againMany_0 ++ dktX4_againMany_1
theorem dksX4_againMany_0 : cX4_againMany.data.toList.drop 0 = dktX4_againMany_0 := by decide +kernel
theorem dksX4_againMany_1 : cX4_againMany.data.toList.drop 23 = dktX4_againMany_1 := dk_seg dksX4_againMany_0 23 rfl rfl
theorem dksX4_againMany_2 : cX4_againMany.data.toList.drop 46 = dktX4_againMany_2 := dk_seg dksX4_againMany_1 23 rfl rfl
theorem dX4_againMany_0 : decode cX4_againMany 0 = .ok (.iconst 0, 1) := dk_3 (dk_at dksX4_againMany_0 0 rfl rfl)
theorem dX4_againMany_1 : decode cX4_againMany 1 = .ok (.istore_n 1, 1) := dk_60 (dk_at dksX4_againMany_0 1 rfl rfl)
theorem dX4_againMany_2 : decode cX4_againMany 2 = .ok (.iconst 0, 1) := dk_3 (dk_at dksX4_againMany_0 2 rfl rfl)
theorem dX4_againMany_3 : decode cX4_againMany 3 = .ok (.istore_n 2, 1) := dk_61 (dk_at dksX4_againMany_0 3 rfl rfl)
theorem dX4_againMany_4 : decode cX4_againMany 4 = .ok (.iload_n 2, 1) := dk_28 (dk_at dksX4_againMany_0 4 rfl rfl)
theorem dX4_againMany_5 : decode cX4_againMany 5 = .ok (.aload_n 0, 1) := dk_42 (dk_at dksX4_againMany_0 5 rfl rfl)
theorem dX4_againMany_6 : decode cX4_againMany 6 = .ok (.getfield 179, 3) := dk_180 0 179 (dk_at dksX4_againMany_0 6 rfl rfl)
theorem dX4_againMany_9 : decode cX4_againMany 9 = .ok (.if_icmp .ge 43, 3) := dk_162 0 43 (dk_at dksX4_againMany_0 9 rfl rfl)
theorem dX4_againMany_12 : decode cX4_againMany 12 = .ok (.iload_n 1, 1) := dk_27 (dk_at dksX4_againMany_0 12 rfl rfl)
theorem dX4_againMany_13 : decode cX4_againMany 13 = .ok (.aload_n 0, 1) := dk_42 (dk_at dksX4_againMany_0 13 rfl rfl)
theorem dX4_againMany_14 : decode cX4_againMany 14 = .ok (.getfield 44, 3) := dk_180 0 44 (dk_at dksX4_againMany_0 14 rfl rfl)
theorem dX4_againMany_17 : decode cX4_againMany 17 = .ok (.iload_n 2, 1) := dk_28 (dk_at dksX4_againMany_0 17 rfl rfl)
theorem dX4_againMany_18 : decode cX4_againMany 18 = .ok (.iaload, 1) := dk_46 (dk_at dksX4_againMany_0 18 rfl rfl)
theorem dX4_againMany_19 : decode cX4_againMany 19 = .ok (.ifCond .le 21, 3) := dk_158 0 21 (dk_at dksX4_againMany_0 19 rfl rfl)
theorem dX4_againMany_22 : decode cX4_againMany 22 = .ok (.aload_n 0, 1) := dk_42 (dk_at dksX4_againMany_0 22 rfl rfl)
theorem dX4_againMany_23 : decode cX4_againMany 23 = .ok (.getfield 44, 3) := dk_180 0 44 (dk_at dksX4_againMany_1 0 rfl rfl)
theorem dX4_againMany_26 : decode cX4_againMany 26 = .ok (.iload_n 2, 1) := dk_28 (dk_at dksX4_againMany_1 3 rfl rfl)
theorem dX4_againMany_27 : decode cX4_againMany 27 = .ok (.iaload, 1) := dk_46 (dk_at dksX4_againMany_1 4 rfl rfl)
theorem dX4_againMany_28 : decode cX4_againMany 28 = .ok (.aload_n 0, 1) := dk_42 (dk_at dksX4_againMany_1 5 rfl rfl)
theorem dX4_againMany_29 : decode cX4_againMany 29 = .ok (.iload_n 2, 1) := dk_28 (dk_at dksX4_againMany_1 6 rfl rfl)
theorem dX4_againMany_30 : decode cX4_againMany 30 = .ok (.invokevirtual 188, 3) := dk_182 0 188 (dk_at dksX4_againMany_1 7 rfl rfl)
theorem dX4_againMany_33 : decode cX4_againMany 33 = .ok (.if_icmp .ne 7, 3) := dk_160 0 7 (dk_at dksX4_againMany_1 10 rfl rfl)
theorem dX4_againMany_36 : decode cX4_againMany 36 = .ok (.iconst 1, 1) := dk_4 (dk_at dksX4_againMany_1 13 rfl rfl)
theorem dX4_againMany_37 : decode cX4_againMany 37 = .ok (.goto 4, 3) := dk_167 0 4 (dk_at dksX4_againMany_1 14 rfl rfl)
theorem dX4_againMany_40 : decode cX4_againMany 40 = .ok (.iconst 0, 1) := dk_3 (dk_at dksX4_againMany_1 17 rfl rfl)
theorem dX4_againMany_41 : decode cX4_againMany 41 = .ok (.invokestatic 107, 3) := dk_184 0 107 (dk_at dksX4_againMany_1 18 rfl rfl)
theorem dX4_againMany_44 : decode cX4_againMany 44 = .ok (.iadd, 1) := dk_96 (dk_at dksX4_againMany_1 21 rfl rfl)
theorem dX4_againMany_45 : decode cX4_againMany 45 = .ok (.istore_n 1, 1) := dk_60 (dk_at dksX4_againMany_1 22 rfl rfl)
theorem dX4_againMany_46 : decode cX4_againMany 46 = .ok (.iinc 2 1, 3) := dk_132 2 1 (dk_at dksX4_againMany_2 0 rfl rfl)
theorem dX4_againMany_49 : decode cX4_againMany 49 = .ok (.goto (-45), 3) := dk_167 255 211 (dk_at dksX4_againMany_2 3 rfl rfl)
theorem dX4_againMany_52 : decode cX4_againMany 52 = .ok (.iload_n 1, 1) := dk_27 (dk_at dksX4_againMany_2 6 rfl rfl)
theorem dX4_againMany_53 : decode cX4_againMany 53 = .ok (.ireturn, 1) := dk_172 (dk_at dksX4_againMany_2 7 rfl rfl)
abbrev cX4_dearest : ByteArray := prog_14_method_112_code
def yX4_dearest : MethodName := ⟨RX4, "dearest", "()I"⟩
def dkwX4_dearest_1 : List UInt8 := [132, 2, 1, 167, 255, 235, 27, 172]
abbrev dktX4_dearest_1 : List UInt8 := dkwX4_dearest_1 ++ []
def dkwX4_dearest_0 : List UInt8 := [3, 60, 3, 61, 28, 42, 180, 0, 179, 162, 0, 19, 27, 42, 28, 182, 0, 191, 184, 0, 96, 60]
abbrev dktX4_dearest_0 : List UInt8 := dkwX4_dearest_0 ++ dktX4_dearest_1
theorem dksX4_dearest_0 : cX4_dearest.data.toList.drop 0 = dktX4_dearest_0 := by decide +kernel
theorem dksX4_dearest_1 : cX4_dearest.data.toList.drop 22 = dktX4_dearest_1 := dk_seg dksX4_dearest_0 22 rfl rfl
theorem dX4_dearest_0 : decode cX4_dearest 0 = .ok (.iconst 0, 1) := dk_3 (dk_at dksX4_dearest_0 0 rfl rfl)
theorem dX4_dearest_1 : decode cX4_dearest 1 = .ok (.istore_n 1, 1) := dk_60 (dk_at dksX4_dearest_0 1 rfl rfl)
theorem dX4_dearest_2 : decode cX4_dearest 2 = .ok (.iconst 0, 1) := dk_3 (dk_at dksX4_dearest_0 2 rfl rfl)
theorem dX4_dearest_3 : decode cX4_dearest 3 = .ok (.istore_n 2, 1) := dk_61 (dk_at dksX4_dearest_0 3 rfl rfl)
theorem dX4_dearest_4 : decode cX4_dearest 4 = .ok (.iload_n 2, 1) := dk_28 (dk_at dksX4_dearest_0 4 rfl rfl)
theorem dX4_dearest_5 : decode cX4_dearest 5 = .ok (.aload_n 0, 1) := dk_42 (dk_at dksX4_dearest_0 5 rfl rfl)
theorem dX4_dearest_6 : decode cX4_dearest 6 = .ok (.getfield 179, 3) := dk_180 0 179 (dk_at dksX4_dearest_0 6 rfl rfl)
theorem dX4_dearest_9 : decode cX4_dearest 9 = .ok (.if_icmp .ge 19, 3) := dk_162 0 19 (dk_at dksX4_dearest_0 9 rfl rfl)
theorem dX4_dearest_12 : decode cX4_dearest 12 = .ok (.iload_n 1, 1) := dk_27 (dk_at dksX4_dearest_0 12 rfl rfl)
theorem dX4_dearest_13 : decode cX4_dearest 13 = .ok (.aload_n 0, 1) := dk_42 (dk_at dksX4_dearest_0 13 rfl rfl)
theorem dX4_dearest_14 : decode cX4_dearest 14 = .ok (.iload_n 2, 1) := dk_28 (dk_at dksX4_dearest_0 14 rfl rfl)
theorem dX4_dearest_15 : decode cX4_dearest 15 = .ok (.invokevirtual 191, 3) := dk_182 0 191 (dk_at dksX4_dearest_0 15 rfl rfl)
theorem dX4_dearest_18 : decode cX4_dearest 18 = .ok (.invokestatic 96, 3) := dk_184 0 96 (dk_at dksX4_dearest_0 18 rfl rfl)
theorem dX4_dearest_21 : decode cX4_dearest 21 = .ok (.istore_n 1, 1) := dk_60 (dk_at dksX4_dearest_0 21 rfl rfl)
theorem dX4_dearest_22 : decode cX4_dearest 22 = .ok (.iinc 2 1, 3) := dk_132 2 1 (dk_at dksX4_dearest_1 0 rfl rfl)
theorem dX4_dearest_25 : decode cX4_dearest 25 = .ok (.goto (-21), 3) := dk_167 255 235 (dk_at dksX4_dearest_1 3 rfl rfl)
theorem dX4_dearest_28 : decode cX4_dearest 28 = .ok (.iload_n 1, 1) := dk_27 (dk_at dksX4_dearest_1 6 rfl rfl)
theorem dX4_dearest_29 : decode cX4_dearest 29 = .ok (.ireturn, 1) := dk_172 (dk_at dksX4_dearest_1 7 rfl rfl)
abbrev cX4_copiedPlaces : ByteArray := prog_14_method_113_code
def yX4_copiedPlaces : MethodName := ⟨RX4, "copiedPlaces", "()I"⟩
def dkwX4_copiedPlaces_1 : List UInt8 := [180, 0, 41, 28, 46, 167, 0, 4, 3, 96, 60, 132, 2, 1, 167, 255, 223, 27, 172]
abbrev dktX4_copiedPlaces_1 : List UInt8 := dkwX4_copiedPlaces_1 ++ []
def dkwX4_copiedPlaces_0 : List UInt8 := [3, 60, 3, 61, 28, 42, 180, 0, 179, 162, 0, 31, 27, 42, 180, 0, 44, 28, 46, 158, 0, 12, 42]
abbrev dktX4_copiedPlaces_0 : List UInt8 := dkwX4_copiedPlaces_0 ++ dktX4_copiedPlaces_1
theorem dksX4_copiedPlaces_0 : cX4_copiedPlaces.data.toList.drop 0 = dktX4_copiedPlaces_0 := by decide +kernel
theorem dksX4_copiedPlaces_1 : cX4_copiedPlaces.data.toList.drop 23 = dktX4_copiedPlaces_1 := dk_seg dksX4_copiedPlaces_0 23 rfl rfl
theorem dX4_copiedPlaces_0 : decode cX4_copiedPlaces 0 = .ok (.iconst 0, 1) := dk_3 (dk_at dksX4_copiedPlaces_0 0 rfl rfl)
theorem dX4_copiedPlaces_1 : decode cX4_copiedPlaces 1 = .ok (.istore_n 1, 1) := dk_60 (dk_at dksX4_copiedPlaces_0 1 rfl rfl)
theorem dX4_copiedPlaces_2 : decode cX4_copiedPlaces 2 = .ok (.iconst 0, 1) := dk_3 (dk_at dksX4_copiedPlaces_0 2 rfl rfl)
theorem dX4_copiedPlaces_3 : decode cX4_copiedPlaces 3 = .ok (.istore_n 2, 1) := dk_61 (dk_at dksX4_copiedPlaces_0 3 rfl rfl)
theorem dX4_copiedPlaces_4 : decode cX4_copiedPlaces 4 = .ok (.iload_n 2, 1) := dk_28 (dk_at dksX4_copiedPlaces_0 4 rfl rfl)
theorem dX4_copiedPlaces_5 : decode cX4_copiedPlaces 5 = .ok (.aload_n 0, 1) := dk_42 (dk_at dksX4_copiedPlaces_0 5 rfl rfl)
theorem dX4_copiedPlaces_6 : decode cX4_copiedPlaces 6 = .ok (.getfield 179, 3) := dk_180 0 179 (dk_at dksX4_copiedPlaces_0 6 rfl rfl)
theorem dX4_copiedPlaces_9 : decode cX4_copiedPlaces 9 = .ok (.if_icmp .ge 31, 3) := dk_162 0 31 (dk_at dksX4_copiedPlaces_0 9 rfl rfl)
theorem dX4_copiedPlaces_12 : decode cX4_copiedPlaces 12 = .ok (.iload_n 1, 1) := dk_27 (dk_at dksX4_copiedPlaces_0 12 rfl rfl)
theorem dX4_copiedPlaces_13 : decode cX4_copiedPlaces 13 = .ok (.aload_n 0, 1) := dk_42 (dk_at dksX4_copiedPlaces_0 13 rfl rfl)
theorem dX4_copiedPlaces_14 : decode cX4_copiedPlaces 14 = .ok (.getfield 44, 3) := dk_180 0 44 (dk_at dksX4_copiedPlaces_0 14 rfl rfl)
theorem dX4_copiedPlaces_17 : decode cX4_copiedPlaces 17 = .ok (.iload_n 2, 1) := dk_28 (dk_at dksX4_copiedPlaces_0 17 rfl rfl)
theorem dX4_copiedPlaces_18 : decode cX4_copiedPlaces 18 = .ok (.iaload, 1) := dk_46 (dk_at dksX4_copiedPlaces_0 18 rfl rfl)
theorem dX4_copiedPlaces_19 : decode cX4_copiedPlaces 19 = .ok (.ifCond .le 12, 3) := dk_158 0 12 (dk_at dksX4_copiedPlaces_0 19 rfl rfl)
theorem dX4_copiedPlaces_22 : decode cX4_copiedPlaces 22 = .ok (.aload_n 0, 1) := dk_42 (dk_at dksX4_copiedPlaces_0 22 rfl rfl)
theorem dX4_copiedPlaces_23 : decode cX4_copiedPlaces 23 = .ok (.getfield 41, 3) := dk_180 0 41 (dk_at dksX4_copiedPlaces_1 0 rfl rfl)
theorem dX4_copiedPlaces_26 : decode cX4_copiedPlaces 26 = .ok (.iload_n 2, 1) := dk_28 (dk_at dksX4_copiedPlaces_1 3 rfl rfl)
theorem dX4_copiedPlaces_27 : decode cX4_copiedPlaces 27 = .ok (.iaload, 1) := dk_46 (dk_at dksX4_copiedPlaces_1 4 rfl rfl)
theorem dX4_copiedPlaces_28 : decode cX4_copiedPlaces 28 = .ok (.goto 4, 3) := dk_167 0 4 (dk_at dksX4_copiedPlaces_1 5 rfl rfl)
theorem dX4_copiedPlaces_31 : decode cX4_copiedPlaces 31 = .ok (.iconst 0, 1) := dk_3 (dk_at dksX4_copiedPlaces_1 8 rfl rfl)
theorem dX4_copiedPlaces_32 : decode cX4_copiedPlaces 32 = .ok (.iadd, 1) := dk_96 (dk_at dksX4_copiedPlaces_1 9 rfl rfl)
theorem dX4_copiedPlaces_33 : decode cX4_copiedPlaces 33 = .ok (.istore_n 1, 1) := dk_60 (dk_at dksX4_copiedPlaces_1 10 rfl rfl)
theorem dX4_copiedPlaces_34 : decode cX4_copiedPlaces 34 = .ok (.iinc 2 1, 3) := dk_132 2 1 (dk_at dksX4_copiedPlaces_1 11 rfl rfl)
theorem dX4_copiedPlaces_37 : decode cX4_copiedPlaces 37 = .ok (.goto (-33), 3) := dk_167 255 223 (dk_at dksX4_copiedPlaces_1 14 rfl rfl)
theorem dX4_copiedPlaces_40 : decode cX4_copiedPlaces 40 = .ok (.iload_n 1, 1) := dk_27 (dk_at dksX4_copiedPlaces_1 17 rfl rfl)
theorem dX4_copiedPlaces_41 : decode cX4_copiedPlaces 41 = .ok (.ireturn, 1) := dk_172 (dk_at dksX4_copiedPlaces_1 18 rfl rfl)
abbrev cX4_restPrice : ByteArray := prog_14_method_115_code
def yX4_restPrice : MethodName := ⟨RX4, "restPrice", "(IIZ)I"⟩
def dkwX4_restPrice_1 : List UInt8 := [182, 0, 207, 54, 4, 42, 180, 0, 32, 27, 28, 29, 184, 0, 154, 46, 172]
abbrev dktX4_restPrice_1 : List UInt8 := dkwX4_restPrice_1 ++ []
def dkwX4_restPrice_0 : List UInt8 := [42, 42, 27, 182, 1, 127, 28, 3, 16, 32, 184, 0, 121, 182, 1, 92, 154, 0, 5, 3, 172, 42]
abbrev dktX4_restPrice_0 : List UInt8 := dkwX4_restPrice_0 ++ dktX4_restPrice_1
theorem dksX4_restPrice_0 : cX4_restPrice.data.toList.drop 0 = dktX4_restPrice_0 := by decide +kernel
theorem dksX4_restPrice_1 : cX4_restPrice.data.toList.drop 22 = dktX4_restPrice_1 := dk_seg dksX4_restPrice_0 22 rfl rfl
theorem dX4_restPrice_0 : decode cX4_restPrice 0 = .ok (.aload_n 0, 1) := dk_42 (dk_at dksX4_restPrice_0 0 rfl rfl)
theorem dX4_restPrice_1 : decode cX4_restPrice 1 = .ok (.aload_n 0, 1) := dk_42 (dk_at dksX4_restPrice_0 1 rfl rfl)
theorem dX4_restPrice_2 : decode cX4_restPrice 2 = .ok (.iload_n 1, 1) := dk_27 (dk_at dksX4_restPrice_0 2 rfl rfl)
theorem dX4_restPrice_3 : decode cX4_restPrice 3 = .ok (.invokevirtual 383, 3) := dk_182 1 127 (dk_at dksX4_restPrice_0 3 rfl rfl)
theorem dX4_restPrice_6 : decode cX4_restPrice 6 = .ok (.iload_n 2, 1) := dk_28 (dk_at dksX4_restPrice_0 6 rfl rfl)
theorem dX4_restPrice_7 : decode cX4_restPrice 7 = .ok (.iconst 0, 1) := dk_3 (dk_at dksX4_restPrice_0 7 rfl rfl)
theorem dX4_restPrice_8 : decode cX4_restPrice 8 = .ok (.bipush 32, 2) := dk_16 32 (dk_at dksX4_restPrice_0 8 rfl rfl)
theorem dX4_restPrice_10 : decode cX4_restPrice 10 = .ok (.invokestatic 121, 3) := dk_184 0 121 (dk_at dksX4_restPrice_0 10 rfl rfl)
theorem dX4_restPrice_13 : decode cX4_restPrice 13 = .ok (.invokevirtual 348, 3) := dk_182 1 92 (dk_at dksX4_restPrice_0 13 rfl rfl)
theorem dX4_restPrice_16 : decode cX4_restPrice 16 = .ok (.ifCond .ne 5, 3) := dk_154 0 5 (dk_at dksX4_restPrice_0 16 rfl rfl)
theorem dX4_restPrice_19 : decode cX4_restPrice 19 = .ok (.iconst 0, 1) := dk_3 (dk_at dksX4_restPrice_0 19 rfl rfl)
theorem dX4_restPrice_20 : decode cX4_restPrice 20 = .ok (.ireturn, 1) := dk_172 (dk_at dksX4_restPrice_0 20 rfl rfl)
theorem dX4_restPrice_21 : decode cX4_restPrice 21 = .ok (.aload_n 0, 1) := dk_42 (dk_at dksX4_restPrice_0 21 rfl rfl)
theorem dX4_restPrice_22 : decode cX4_restPrice 22 = .ok (.invokevirtual 207, 3) := dk_182 0 207 (dk_at dksX4_restPrice_1 0 rfl rfl)
theorem dX4_restPrice_25 : decode cX4_restPrice 25 = .ok (.istore 4, 2) := dk_54 4 (dk_at dksX4_restPrice_1 3 rfl rfl)
theorem dX4_restPrice_27 : decode cX4_restPrice 27 = .ok (.aload_n 0, 1) := dk_42 (dk_at dksX4_restPrice_1 5 rfl rfl)
theorem dX4_restPrice_28 : decode cX4_restPrice 28 = .ok (.getfield 32, 3) := dk_180 0 32 (dk_at dksX4_restPrice_1 6 rfl rfl)
theorem dX4_restPrice_31 : decode cX4_restPrice 31 = .ok (.iload_n 1, 1) := dk_27 (dk_at dksX4_restPrice_1 9 rfl rfl)
theorem dX4_restPrice_32 : decode cX4_restPrice 32 = .ok (.iload_n 2, 1) := dk_28 (dk_at dksX4_restPrice_1 10 rfl rfl)
theorem dX4_restPrice_33 : decode cX4_restPrice 33 = .ok (.iload_n 3, 1) := dk_29 (dk_at dksX4_restPrice_1 11 rfl rfl)
theorem dX4_restPrice_34 : decode cX4_restPrice 34 = .ok (.invokestatic 154, 3) := dk_184 0 154 (dk_at dksX4_restPrice_1 12 rfl rfl)
theorem dX4_restPrice_37 : decode cX4_restPrice 37 = .ok (.iaload, 1) := dk_46 (dk_at dksX4_restPrice_1 15 rfl rfl)
theorem dX4_restPrice_38 : decode cX4_restPrice 38 = .ok (.ireturn, 1) := dk_172 (dk_at dksX4_restPrice_1 16 rfl rfl)
abbrev cX4_through : ByteArray := prog_14_method_117_code
def yX4_through : MethodName := ⟨RX4, "through", "(I)I"⟩
def dkwX4_through_1 : List UInt8 := [27, 182, 1, 166, 172]
abbrev dktX4_through_1 : List UInt8 := dkwX4_through_1 ++ []
def dkwX4_through_0 : List UInt8 := [42, 42, 27, 182, 1, 127, 182, 1, 102, 154, 0, 5, 3, 172, 42, 182, 0, 207, 61, 42, 182, 1, 163, 42]
abbrev dktX4_through_0 : List UInt8 := dkwX4_through_0 ++ dktX4_through_1
theorem dksX4_through_0 : cX4_through.data.toList.drop 0 = dktX4_through_0 := by decide +kernel
theorem dksX4_through_1 : cX4_through.data.toList.drop 24 = dktX4_through_1 := dk_seg dksX4_through_0 24 rfl rfl
theorem dX4_through_0 : decode cX4_through 0 = .ok (.aload_n 0, 1) := dk_42 (dk_at dksX4_through_0 0 rfl rfl)
theorem dX4_through_1 : decode cX4_through 1 = .ok (.aload_n 0, 1) := dk_42 (dk_at dksX4_through_0 1 rfl rfl)
theorem dX4_through_2 : decode cX4_through 2 = .ok (.iload_n 1, 1) := dk_27 (dk_at dksX4_through_0 2 rfl rfl)
theorem dX4_through_3 : decode cX4_through 3 = .ok (.invokevirtual 383, 3) := dk_182 1 127 (dk_at dksX4_through_0 3 rfl rfl)
theorem dX4_through_6 : decode cX4_through 6 = .ok (.invokevirtual 358, 3) := dk_182 1 102 (dk_at dksX4_through_0 6 rfl rfl)
theorem dX4_through_9 : decode cX4_through 9 = .ok (.ifCond .ne 5, 3) := dk_154 0 5 (dk_at dksX4_through_0 9 rfl rfl)
theorem dX4_through_12 : decode cX4_through 12 = .ok (.iconst 0, 1) := dk_3 (dk_at dksX4_through_0 12 rfl rfl)
theorem dX4_through_13 : decode cX4_through 13 = .ok (.ireturn, 1) := dk_172 (dk_at dksX4_through_0 13 rfl rfl)
theorem dX4_through_14 : decode cX4_through 14 = .ok (.aload_n 0, 1) := dk_42 (dk_at dksX4_through_0 14 rfl rfl)
theorem dX4_through_15 : decode cX4_through 15 = .ok (.invokevirtual 207, 3) := dk_182 0 207 (dk_at dksX4_through_0 15 rfl rfl)
theorem dX4_through_18 : decode cX4_through 18 = .ok (.istore_n 2, 1) := dk_61 (dk_at dksX4_through_0 18 rfl rfl)
theorem dX4_through_19 : decode cX4_through 19 = .ok (.aload_n 0, 1) := dk_42 (dk_at dksX4_through_0 19 rfl rfl)
theorem dX4_through_20 : decode cX4_through 20 = .ok (.invokevirtual 419, 3) := dk_182 1 163 (dk_at dksX4_through_0 20 rfl rfl)
theorem dX4_through_23 : decode cX4_through 23 = .ok (.aload_n 0, 1) := dk_42 (dk_at dksX4_through_0 23 rfl rfl)
theorem dX4_through_24 : decode cX4_through 24 = .ok (.iload_n 1, 1) := dk_27 (dk_at dksX4_through_1 0 rfl rfl)
theorem dX4_through_25 : decode cX4_through 25 = .ok (.invokevirtual 422, 3) := dk_182 1 166 (dk_at dksX4_through_1 1 rfl rfl)
theorem dX4_through_28 : decode cX4_through 28 = .ok (.ireturn, 1) := dk_172 (dk_at dksX4_through_1 4 rfl rfl)
abbrev cX4_laysFore : ByteArray := prog_14_method_41_code
def yX4_laysFore : MethodName := ⟨RX4, "laysFore", "()V"⟩
def dkwX4_laysFore_3 : List UInt8 := [182, 0, 175, 132, 2, 1, 167, 255, 233, 132, 1, 1, 167, 255, 217, 177]
abbrev dktX4_laysFore_3 : List UInt8 := dkwX4_laysFore_3 ++ []
def dkwX4_laysFore_2 : List UInt8 := [162, 0, 37, 3, 61, 28, 16, 33, 162, 0, 23, 42, 27, 28, 3, 182, 0, 175, 42, 27, 28, 4]
abbrev dktX4_laysFore_2 : List UInt8 := dkwX4_laysFore_2 ++ dktX4_laysFore_3
def dkwX4_laysFore_1 : List UInt8 := [167, 255, 236, 42, 180, 0, 35, 3, 3, 3, 184, 0, 154, 3, 79, 3, 60, 27, 42, 182, 0, 86]
abbrev dktX4_laysFore_1 : List UInt8 := dkwX4_laysFore_1 ++ dktX4_laysFore_2
def dkwX4_laysFore_0 : List UInt8 := [3, 60, 27, 42, 180, 0, 35, 190, 162, 0, 17, 42, 180, 0, 35, 27, 18, 149, 79, 132, 1, 1]
abbrev dktX4_laysFore_0 : List UInt8 := dkwX4_laysFore_0 ++ dktX4_laysFore_1
theorem dksX4_laysFore_0 : cX4_laysFore.data.toList.drop 0 = dktX4_laysFore_0 := by decide +kernel
theorem dksX4_laysFore_1 : cX4_laysFore.data.toList.drop 22 = dktX4_laysFore_1 := dk_seg dksX4_laysFore_0 22 rfl rfl
theorem dksX4_laysFore_2 : cX4_laysFore.data.toList.drop 44 = dktX4_laysFore_2 := dk_seg dksX4_laysFore_1 22 rfl rfl
theorem dksX4_laysFore_3 : cX4_laysFore.data.toList.drop 66 = dktX4_laysFore_3 := dk_seg dksX4_laysFore_2 22 rfl rfl
theorem dX4_laysFore_0 : decode cX4_laysFore 0 = .ok (.iconst 0, 1) := dk_3 (dk_at dksX4_laysFore_0 0 rfl rfl)
theorem dX4_laysFore_1 : decode cX4_laysFore 1 = .ok (.istore_n 1, 1) := dk_60 (dk_at dksX4_laysFore_0 1 rfl rfl)
theorem dX4_laysFore_2 : decode cX4_laysFore 2 = .ok (.iload_n 1, 1) := dk_27 (dk_at dksX4_laysFore_0 2 rfl rfl)
theorem dX4_laysFore_3 : decode cX4_laysFore 3 = .ok (.aload_n 0, 1) := dk_42 (dk_at dksX4_laysFore_0 3 rfl rfl)
theorem dX4_laysFore_4 : decode cX4_laysFore 4 = .ok (.getfield 35, 3) := dk_180 0 35 (dk_at dksX4_laysFore_0 4 rfl rfl)
theorem dX4_laysFore_7 : decode cX4_laysFore 7 = .ok (.arraylength, 1) := dk_190 (dk_at dksX4_laysFore_0 7 rfl rfl)
theorem dX4_laysFore_8 : decode cX4_laysFore 8 = .ok (.if_icmp .ge 17, 3) := dk_162 0 17 (dk_at dksX4_laysFore_0 8 rfl rfl)
theorem dX4_laysFore_11 : decode cX4_laysFore 11 = .ok (.aload_n 0, 1) := dk_42 (dk_at dksX4_laysFore_0 11 rfl rfl)
theorem dX4_laysFore_12 : decode cX4_laysFore 12 = .ok (.getfield 35, 3) := dk_180 0 35 (dk_at dksX4_laysFore_0 12 rfl rfl)
theorem dX4_laysFore_15 : decode cX4_laysFore 15 = .ok (.iload_n 1, 1) := dk_27 (dk_at dksX4_laysFore_0 15 rfl rfl)
theorem dX4_laysFore_16 : decode cX4_laysFore 16 = .ok (.ldc 149, 2) := dk_18 149 (dk_at dksX4_laysFore_0 16 rfl rfl)
theorem dX4_laysFore_18 : decode cX4_laysFore 18 = .ok (.iastore, 1) := dk_79 (dk_at dksX4_laysFore_0 18 rfl rfl)
theorem dX4_laysFore_19 : decode cX4_laysFore 19 = .ok (.iinc 1 1, 3) := dk_132 1 1 (dk_at dksX4_laysFore_0 19 rfl rfl)
theorem dX4_laysFore_22 : decode cX4_laysFore 22 = .ok (.goto (-20), 3) := dk_167 255 236 (dk_at dksX4_laysFore_1 0 rfl rfl)
theorem dX4_laysFore_25 : decode cX4_laysFore 25 = .ok (.aload_n 0, 1) := dk_42 (dk_at dksX4_laysFore_1 3 rfl rfl)
theorem dX4_laysFore_26 : decode cX4_laysFore 26 = .ok (.getfield 35, 3) := dk_180 0 35 (dk_at dksX4_laysFore_1 4 rfl rfl)
theorem dX4_laysFore_29 : decode cX4_laysFore 29 = .ok (.iconst 0, 1) := dk_3 (dk_at dksX4_laysFore_1 7 rfl rfl)
theorem dX4_laysFore_30 : decode cX4_laysFore 30 = .ok (.iconst 0, 1) := dk_3 (dk_at dksX4_laysFore_1 8 rfl rfl)
theorem dX4_laysFore_31 : decode cX4_laysFore 31 = .ok (.iconst 0, 1) := dk_3 (dk_at dksX4_laysFore_1 9 rfl rfl)
theorem dX4_laysFore_32 : decode cX4_laysFore 32 = .ok (.invokestatic 154, 3) := dk_184 0 154 (dk_at dksX4_laysFore_1 10 rfl rfl)
theorem dX4_laysFore_35 : decode cX4_laysFore 35 = .ok (.iconst 0, 1) := dk_3 (dk_at dksX4_laysFore_1 13 rfl rfl)
theorem dX4_laysFore_36 : decode cX4_laysFore 36 = .ok (.iastore, 1) := dk_79 (dk_at dksX4_laysFore_1 14 rfl rfl)
theorem dX4_laysFore_37 : decode cX4_laysFore 37 = .ok (.iconst 0, 1) := dk_3 (dk_at dksX4_laysFore_1 15 rfl rfl)
theorem dX4_laysFore_38 : decode cX4_laysFore 38 = .ok (.istore_n 1, 1) := dk_60 (dk_at dksX4_laysFore_1 16 rfl rfl)
theorem dX4_laysFore_39 : decode cX4_laysFore 39 = .ok (.iload_n 1, 1) := dk_27 (dk_at dksX4_laysFore_1 17 rfl rfl)
theorem dX4_laysFore_40 : decode cX4_laysFore 40 = .ok (.aload_n 0, 1) := dk_42 (dk_at dksX4_laysFore_1 18 rfl rfl)
theorem dX4_laysFore_41 : decode cX4_laysFore 41 = .ok (.invokevirtual 86, 3) := dk_182 0 86 (dk_at dksX4_laysFore_1 19 rfl rfl)
theorem dX4_laysFore_44 : decode cX4_laysFore 44 = .ok (.if_icmp .ge 37, 3) := dk_162 0 37 (dk_at dksX4_laysFore_2 0 rfl rfl)
theorem dX4_laysFore_47 : decode cX4_laysFore 47 = .ok (.iconst 0, 1) := dk_3 (dk_at dksX4_laysFore_2 3 rfl rfl)
theorem dX4_laysFore_48 : decode cX4_laysFore 48 = .ok (.istore_n 2, 1) := dk_61 (dk_at dksX4_laysFore_2 4 rfl rfl)
theorem dX4_laysFore_49 : decode cX4_laysFore 49 = .ok (.iload_n 2, 1) := dk_28 (dk_at dksX4_laysFore_2 5 rfl rfl)
theorem dX4_laysFore_50 : decode cX4_laysFore 50 = .ok (.bipush 33, 2) := dk_16 33 (dk_at dksX4_laysFore_2 6 rfl rfl)
theorem dX4_laysFore_52 : decode cX4_laysFore 52 = .ok (.if_icmp .ge 23, 3) := dk_162 0 23 (dk_at dksX4_laysFore_2 8 rfl rfl)
theorem dX4_laysFore_55 : decode cX4_laysFore 55 = .ok (.aload_n 0, 1) := dk_42 (dk_at dksX4_laysFore_2 11 rfl rfl)
theorem dX4_laysFore_56 : decode cX4_laysFore 56 = .ok (.iload_n 1, 1) := dk_27 (dk_at dksX4_laysFore_2 12 rfl rfl)
theorem dX4_laysFore_57 : decode cX4_laysFore 57 = .ok (.iload_n 2, 1) := dk_28 (dk_at dksX4_laysFore_2 13 rfl rfl)
theorem dX4_laysFore_58 : decode cX4_laysFore 58 = .ok (.iconst 0, 1) := dk_3 (dk_at dksX4_laysFore_2 14 rfl rfl)
theorem dX4_laysFore_59 : decode cX4_laysFore 59 = .ok (.invokevirtual 175, 3) := dk_182 0 175 (dk_at dksX4_laysFore_2 15 rfl rfl)
theorem dX4_laysFore_62 : decode cX4_laysFore 62 = .ok (.aload_n 0, 1) := dk_42 (dk_at dksX4_laysFore_2 18 rfl rfl)
theorem dX4_laysFore_63 : decode cX4_laysFore 63 = .ok (.iload_n 1, 1) := dk_27 (dk_at dksX4_laysFore_2 19 rfl rfl)
theorem dX4_laysFore_64 : decode cX4_laysFore 64 = .ok (.iload_n 2, 1) := dk_28 (dk_at dksX4_laysFore_2 20 rfl rfl)
theorem dX4_laysFore_65 : decode cX4_laysFore 65 = .ok (.iconst 1, 1) := dk_4 (dk_at dksX4_laysFore_2 21 rfl rfl)
theorem dX4_laysFore_66 : decode cX4_laysFore 66 = .ok (.invokevirtual 175, 3) := dk_182 0 175 (dk_at dksX4_laysFore_3 0 rfl rfl)
theorem dX4_laysFore_69 : decode cX4_laysFore 69 = .ok (.iinc 2 1, 3) := dk_132 2 1 (dk_at dksX4_laysFore_3 3 rfl rfl)
theorem dX4_laysFore_72 : decode cX4_laysFore 72 = .ok (.goto (-23), 3) := dk_167 255 233 (dk_at dksX4_laysFore_3 6 rfl rfl)
theorem dX4_laysFore_75 : decode cX4_laysFore 75 = .ok (.iinc 1 1, 3) := dk_132 1 1 (dk_at dksX4_laysFore_3 9 rfl rfl)
theorem dX4_laysFore_78 : decode cX4_laysFore 78 = .ok (.goto (-39), 3) := dk_167 255 217 (dk_at dksX4_laysFore_3 12 rfl rfl)
theorem dX4_laysFore_81 : decode cX4_laysFore 81 = .ok (.return_, 1) := dk_177 (dk_at dksX4_laysFore_3 15 rfl rfl)
abbrev cX4_goesOnFrom : ByteArray := prog_14_method_40_code
def yX4_goesOnFrom : MethodName := ⟨RX4, "goesOnFrom", "(IIZ)V"⟩
def dkwX4_goesOnFrom_4 : List UInt8 := [167, 255, 218, 132, 5, 1, 167, 255, 198, 177]
abbrev dktX4_goesOnFrom_4 : List UInt8 := dkwX4_goesOnFrom_4 ++ []
def dkwX4_goesOnFrom_3 : List UInt8 := [21, 6, 96, 21, 5, 3, 21, 4, 42, 21, 6, 21, 5, 28, 182, 0, 150, 96, 182, 0, 171, 132, 6, 1]
abbrev dktX4_goesOnFrom_3 : List UInt8 := dkwX4_goesOnFrom_3 ++ dktX4_goesOnFrom_4
def dkwX4_goesOnFrom_2 : List UInt8 := [162, 0, 57, 42, 5, 182, 0, 93, 54, 6, 21, 6, 42, 27, 21, 5, 182, 0, 137, 163, 0, 32, 42, 27]
abbrev dktX4_goesOnFrom_2 : List UInt8 := dkwX4_goesOnFrom_2 ++ dktX4_goesOnFrom_3
def dkwX4_goesOnFrom_1 : List UInt8 := [96, 28, 4, 21, 4, 42, 27, 29, 182, 0, 161, 96, 182, 0, 171, 4, 54, 5, 21, 5, 16, 33]
abbrev dktX4_goesOnFrom_1 : List UInt8 := dkwX4_goesOnFrom_1 ++ dktX4_goesOnFrom_2
def dkwX4_goesOnFrom_0 : List UInt8 := [42, 180, 0, 35, 27, 28, 29, 184, 0, 154, 46, 54, 4, 21, 4, 18, 149, 160, 0, 4, 177, 42, 27, 4]
abbrev dktX4_goesOnFrom_0 : List UInt8 := dkwX4_goesOnFrom_0 ++ dktX4_goesOnFrom_1
theorem dksX4_goesOnFrom_0 : cX4_goesOnFrom.data.toList.drop 0 = dktX4_goesOnFrom_0 := by decide +kernel
theorem dksX4_goesOnFrom_1 : cX4_goesOnFrom.data.toList.drop 24 = dktX4_goesOnFrom_1 := dk_seg dksX4_goesOnFrom_0 24 rfl rfl
theorem dksX4_goesOnFrom_2 : cX4_goesOnFrom.data.toList.drop 46 = dktX4_goesOnFrom_2 := dk_seg dksX4_goesOnFrom_1 22 rfl rfl
theorem dksX4_goesOnFrom_3 : cX4_goesOnFrom.data.toList.drop 70 = dktX4_goesOnFrom_3 := dk_seg dksX4_goesOnFrom_2 24 rfl rfl
theorem dksX4_goesOnFrom_4 : cX4_goesOnFrom.data.toList.drop 94 = dktX4_goesOnFrom_4 := dk_seg dksX4_goesOnFrom_3 24 rfl rfl
theorem dX4_goesOnFrom_0 : decode cX4_goesOnFrom 0 = .ok (.aload_n 0, 1) := dk_42 (dk_at dksX4_goesOnFrom_0 0 rfl rfl)
theorem dX4_goesOnFrom_1 : decode cX4_goesOnFrom 1 = .ok (.getfield 35, 3) := dk_180 0 35 (dk_at dksX4_goesOnFrom_0 1 rfl rfl)
theorem dX4_goesOnFrom_4 : decode cX4_goesOnFrom 4 = .ok (.iload_n 1, 1) := dk_27 (dk_at dksX4_goesOnFrom_0 4 rfl rfl)
theorem dX4_goesOnFrom_5 : decode cX4_goesOnFrom 5 = .ok (.iload_n 2, 1) := dk_28 (dk_at dksX4_goesOnFrom_0 5 rfl rfl)
theorem dX4_goesOnFrom_6 : decode cX4_goesOnFrom 6 = .ok (.iload_n 3, 1) := dk_29 (dk_at dksX4_goesOnFrom_0 6 rfl rfl)
theorem dX4_goesOnFrom_7 : decode cX4_goesOnFrom 7 = .ok (.invokestatic 154, 3) := dk_184 0 154 (dk_at dksX4_goesOnFrom_0 7 rfl rfl)
theorem dX4_goesOnFrom_10 : decode cX4_goesOnFrom 10 = .ok (.iaload, 1) := dk_46 (dk_at dksX4_goesOnFrom_0 10 rfl rfl)
theorem dX4_goesOnFrom_11 : decode cX4_goesOnFrom 11 = .ok (.istore 4, 2) := dk_54 4 (dk_at dksX4_goesOnFrom_0 11 rfl rfl)
theorem dX4_goesOnFrom_13 : decode cX4_goesOnFrom 13 = .ok (.iload 4, 2) := dk_21 4 (dk_at dksX4_goesOnFrom_0 13 rfl rfl)
theorem dX4_goesOnFrom_15 : decode cX4_goesOnFrom 15 = .ok (.ldc 149, 2) := dk_18 149 (dk_at dksX4_goesOnFrom_0 15 rfl rfl)
theorem dX4_goesOnFrom_17 : decode cX4_goesOnFrom 17 = .ok (.if_icmp .ne 4, 3) := dk_160 0 4 (dk_at dksX4_goesOnFrom_0 17 rfl rfl)
theorem dX4_goesOnFrom_20 : decode cX4_goesOnFrom 20 = .ok (.return_, 1) := dk_177 (dk_at dksX4_goesOnFrom_0 20 rfl rfl)
theorem dX4_goesOnFrom_21 : decode cX4_goesOnFrom 21 = .ok (.aload_n 0, 1) := dk_42 (dk_at dksX4_goesOnFrom_0 21 rfl rfl)
theorem dX4_goesOnFrom_22 : decode cX4_goesOnFrom 22 = .ok (.iload_n 1, 1) := dk_27 (dk_at dksX4_goesOnFrom_0 22 rfl rfl)
theorem dX4_goesOnFrom_23 : decode cX4_goesOnFrom 23 = .ok (.iconst 1, 1) := dk_4 (dk_at dksX4_goesOnFrom_0 23 rfl rfl)
theorem dX4_goesOnFrom_24 : decode cX4_goesOnFrom 24 = .ok (.iadd, 1) := dk_96 (dk_at dksX4_goesOnFrom_1 0 rfl rfl)
theorem dX4_goesOnFrom_25 : decode cX4_goesOnFrom 25 = .ok (.iload_n 2, 1) := dk_28 (dk_at dksX4_goesOnFrom_1 1 rfl rfl)
theorem dX4_goesOnFrom_26 : decode cX4_goesOnFrom 26 = .ok (.iconst 1, 1) := dk_4 (dk_at dksX4_goesOnFrom_1 2 rfl rfl)
theorem dX4_goesOnFrom_27 : decode cX4_goesOnFrom 27 = .ok (.iload 4, 2) := dk_21 4 (dk_at dksX4_goesOnFrom_1 3 rfl rfl)
theorem dX4_goesOnFrom_29 : decode cX4_goesOnFrom 29 = .ok (.aload_n 0, 1) := dk_42 (dk_at dksX4_goesOnFrom_1 5 rfl rfl)
theorem dX4_goesOnFrom_30 : decode cX4_goesOnFrom 30 = .ok (.iload_n 1, 1) := dk_27 (dk_at dksX4_goesOnFrom_1 6 rfl rfl)
theorem dX4_goesOnFrom_31 : decode cX4_goesOnFrom 31 = .ok (.iload_n 3, 1) := dk_29 (dk_at dksX4_goesOnFrom_1 7 rfl rfl)
theorem dX4_goesOnFrom_32 : decode cX4_goesOnFrom 32 = .ok (.invokevirtual 161, 3) := dk_182 0 161 (dk_at dksX4_goesOnFrom_1 8 rfl rfl)
theorem dX4_goesOnFrom_35 : decode cX4_goesOnFrom 35 = .ok (.iadd, 1) := dk_96 (dk_at dksX4_goesOnFrom_1 11 rfl rfl)
theorem dX4_goesOnFrom_36 : decode cX4_goesOnFrom 36 = .ok (.invokevirtual 171, 3) := dk_182 0 171 (dk_at dksX4_goesOnFrom_1 12 rfl rfl)
theorem dX4_goesOnFrom_39 : decode cX4_goesOnFrom 39 = .ok (.iconst 1, 1) := dk_4 (dk_at dksX4_goesOnFrom_1 15 rfl rfl)
theorem dX4_goesOnFrom_40 : decode cX4_goesOnFrom 40 = .ok (.istore 5, 2) := dk_54 5 (dk_at dksX4_goesOnFrom_1 16 rfl rfl)
theorem dX4_goesOnFrom_42 : decode cX4_goesOnFrom 42 = .ok (.iload 5, 2) := dk_21 5 (dk_at dksX4_goesOnFrom_1 18 rfl rfl)
theorem dX4_goesOnFrom_44 : decode cX4_goesOnFrom 44 = .ok (.bipush 33, 2) := dk_16 33 (dk_at dksX4_goesOnFrom_1 20 rfl rfl)
theorem dX4_goesOnFrom_46 : decode cX4_goesOnFrom 46 = .ok (.if_icmp .ge 57, 3) := dk_162 0 57 (dk_at dksX4_goesOnFrom_2 0 rfl rfl)
theorem dX4_goesOnFrom_49 : decode cX4_goesOnFrom 49 = .ok (.aload_n 0, 1) := dk_42 (dk_at dksX4_goesOnFrom_2 3 rfl rfl)
theorem dX4_goesOnFrom_50 : decode cX4_goesOnFrom 50 = .ok (.iconst 2, 1) := dk_5 (dk_at dksX4_goesOnFrom_2 4 rfl rfl)
theorem dX4_goesOnFrom_51 : decode cX4_goesOnFrom 51 = .ok (.invokevirtual 93, 3) := dk_182 0 93 (dk_at dksX4_goesOnFrom_2 5 rfl rfl)
theorem dX4_goesOnFrom_54 : decode cX4_goesOnFrom 54 = .ok (.istore 6, 2) := dk_54 6 (dk_at dksX4_goesOnFrom_2 8 rfl rfl)
theorem dX4_goesOnFrom_56 : decode cX4_goesOnFrom 56 = .ok (.iload 6, 2) := dk_21 6 (dk_at dksX4_goesOnFrom_2 10 rfl rfl)
theorem dX4_goesOnFrom_58 : decode cX4_goesOnFrom 58 = .ok (.aload_n 0, 1) := dk_42 (dk_at dksX4_goesOnFrom_2 12 rfl rfl)
theorem dX4_goesOnFrom_59 : decode cX4_goesOnFrom 59 = .ok (.iload_n 1, 1) := dk_27 (dk_at dksX4_goesOnFrom_2 13 rfl rfl)
theorem dX4_goesOnFrom_60 : decode cX4_goesOnFrom 60 = .ok (.iload 5, 2) := dk_21 5 (dk_at dksX4_goesOnFrom_2 14 rfl rfl)
theorem dX4_goesOnFrom_62 : decode cX4_goesOnFrom 62 = .ok (.invokevirtual 137, 3) := dk_182 0 137 (dk_at dksX4_goesOnFrom_2 16 rfl rfl)
theorem dX4_goesOnFrom_65 : decode cX4_goesOnFrom 65 = .ok (.if_icmp .gt 32, 3) := dk_163 0 32 (dk_at dksX4_goesOnFrom_2 19 rfl rfl)
theorem dX4_goesOnFrom_68 : decode cX4_goesOnFrom 68 = .ok (.aload_n 0, 1) := dk_42 (dk_at dksX4_goesOnFrom_2 22 rfl rfl)
theorem dX4_goesOnFrom_69 : decode cX4_goesOnFrom 69 = .ok (.iload_n 1, 1) := dk_27 (dk_at dksX4_goesOnFrom_2 23 rfl rfl)
theorem dX4_goesOnFrom_70 : decode cX4_goesOnFrom 70 = .ok (.iload 6, 2) := dk_21 6 (dk_at dksX4_goesOnFrom_3 0 rfl rfl)
theorem dX4_goesOnFrom_72 : decode cX4_goesOnFrom 72 = .ok (.iadd, 1) := dk_96 (dk_at dksX4_goesOnFrom_3 2 rfl rfl)
theorem dX4_goesOnFrom_73 : decode cX4_goesOnFrom 73 = .ok (.iload 5, 2) := dk_21 5 (dk_at dksX4_goesOnFrom_3 3 rfl rfl)
theorem dX4_goesOnFrom_75 : decode cX4_goesOnFrom 75 = .ok (.iconst 0, 1) := dk_3 (dk_at dksX4_goesOnFrom_3 5 rfl rfl)
theorem dX4_goesOnFrom_76 : decode cX4_goesOnFrom 76 = .ok (.iload 4, 2) := dk_21 4 (dk_at dksX4_goesOnFrom_3 6 rfl rfl)
theorem dX4_goesOnFrom_78 : decode cX4_goesOnFrom 78 = .ok (.aload_n 0, 1) := dk_42 (dk_at dksX4_goesOnFrom_3 8 rfl rfl)
theorem dX4_goesOnFrom_79 : decode cX4_goesOnFrom 79 = .ok (.iload 6, 2) := dk_21 6 (dk_at dksX4_goesOnFrom_3 9 rfl rfl)
theorem dX4_goesOnFrom_81 : decode cX4_goesOnFrom 81 = .ok (.iload 5, 2) := dk_21 5 (dk_at dksX4_goesOnFrom_3 11 rfl rfl)
theorem dX4_goesOnFrom_83 : decode cX4_goesOnFrom 83 = .ok (.iload_n 2, 1) := dk_28 (dk_at dksX4_goesOnFrom_3 13 rfl rfl)
theorem dX4_goesOnFrom_84 : decode cX4_goesOnFrom 84 = .ok (.invokevirtual 150, 3) := dk_182 0 150 (dk_at dksX4_goesOnFrom_3 14 rfl rfl)
theorem dX4_goesOnFrom_87 : decode cX4_goesOnFrom 87 = .ok (.iadd, 1) := dk_96 (dk_at dksX4_goesOnFrom_3 17 rfl rfl)
theorem dX4_goesOnFrom_88 : decode cX4_goesOnFrom 88 = .ok (.invokevirtual 171, 3) := dk_182 0 171 (dk_at dksX4_goesOnFrom_3 18 rfl rfl)
theorem dX4_goesOnFrom_91 : decode cX4_goesOnFrom 91 = .ok (.iinc 6 1, 3) := dk_132 6 1 (dk_at dksX4_goesOnFrom_3 21 rfl rfl)
theorem dX4_goesOnFrom_94 : decode cX4_goesOnFrom 94 = .ok (.goto (-38), 3) := dk_167 255 218 (dk_at dksX4_goesOnFrom_4 0 rfl rfl)
theorem dX4_goesOnFrom_97 : decode cX4_goesOnFrom 97 = .ok (.iinc 5 1, 3) := dk_132 5 1 (dk_at dksX4_goesOnFrom_4 3 rfl rfl)
theorem dX4_goesOnFrom_100 : decode cX4_goesOnFrom 100 = .ok (.goto (-58), 3) := dk_167 255 198 (dk_at dksX4_goesOnFrom_4 6 rfl rfl)
theorem dX4_goesOnFrom_103 : decode cX4_goesOnFrom 103 = .ok (.return_, 1) := dk_177 (dk_at dksX4_goesOnFrom_4 9 rfl rfl)
abbrev cX4_betters : ByteArray := prog_14_method_39_code
def yX4_betters : MethodName := ⟨RX4, "betters", "(IIZI)V"⟩
def dkwX4_betters_1 : List UInt8 := [184, 0, 114, 79, 177]
abbrev dktX4_betters_1 : List UInt8 := dkwX4_betters_1 ++ []
def dkwX4_betters_0 : List UInt8 := [27, 28, 29, 184, 0, 154, 54, 5, 42, 180, 0, 35, 21, 5, 42, 180, 0, 35, 21, 5, 46, 21, 4]
abbrev dktX4_betters_0 : List UInt8 := dkwX4_betters_0 ++ dktX4_betters_1
theorem dksX4_betters_0 : cX4_betters.data.toList.drop 0 = dktX4_betters_0 := by decide +kernel
theorem dksX4_betters_1 : cX4_betters.data.toList.drop 23 = dktX4_betters_1 := dk_seg dksX4_betters_0 23 rfl rfl
theorem dX4_betters_0 : decode cX4_betters 0 = .ok (.iload_n 1, 1) := dk_27 (dk_at dksX4_betters_0 0 rfl rfl)
theorem dX4_betters_1 : decode cX4_betters 1 = .ok (.iload_n 2, 1) := dk_28 (dk_at dksX4_betters_0 1 rfl rfl)
theorem dX4_betters_2 : decode cX4_betters 2 = .ok (.iload_n 3, 1) := dk_29 (dk_at dksX4_betters_0 2 rfl rfl)
theorem dX4_betters_3 : decode cX4_betters 3 = .ok (.invokestatic 154, 3) := dk_184 0 154 (dk_at dksX4_betters_0 3 rfl rfl)
theorem dX4_betters_6 : decode cX4_betters 6 = .ok (.istore 5, 2) := dk_54 5 (dk_at dksX4_betters_0 6 rfl rfl)
theorem dX4_betters_8 : decode cX4_betters 8 = .ok (.aload_n 0, 1) := dk_42 (dk_at dksX4_betters_0 8 rfl rfl)
theorem dX4_betters_9 : decode cX4_betters 9 = .ok (.getfield 35, 3) := dk_180 0 35 (dk_at dksX4_betters_0 9 rfl rfl)
theorem dX4_betters_12 : decode cX4_betters 12 = .ok (.iload 5, 2) := dk_21 5 (dk_at dksX4_betters_0 12 rfl rfl)
theorem dX4_betters_14 : decode cX4_betters 14 = .ok (.aload_n 0, 1) := dk_42 (dk_at dksX4_betters_0 14 rfl rfl)
theorem dX4_betters_15 : decode cX4_betters 15 = .ok (.getfield 35, 3) := dk_180 0 35 (dk_at dksX4_betters_0 15 rfl rfl)
theorem dX4_betters_18 : decode cX4_betters 18 = .ok (.iload 5, 2) := dk_21 5 (dk_at dksX4_betters_0 18 rfl rfl)
theorem dX4_betters_20 : decode cX4_betters 20 = .ok (.iaload, 1) := dk_46 (dk_at dksX4_betters_0 20 rfl rfl)
theorem dX4_betters_21 : decode cX4_betters 21 = .ok (.iload 4, 2) := dk_21 4 (dk_at dksX4_betters_0 21 rfl rfl)
theorem dX4_betters_23 : decode cX4_betters 23 = .ok (.invokestatic 114, 3) := dk_184 0 114 (dk_at dksX4_betters_1 0 rfl rfl)
theorem dX4_betters_26 : decode cX4_betters 26 = .ok (.iastore, 1) := dk_79 (dk_at dksX4_betters_1 3 rfl rfl)
theorem dX4_betters_27 : decode cX4_betters 27 = .ok (.return_, 1) := dk_177 (dk_at dksX4_betters_1 4 rfl rfl)
abbrev cX4_throughNow : ByteArray := prog_14_method_116_code
def yX4_throughNow : MethodName := ⟨RX4, "throughNow", "(I)I"⟩
def dkwX4_throughNow_3 : List UInt8 := [132, 4, 1, 167, 255, 199, 132, 3, 1, 167, 255, 184, 28, 172]
abbrev dktX4_throughNow_3 : List UInt8 := dkwX4_throughNow_3 ++ []
def dkwX4_throughNow_2 : List UInt8 := [27, 29, 21, 4, 4, 160, 0, 7, 4, 167, 0, 4, 3, 184, 0, 154, 46, 96, 184, 0, 114, 61]
abbrev dktX4_throughNow_2 : List UInt8 := dkwX4_throughNow_2 ++ dktX4_throughNow_3
def dkwX4_throughNow_1 : List UInt8 := [180, 0, 35, 27, 29, 21, 4, 4, 160, 0, 7, 4, 167, 0, 4, 3, 184, 0, 154, 46, 42, 180, 0, 32]
abbrev dktX4_throughNow_1 : List UInt8 := dkwX4_throughNow_1 ++ dktX4_throughNow_2
def dkwX4_throughNow_0 : List UInt8 := [18, 149, 61, 3, 62, 29, 16, 33, 162, 0, 72, 3, 54, 4, 21, 4, 5, 162, 0, 57, 28, 42]
abbrev dktX4_throughNow_0 : List UInt8 := dkwX4_throughNow_0 ++ dktX4_throughNow_1
theorem dksX4_throughNow_0 : cX4_throughNow.data.toList.drop 0 = dktX4_throughNow_0 := by decide +kernel
theorem dksX4_throughNow_1 : cX4_throughNow.data.toList.drop 22 = dktX4_throughNow_1 := dk_seg dksX4_throughNow_0 22 rfl rfl
theorem dksX4_throughNow_2 : cX4_throughNow.data.toList.drop 46 = dktX4_throughNow_2 := dk_seg dksX4_throughNow_1 24 rfl rfl
theorem dksX4_throughNow_3 : cX4_throughNow.data.toList.drop 68 = dktX4_throughNow_3 := dk_seg dksX4_throughNow_2 22 rfl rfl
theorem dX4_throughNow_0 : decode cX4_throughNow 0 = .ok (.ldc 149, 2) := dk_18 149 (dk_at dksX4_throughNow_0 0 rfl rfl)
theorem dX4_throughNow_2 : decode cX4_throughNow 2 = .ok (.istore_n 2, 1) := dk_61 (dk_at dksX4_throughNow_0 2 rfl rfl)
theorem dX4_throughNow_3 : decode cX4_throughNow 3 = .ok (.iconst 0, 1) := dk_3 (dk_at dksX4_throughNow_0 3 rfl rfl)
theorem dX4_throughNow_4 : decode cX4_throughNow 4 = .ok (.istore_n 3, 1) := dk_62 (dk_at dksX4_throughNow_0 4 rfl rfl)
theorem dX4_throughNow_5 : decode cX4_throughNow 5 = .ok (.iload_n 3, 1) := dk_29 (dk_at dksX4_throughNow_0 5 rfl rfl)
theorem dX4_throughNow_6 : decode cX4_throughNow 6 = .ok (.bipush 33, 2) := dk_16 33 (dk_at dksX4_throughNow_0 6 rfl rfl)
theorem dX4_throughNow_8 : decode cX4_throughNow 8 = .ok (.if_icmp .ge 72, 3) := dk_162 0 72 (dk_at dksX4_throughNow_0 8 rfl rfl)
theorem dX4_throughNow_11 : decode cX4_throughNow 11 = .ok (.iconst 0, 1) := dk_3 (dk_at dksX4_throughNow_0 11 rfl rfl)
theorem dX4_throughNow_12 : decode cX4_throughNow 12 = .ok (.istore 4, 2) := dk_54 4 (dk_at dksX4_throughNow_0 12 rfl rfl)
theorem dX4_throughNow_14 : decode cX4_throughNow 14 = .ok (.iload 4, 2) := dk_21 4 (dk_at dksX4_throughNow_0 14 rfl rfl)
theorem dX4_throughNow_16 : decode cX4_throughNow 16 = .ok (.iconst 2, 1) := dk_5 (dk_at dksX4_throughNow_0 16 rfl rfl)
theorem dX4_throughNow_17 : decode cX4_throughNow 17 = .ok (.if_icmp .ge 57, 3) := dk_162 0 57 (dk_at dksX4_throughNow_0 17 rfl rfl)
theorem dX4_throughNow_20 : decode cX4_throughNow 20 = .ok (.iload_n 2, 1) := dk_28 (dk_at dksX4_throughNow_0 20 rfl rfl)
theorem dX4_throughNow_21 : decode cX4_throughNow 21 = .ok (.aload_n 0, 1) := dk_42 (dk_at dksX4_throughNow_0 21 rfl rfl)
theorem dX4_throughNow_22 : decode cX4_throughNow 22 = .ok (.getfield 35, 3) := dk_180 0 35 (dk_at dksX4_throughNow_1 0 rfl rfl)
theorem dX4_throughNow_25 : decode cX4_throughNow 25 = .ok (.iload_n 1, 1) := dk_27 (dk_at dksX4_throughNow_1 3 rfl rfl)
theorem dX4_throughNow_26 : decode cX4_throughNow 26 = .ok (.iload_n 3, 1) := dk_29 (dk_at dksX4_throughNow_1 4 rfl rfl)
theorem dX4_throughNow_27 : decode cX4_throughNow 27 = .ok (.iload 4, 2) := dk_21 4 (dk_at dksX4_throughNow_1 5 rfl rfl)
theorem dX4_throughNow_29 : decode cX4_throughNow 29 = .ok (.iconst 1, 1) := dk_4 (dk_at dksX4_throughNow_1 7 rfl rfl)
theorem dX4_throughNow_30 : decode cX4_throughNow 30 = .ok (.if_icmp .ne 7, 3) := dk_160 0 7 (dk_at dksX4_throughNow_1 8 rfl rfl)
theorem dX4_throughNow_33 : decode cX4_throughNow 33 = .ok (.iconst 1, 1) := dk_4 (dk_at dksX4_throughNow_1 11 rfl rfl)
theorem dX4_throughNow_34 : decode cX4_throughNow 34 = .ok (.goto 4, 3) := dk_167 0 4 (dk_at dksX4_throughNow_1 12 rfl rfl)
theorem dX4_throughNow_37 : decode cX4_throughNow 37 = .ok (.iconst 0, 1) := dk_3 (dk_at dksX4_throughNow_1 15 rfl rfl)
theorem dX4_throughNow_38 : decode cX4_throughNow 38 = .ok (.invokestatic 154, 3) := dk_184 0 154 (dk_at dksX4_throughNow_1 16 rfl rfl)
theorem dX4_throughNow_41 : decode cX4_throughNow 41 = .ok (.iaload, 1) := dk_46 (dk_at dksX4_throughNow_1 19 rfl rfl)
theorem dX4_throughNow_42 : decode cX4_throughNow 42 = .ok (.aload_n 0, 1) := dk_42 (dk_at dksX4_throughNow_1 20 rfl rfl)
theorem dX4_throughNow_43 : decode cX4_throughNow 43 = .ok (.getfield 32, 3) := dk_180 0 32 (dk_at dksX4_throughNow_1 21 rfl rfl)
theorem dX4_throughNow_46 : decode cX4_throughNow 46 = .ok (.iload_n 1, 1) := dk_27 (dk_at dksX4_throughNow_2 0 rfl rfl)
theorem dX4_throughNow_47 : decode cX4_throughNow 47 = .ok (.iload_n 3, 1) := dk_29 (dk_at dksX4_throughNow_2 1 rfl rfl)
theorem dX4_throughNow_48 : decode cX4_throughNow 48 = .ok (.iload 4, 2) := dk_21 4 (dk_at dksX4_throughNow_2 2 rfl rfl)
theorem dX4_throughNow_50 : decode cX4_throughNow 50 = .ok (.iconst 1, 1) := dk_4 (dk_at dksX4_throughNow_2 4 rfl rfl)
theorem dX4_throughNow_51 : decode cX4_throughNow 51 = .ok (.if_icmp .ne 7, 3) := dk_160 0 7 (dk_at dksX4_throughNow_2 5 rfl rfl)
theorem dX4_throughNow_54 : decode cX4_throughNow 54 = .ok (.iconst 1, 1) := dk_4 (dk_at dksX4_throughNow_2 8 rfl rfl)
theorem dX4_throughNow_55 : decode cX4_throughNow 55 = .ok (.goto 4, 3) := dk_167 0 4 (dk_at dksX4_throughNow_2 9 rfl rfl)
theorem dX4_throughNow_58 : decode cX4_throughNow 58 = .ok (.iconst 0, 1) := dk_3 (dk_at dksX4_throughNow_2 12 rfl rfl)
theorem dX4_throughNow_59 : decode cX4_throughNow 59 = .ok (.invokestatic 154, 3) := dk_184 0 154 (dk_at dksX4_throughNow_2 13 rfl rfl)
theorem dX4_throughNow_62 : decode cX4_throughNow 62 = .ok (.iaload, 1) := dk_46 (dk_at dksX4_throughNow_2 16 rfl rfl)
theorem dX4_throughNow_63 : decode cX4_throughNow 63 = .ok (.iadd, 1) := dk_96 (dk_at dksX4_throughNow_2 17 rfl rfl)
theorem dX4_throughNow_64 : decode cX4_throughNow 64 = .ok (.invokestatic 114, 3) := dk_184 0 114 (dk_at dksX4_throughNow_2 18 rfl rfl)
theorem dX4_throughNow_67 : decode cX4_throughNow 67 = .ok (.istore_n 2, 1) := dk_61 (dk_at dksX4_throughNow_2 21 rfl rfl)
theorem dX4_throughNow_68 : decode cX4_throughNow 68 = .ok (.iinc 4 1, 3) := dk_132 4 1 (dk_at dksX4_throughNow_3 0 rfl rfl)
theorem dX4_throughNow_71 : decode cX4_throughNow 71 = .ok (.goto (-57), 3) := dk_167 255 199 (dk_at dksX4_throughNow_3 3 rfl rfl)
theorem dX4_throughNow_74 : decode cX4_throughNow 74 = .ok (.iinc 3 1, 3) := dk_132 3 1 (dk_at dksX4_throughNow_3 6 rfl rfl)
theorem dX4_throughNow_77 : decode cX4_throughNow 77 = .ok (.goto (-72), 3) := dk_167 255 184 (dk_at dksX4_throughNow_3 9 rfl rfl)
theorem dX4_throughNow_80 : decode cX4_throughNow 80 = .ok (.iload_n 2, 1) := dk_28 (dk_at dksX4_throughNow_3 12 rfl rfl)
theorem dX4_throughNow_81 : decode cX4_throughNow 81 = .ok (.ireturn, 1) := dk_172 (dk_at dksX4_throughNow_3 13 rfl rfl)
abbrev cX4_worth : ByteArray := prog_14_method_119_code
def yX4_worth : MethodName := ⟨RX4, "worth", "(III)I"⟩
def dkwX4_worth_2 : List UInt8 := [182, 1, 163, 42, 27, 28, 29, 182, 1, 169, 21, 4, 100, 172]
abbrev dktX4_worth_2 : List UInt8 := dkwX4_worth_2 ++ []
def dkwX4_worth_1 : List UInt8 := [153, 0, 16, 42, 180, 0, 1, 158, 0, 7, 3, 167, 0, 4, 2, 172, 42, 182, 0, 207, 54, 4, 42]
abbrev dktX4_worth_1 : List UInt8 := dkwX4_worth_1 ++ dktX4_worth_2
def dkwX4_worth_0 : List UInt8 := [42, 42, 27, 182, 1, 127, 28, 29, 184, 1, 136, 182, 1, 92, 153, 0, 13, 42, 27, 28, 29, 182, 1, 139]
abbrev dktX4_worth_0 : List UInt8 := dkwX4_worth_0 ++ dktX4_worth_1
theorem dksX4_worth_0 : cX4_worth.data.toList.drop 0 = dktX4_worth_0 := by decide +kernel
theorem dksX4_worth_1 : cX4_worth.data.toList.drop 24 = dktX4_worth_1 := dk_seg dksX4_worth_0 24 rfl rfl
theorem dksX4_worth_2 : cX4_worth.data.toList.drop 47 = dktX4_worth_2 := dk_seg dksX4_worth_1 23 rfl rfl
theorem dX4_worth_0 : decode cX4_worth 0 = .ok (.aload_n 0, 1) := dk_42 (dk_at dksX4_worth_0 0 rfl rfl)
theorem dX4_worth_1 : decode cX4_worth 1 = .ok (.aload_n 0, 1) := dk_42 (dk_at dksX4_worth_0 1 rfl rfl)
theorem dX4_worth_2 : decode cX4_worth 2 = .ok (.iload_n 1, 1) := dk_27 (dk_at dksX4_worth_0 2 rfl rfl)
theorem dX4_worth_3 : decode cX4_worth 3 = .ok (.invokevirtual 383, 3) := dk_182 1 127 (dk_at dksX4_worth_0 3 rfl rfl)
theorem dX4_worth_6 : decode cX4_worth 6 = .ok (.iload_n 2, 1) := dk_28 (dk_at dksX4_worth_0 6 rfl rfl)
theorem dX4_worth_7 : decode cX4_worth 7 = .ok (.iload_n 3, 1) := dk_29 (dk_at dksX4_worth_0 7 rfl rfl)
theorem dX4_worth_8 : decode cX4_worth 8 = .ok (.invokestatic 392, 3) := dk_184 1 136 (dk_at dksX4_worth_0 8 rfl rfl)
theorem dX4_worth_11 : decode cX4_worth 11 = .ok (.invokevirtual 348, 3) := dk_182 1 92 (dk_at dksX4_worth_0 11 rfl rfl)
theorem dX4_worth_14 : decode cX4_worth 14 = .ok (.ifCond .eq 13, 3) := dk_153 0 13 (dk_at dksX4_worth_0 14 rfl rfl)
theorem dX4_worth_17 : decode cX4_worth 17 = .ok (.aload_n 0, 1) := dk_42 (dk_at dksX4_worth_0 17 rfl rfl)
theorem dX4_worth_18 : decode cX4_worth 18 = .ok (.iload_n 1, 1) := dk_27 (dk_at dksX4_worth_0 18 rfl rfl)
theorem dX4_worth_19 : decode cX4_worth 19 = .ok (.iload_n 2, 1) := dk_28 (dk_at dksX4_worth_0 19 rfl rfl)
theorem dX4_worth_20 : decode cX4_worth 20 = .ok (.iload_n 3, 1) := dk_29 (dk_at dksX4_worth_0 20 rfl rfl)
theorem dX4_worth_21 : decode cX4_worth 21 = .ok (.invokevirtual 395, 3) := dk_182 1 139 (dk_at dksX4_worth_0 21 rfl rfl)
theorem dX4_worth_24 : decode cX4_worth 24 = .ok (.ifCond .eq 16, 3) := dk_153 0 16 (dk_at dksX4_worth_1 0 rfl rfl)
theorem dX4_worth_27 : decode cX4_worth 27 = .ok (.aload_n 0, 1) := dk_42 (dk_at dksX4_worth_1 3 rfl rfl)
theorem dX4_worth_28 : decode cX4_worth 28 = .ok (.getfield 1, 3) := dk_180 0 1 (dk_at dksX4_worth_1 4 rfl rfl)
theorem dX4_worth_31 : decode cX4_worth 31 = .ok (.ifCond .le 7, 3) := dk_158 0 7 (dk_at dksX4_worth_1 7 rfl rfl)
theorem dX4_worth_34 : decode cX4_worth 34 = .ok (.iconst 0, 1) := dk_3 (dk_at dksX4_worth_1 10 rfl rfl)
theorem dX4_worth_35 : decode cX4_worth 35 = .ok (.goto 4, 3) := dk_167 0 4 (dk_at dksX4_worth_1 11 rfl rfl)
theorem dX4_worth_38 : decode cX4_worth 38 = .ok (.iconst (-1), 1) := dk_2 (dk_at dksX4_worth_1 14 rfl rfl)
theorem dX4_worth_39 : decode cX4_worth 39 = .ok (.ireturn, 1) := dk_172 (dk_at dksX4_worth_1 15 rfl rfl)
theorem dX4_worth_40 : decode cX4_worth 40 = .ok (.aload_n 0, 1) := dk_42 (dk_at dksX4_worth_1 16 rfl rfl)
theorem dX4_worth_41 : decode cX4_worth 41 = .ok (.invokevirtual 207, 3) := dk_182 0 207 (dk_at dksX4_worth_1 17 rfl rfl)
theorem dX4_worth_44 : decode cX4_worth 44 = .ok (.istore 4, 2) := dk_54 4 (dk_at dksX4_worth_1 20 rfl rfl)
theorem dX4_worth_46 : decode cX4_worth 46 = .ok (.aload_n 0, 1) := dk_42 (dk_at dksX4_worth_1 22 rfl rfl)
theorem dX4_worth_47 : decode cX4_worth 47 = .ok (.invokevirtual 419, 3) := dk_182 1 163 (dk_at dksX4_worth_2 0 rfl rfl)
theorem dX4_worth_50 : decode cX4_worth 50 = .ok (.aload_n 0, 1) := dk_42 (dk_at dksX4_worth_2 3 rfl rfl)
theorem dX4_worth_51 : decode cX4_worth 51 = .ok (.iload_n 1, 1) := dk_27 (dk_at dksX4_worth_2 4 rfl rfl)
theorem dX4_worth_52 : decode cX4_worth 52 = .ok (.iload_n 2, 1) := dk_28 (dk_at dksX4_worth_2 5 rfl rfl)
theorem dX4_worth_53 : decode cX4_worth 53 = .ok (.iload_n 3, 1) := dk_29 (dk_at dksX4_worth_2 6 rfl rfl)
theorem dX4_worth_54 : decode cX4_worth 54 = .ok (.invokevirtual 425, 3) := dk_182 1 169 (dk_at dksX4_worth_2 7 rfl rfl)
theorem dX4_worth_57 : decode cX4_worth 57 = .ok (.iload 4, 2) := dk_21 4 (dk_at dksX4_worth_2 10 rfl rfl)
theorem dX4_worth_59 : decode cX4_worth 59 = .ok (.isub, 1) := dk_100 (dk_at dksX4_worth_2 12 rfl rfl)
theorem dX4_worth_60 : decode cX4_worth 60 = .ok (.ireturn, 1) := dk_172 (dk_at dksX4_worth_2 13 rfl rfl)
abbrev cX4_cheapestWith : ByteArray := prog_14_method_118_code
def yX4_cheapestWith : MethodName := ⟨RX4, "cheapestWith", "(III)I"⟩
def dkwX4_cheapestWith_3 : List UInt8 := [42, 180, 0, 32, 27, 28, 96, 29, 3, 184, 0, 154, 46, 96, 172]
abbrev dktX4_cheapestWith_3 : List UInt8 := dkwX4_cheapestWith_3 ++ []
def dkwX4_cheapestWith_2 : List UInt8 := [21, 6, 42, 28, 29, 21, 5, 182, 0, 150, 96, 184, 0, 114, 54, 4, 132, 5, 1, 167, 255, 199, 21, 4]
abbrev dktX4_cheapestWith_2 : List UInt8 := dkwX4_cheapestWith_2 ++ dktX4_cheapestWith_3
def dkwX4_cheapestWith_1 : List UInt8 := [184, 0, 154, 46, 42, 180, 0, 35, 27, 21, 5, 4, 184, 0, 154, 46, 184, 0, 114, 54, 6, 21, 4]
abbrev dktX4_cheapestWith_1 : List UInt8 := dkwX4_cheapestWith_1 ++ dktX4_cheapestWith_2
def dkwX4_cheapestWith_0 : List UInt8 := [18, 149, 54, 4, 3, 54, 5, 21, 5, 16, 33, 162, 0, 56, 42, 180, 0, 35, 27, 21, 5, 3]
abbrev dktX4_cheapestWith_0 : List UInt8 := dkwX4_cheapestWith_0 ++ dktX4_cheapestWith_1
theorem dksX4_cheapestWith_0 : cX4_cheapestWith.data.toList.drop 0 = dktX4_cheapestWith_0 := by decide +kernel
theorem dksX4_cheapestWith_1 : cX4_cheapestWith.data.toList.drop 22 = dktX4_cheapestWith_1 := dk_seg dksX4_cheapestWith_0 22 rfl rfl
theorem dksX4_cheapestWith_2 : cX4_cheapestWith.data.toList.drop 45 = dktX4_cheapestWith_2 := dk_seg dksX4_cheapestWith_1 23 rfl rfl
theorem dksX4_cheapestWith_3 : cX4_cheapestWith.data.toList.drop 69 = dktX4_cheapestWith_3 := dk_seg dksX4_cheapestWith_2 24 rfl rfl
theorem dX4_cheapestWith_0 : decode cX4_cheapestWith 0 = .ok (.ldc 149, 2) := dk_18 149 (dk_at dksX4_cheapestWith_0 0 rfl rfl)
theorem dX4_cheapestWith_2 : decode cX4_cheapestWith 2 = .ok (.istore 4, 2) := dk_54 4 (dk_at dksX4_cheapestWith_0 2 rfl rfl)
theorem dX4_cheapestWith_4 : decode cX4_cheapestWith 4 = .ok (.iconst 0, 1) := dk_3 (dk_at dksX4_cheapestWith_0 4 rfl rfl)
theorem dX4_cheapestWith_5 : decode cX4_cheapestWith 5 = .ok (.istore 5, 2) := dk_54 5 (dk_at dksX4_cheapestWith_0 5 rfl rfl)
theorem dX4_cheapestWith_7 : decode cX4_cheapestWith 7 = .ok (.iload 5, 2) := dk_21 5 (dk_at dksX4_cheapestWith_0 7 rfl rfl)
theorem dX4_cheapestWith_9 : decode cX4_cheapestWith 9 = .ok (.bipush 33, 2) := dk_16 33 (dk_at dksX4_cheapestWith_0 9 rfl rfl)
theorem dX4_cheapestWith_11 : decode cX4_cheapestWith 11 = .ok (.if_icmp .ge 56, 3) := dk_162 0 56 (dk_at dksX4_cheapestWith_0 11 rfl rfl)
theorem dX4_cheapestWith_14 : decode cX4_cheapestWith 14 = .ok (.aload_n 0, 1) := dk_42 (dk_at dksX4_cheapestWith_0 14 rfl rfl)
theorem dX4_cheapestWith_15 : decode cX4_cheapestWith 15 = .ok (.getfield 35, 3) := dk_180 0 35 (dk_at dksX4_cheapestWith_0 15 rfl rfl)
theorem dX4_cheapestWith_18 : decode cX4_cheapestWith 18 = .ok (.iload_n 1, 1) := dk_27 (dk_at dksX4_cheapestWith_0 18 rfl rfl)
theorem dX4_cheapestWith_19 : decode cX4_cheapestWith 19 = .ok (.iload 5, 2) := dk_21 5 (dk_at dksX4_cheapestWith_0 19 rfl rfl)
theorem dX4_cheapestWith_21 : decode cX4_cheapestWith 21 = .ok (.iconst 0, 1) := dk_3 (dk_at dksX4_cheapestWith_0 21 rfl rfl)
theorem dX4_cheapestWith_22 : decode cX4_cheapestWith 22 = .ok (.invokestatic 154, 3) := dk_184 0 154 (dk_at dksX4_cheapestWith_1 0 rfl rfl)
theorem dX4_cheapestWith_25 : decode cX4_cheapestWith 25 = .ok (.iaload, 1) := dk_46 (dk_at dksX4_cheapestWith_1 3 rfl rfl)
theorem dX4_cheapestWith_26 : decode cX4_cheapestWith 26 = .ok (.aload_n 0, 1) := dk_42 (dk_at dksX4_cheapestWith_1 4 rfl rfl)
theorem dX4_cheapestWith_27 : decode cX4_cheapestWith 27 = .ok (.getfield 35, 3) := dk_180 0 35 (dk_at dksX4_cheapestWith_1 5 rfl rfl)
theorem dX4_cheapestWith_30 : decode cX4_cheapestWith 30 = .ok (.iload_n 1, 1) := dk_27 (dk_at dksX4_cheapestWith_1 8 rfl rfl)
theorem dX4_cheapestWith_31 : decode cX4_cheapestWith 31 = .ok (.iload 5, 2) := dk_21 5 (dk_at dksX4_cheapestWith_1 9 rfl rfl)
theorem dX4_cheapestWith_33 : decode cX4_cheapestWith 33 = .ok (.iconst 1, 1) := dk_4 (dk_at dksX4_cheapestWith_1 11 rfl rfl)
theorem dX4_cheapestWith_34 : decode cX4_cheapestWith 34 = .ok (.invokestatic 154, 3) := dk_184 0 154 (dk_at dksX4_cheapestWith_1 12 rfl rfl)
theorem dX4_cheapestWith_37 : decode cX4_cheapestWith 37 = .ok (.iaload, 1) := dk_46 (dk_at dksX4_cheapestWith_1 15 rfl rfl)
theorem dX4_cheapestWith_38 : decode cX4_cheapestWith 38 = .ok (.invokestatic 114, 3) := dk_184 0 114 (dk_at dksX4_cheapestWith_1 16 rfl rfl)
theorem dX4_cheapestWith_41 : decode cX4_cheapestWith 41 = .ok (.istore 6, 2) := dk_54 6 (dk_at dksX4_cheapestWith_1 19 rfl rfl)
theorem dX4_cheapestWith_43 : decode cX4_cheapestWith 43 = .ok (.iload 4, 2) := dk_21 4 (dk_at dksX4_cheapestWith_1 21 rfl rfl)
theorem dX4_cheapestWith_45 : decode cX4_cheapestWith 45 = .ok (.iload 6, 2) := dk_21 6 (dk_at dksX4_cheapestWith_2 0 rfl rfl)
theorem dX4_cheapestWith_47 : decode cX4_cheapestWith 47 = .ok (.aload_n 0, 1) := dk_42 (dk_at dksX4_cheapestWith_2 2 rfl rfl)
theorem dX4_cheapestWith_48 : decode cX4_cheapestWith 48 = .ok (.iload_n 2, 1) := dk_28 (dk_at dksX4_cheapestWith_2 3 rfl rfl)
theorem dX4_cheapestWith_49 : decode cX4_cheapestWith 49 = .ok (.iload_n 3, 1) := dk_29 (dk_at dksX4_cheapestWith_2 4 rfl rfl)
theorem dX4_cheapestWith_50 : decode cX4_cheapestWith 50 = .ok (.iload 5, 2) := dk_21 5 (dk_at dksX4_cheapestWith_2 5 rfl rfl)
theorem dX4_cheapestWith_52 : decode cX4_cheapestWith 52 = .ok (.invokevirtual 150, 3) := dk_182 0 150 (dk_at dksX4_cheapestWith_2 7 rfl rfl)
theorem dX4_cheapestWith_55 : decode cX4_cheapestWith 55 = .ok (.iadd, 1) := dk_96 (dk_at dksX4_cheapestWith_2 10 rfl rfl)
theorem dX4_cheapestWith_56 : decode cX4_cheapestWith 56 = .ok (.invokestatic 114, 3) := dk_184 0 114 (dk_at dksX4_cheapestWith_2 11 rfl rfl)
theorem dX4_cheapestWith_59 : decode cX4_cheapestWith 59 = .ok (.istore 4, 2) := dk_54 4 (dk_at dksX4_cheapestWith_2 14 rfl rfl)
theorem dX4_cheapestWith_61 : decode cX4_cheapestWith 61 = .ok (.iinc 5 1, 3) := dk_132 5 1 (dk_at dksX4_cheapestWith_2 16 rfl rfl)
theorem dX4_cheapestWith_64 : decode cX4_cheapestWith 64 = .ok (.goto (-57), 3) := dk_167 255 199 (dk_at dksX4_cheapestWith_2 19 rfl rfl)
theorem dX4_cheapestWith_67 : decode cX4_cheapestWith 67 = .ok (.iload 4, 2) := dk_21 4 (dk_at dksX4_cheapestWith_2 22 rfl rfl)
theorem dX4_cheapestWith_69 : decode cX4_cheapestWith 69 = .ok (.aload_n 0, 1) := dk_42 (dk_at dksX4_cheapestWith_3 0 rfl rfl)
theorem dX4_cheapestWith_70 : decode cX4_cheapestWith 70 = .ok (.getfield 32, 3) := dk_180 0 32 (dk_at dksX4_cheapestWith_3 1 rfl rfl)
theorem dX4_cheapestWith_73 : decode cX4_cheapestWith 73 = .ok (.iload_n 1, 1) := dk_27 (dk_at dksX4_cheapestWith_3 4 rfl rfl)
theorem dX4_cheapestWith_74 : decode cX4_cheapestWith 74 = .ok (.iload_n 2, 1) := dk_28 (dk_at dksX4_cheapestWith_3 5 rfl rfl)
theorem dX4_cheapestWith_75 : decode cX4_cheapestWith 75 = .ok (.iadd, 1) := dk_96 (dk_at dksX4_cheapestWith_3 6 rfl rfl)
theorem dX4_cheapestWith_76 : decode cX4_cheapestWith 76 = .ok (.iload_n 3, 1) := dk_29 (dk_at dksX4_cheapestWith_3 7 rfl rfl)
theorem dX4_cheapestWith_77 : decode cX4_cheapestWith 77 = .ok (.iconst 0, 1) := dk_3 (dk_at dksX4_cheapestWith_3 8 rfl rfl)
theorem dX4_cheapestWith_78 : decode cX4_cheapestWith 78 = .ok (.invokestatic 154, 3) := dk_184 0 154 (dk_at dksX4_cheapestWith_3 9 rfl rfl)
theorem dX4_cheapestWith_81 : decode cX4_cheapestWith 81 = .ok (.iaload, 1) := dk_46 (dk_at dksX4_cheapestWith_3 12 rfl rfl)
theorem dX4_cheapestWith_82 : decode cX4_cheapestWith 82 = .ok (.iadd, 1) := dk_96 (dk_at dksX4_cheapestWith_3 13 rfl rfl)
theorem dX4_cheapestWith_83 : decode cX4_cheapestWith 83 = .ok (.ireturn, 1) := dk_172 (dk_at dksX4_cheapestWith_3 14 rfl rfl)
abbrev cX4_agree : ByteArray := prog_14_method_121_code
def yX4_agree : MethodName := ⟨RX4, "agree", "()Z"⟩
def dkwX4_agree_3 : List UInt8 := [4, 172]
abbrev dktX4_agree_3 : List UInt8 := dkwX4_agree_3 ++ []
def dkwX4_agree_2 : List UInt8 := [6, 160, 0, 8, 29, 27, 160, 0, 10, 42, 182, 1, 178, 154, 0, 5, 3, 172, 132, 2, 1, 167, 255, 218]
abbrev dktX4_agree_2 : List UInt8 := dkwX4_agree_2 ++ dktX4_agree_3
def dkwX4_agree_1 : List UInt8 := [159, 0, 5, 3, 172, 3, 61, 28, 7, 162, 0, 39, 42, 28, 182, 1, 175, 62, 29, 27, 161, 0, 20, 28]
abbrev dktX4_agree_1 : List UInt8 := dkwX4_agree_1 ++ dktX4_agree_2
def dkwX4_agree_0 : List UInt8 := [42, 3, 181, 0, 1, 42, 182, 0, 207, 60, 42, 182, 1, 163, 42, 42, 182, 0, 86, 182, 1, 172, 27]
abbrev dktX4_agree_0 : List UInt8 := dkwX4_agree_0 ++ dktX4_agree_1
theorem dksX4_agree_0 : cX4_agree.data.toList.drop 0 = dktX4_agree_0 := by decide +kernel
theorem dksX4_agree_1 : cX4_agree.data.toList.drop 23 = dktX4_agree_1 := dk_seg dksX4_agree_0 23 rfl rfl
theorem dksX4_agree_2 : cX4_agree.data.toList.drop 47 = dktX4_agree_2 := dk_seg dksX4_agree_1 24 rfl rfl
theorem dksX4_agree_3 : cX4_agree.data.toList.drop 71 = dktX4_agree_3 := dk_seg dksX4_agree_2 24 rfl rfl
theorem dX4_agree_0 : decode cX4_agree 0 = .ok (.aload_n 0, 1) := dk_42 (dk_at dksX4_agree_0 0 rfl rfl)
theorem dX4_agree_1 : decode cX4_agree 1 = .ok (.iconst 0, 1) := dk_3 (dk_at dksX4_agree_0 1 rfl rfl)
theorem dX4_agree_2 : decode cX4_agree 2 = .ok (.putfield 1, 3) := dk_181 0 1 (dk_at dksX4_agree_0 2 rfl rfl)
theorem dX4_agree_5 : decode cX4_agree 5 = .ok (.aload_n 0, 1) := dk_42 (dk_at dksX4_agree_0 5 rfl rfl)
theorem dX4_agree_6 : decode cX4_agree 6 = .ok (.invokevirtual 207, 3) := dk_182 0 207 (dk_at dksX4_agree_0 6 rfl rfl)
theorem dX4_agree_9 : decode cX4_agree 9 = .ok (.istore_n 1, 1) := dk_60 (dk_at dksX4_agree_0 9 rfl rfl)
theorem dX4_agree_10 : decode cX4_agree 10 = .ok (.aload_n 0, 1) := dk_42 (dk_at dksX4_agree_0 10 rfl rfl)
theorem dX4_agree_11 : decode cX4_agree 11 = .ok (.invokevirtual 419, 3) := dk_182 1 163 (dk_at dksX4_agree_0 11 rfl rfl)
theorem dX4_agree_14 : decode cX4_agree 14 = .ok (.aload_n 0, 1) := dk_42 (dk_at dksX4_agree_0 14 rfl rfl)
theorem dX4_agree_15 : decode cX4_agree 15 = .ok (.aload_n 0, 1) := dk_42 (dk_at dksX4_agree_0 15 rfl rfl)
theorem dX4_agree_16 : decode cX4_agree 16 = .ok (.invokevirtual 86, 3) := dk_182 0 86 (dk_at dksX4_agree_0 16 rfl rfl)
theorem dX4_agree_19 : decode cX4_agree 19 = .ok (.invokevirtual 428, 3) := dk_182 1 172 (dk_at dksX4_agree_0 19 rfl rfl)
theorem dX4_agree_22 : decode cX4_agree 22 = .ok (.iload_n 1, 1) := dk_27 (dk_at dksX4_agree_0 22 rfl rfl)
theorem dX4_agree_23 : decode cX4_agree 23 = .ok (.if_icmp .eq 5, 3) := dk_159 0 5 (dk_at dksX4_agree_1 0 rfl rfl)
theorem dX4_agree_26 : decode cX4_agree 26 = .ok (.iconst 0, 1) := dk_3 (dk_at dksX4_agree_1 3 rfl rfl)
theorem dX4_agree_27 : decode cX4_agree 27 = .ok (.ireturn, 1) := dk_172 (dk_at dksX4_agree_1 4 rfl rfl)
theorem dX4_agree_28 : decode cX4_agree 28 = .ok (.iconst 0, 1) := dk_3 (dk_at dksX4_agree_1 5 rfl rfl)
theorem dX4_agree_29 : decode cX4_agree 29 = .ok (.istore_n 2, 1) := dk_61 (dk_at dksX4_agree_1 6 rfl rfl)
theorem dX4_agree_30 : decode cX4_agree 30 = .ok (.iload_n 2, 1) := dk_28 (dk_at dksX4_agree_1 7 rfl rfl)
theorem dX4_agree_31 : decode cX4_agree 31 = .ok (.iconst 4, 1) := dk_7 (dk_at dksX4_agree_1 8 rfl rfl)
theorem dX4_agree_32 : decode cX4_agree 32 = .ok (.if_icmp .ge 39, 3) := dk_162 0 39 (dk_at dksX4_agree_1 9 rfl rfl)
theorem dX4_agree_35 : decode cX4_agree 35 = .ok (.aload_n 0, 1) := dk_42 (dk_at dksX4_agree_1 12 rfl rfl)
theorem dX4_agree_36 : decode cX4_agree 36 = .ok (.iload_n 2, 1) := dk_28 (dk_at dksX4_agree_1 13 rfl rfl)
theorem dX4_agree_37 : decode cX4_agree 37 = .ok (.invokevirtual 431, 3) := dk_182 1 175 (dk_at dksX4_agree_1 14 rfl rfl)
theorem dX4_agree_40 : decode cX4_agree 40 = .ok (.istore_n 3, 1) := dk_62 (dk_at dksX4_agree_1 17 rfl rfl)
theorem dX4_agree_41 : decode cX4_agree 41 = .ok (.iload_n 3, 1) := dk_29 (dk_at dksX4_agree_1 18 rfl rfl)
theorem dX4_agree_42 : decode cX4_agree 42 = .ok (.iload_n 1, 1) := dk_27 (dk_at dksX4_agree_1 19 rfl rfl)
theorem dX4_agree_43 : decode cX4_agree 43 = .ok (.if_icmp .lt 20, 3) := dk_161 0 20 (dk_at dksX4_agree_1 20 rfl rfl)
theorem dX4_agree_46 : decode cX4_agree 46 = .ok (.iload_n 2, 1) := dk_28 (dk_at dksX4_agree_1 23 rfl rfl)
theorem dX4_agree_47 : decode cX4_agree 47 = .ok (.iconst 3, 1) := dk_6 (dk_at dksX4_agree_2 0 rfl rfl)
theorem dX4_agree_48 : decode cX4_agree 48 = .ok (.if_icmp .ne 8, 3) := dk_160 0 8 (dk_at dksX4_agree_2 1 rfl rfl)
theorem dX4_agree_51 : decode cX4_agree 51 = .ok (.iload_n 3, 1) := dk_29 (dk_at dksX4_agree_2 4 rfl rfl)
theorem dX4_agree_52 : decode cX4_agree 52 = .ok (.iload_n 1, 1) := dk_27 (dk_at dksX4_agree_2 5 rfl rfl)
theorem dX4_agree_53 : decode cX4_agree 53 = .ok (.if_icmp .ne 10, 3) := dk_160 0 10 (dk_at dksX4_agree_2 6 rfl rfl)
theorem dX4_agree_56 : decode cX4_agree 56 = .ok (.aload_n 0, 1) := dk_42 (dk_at dksX4_agree_2 9 rfl rfl)
theorem dX4_agree_57 : decode cX4_agree 57 = .ok (.invokevirtual 434, 3) := dk_182 1 178 (dk_at dksX4_agree_2 10 rfl rfl)
theorem dX4_agree_60 : decode cX4_agree 60 = .ok (.ifCond .ne 5, 3) := dk_154 0 5 (dk_at dksX4_agree_2 13 rfl rfl)
theorem dX4_agree_63 : decode cX4_agree 63 = .ok (.iconst 0, 1) := dk_3 (dk_at dksX4_agree_2 16 rfl rfl)
theorem dX4_agree_64 : decode cX4_agree 64 = .ok (.ireturn, 1) := dk_172 (dk_at dksX4_agree_2 17 rfl rfl)
theorem dX4_agree_65 : decode cX4_agree 65 = .ok (.iinc 2 1, 3) := dk_132 2 1 (dk_at dksX4_agree_2 18 rfl rfl)
theorem dX4_agree_68 : decode cX4_agree 68 = .ok (.goto (-38), 3) := dk_167 255 218 (dk_at dksX4_agree_2 21 rfl rfl)
theorem dX4_agree_71 : decode cX4_agree 71 = .ok (.iconst 1, 1) := dk_4 (dk_at dksX4_agree_3 0 rfl rfl)
theorem dX4_agree_72 : decode cX4_agree 72 = .ok (.ireturn, 1) := dk_172 (dk_at dksX4_agree_3 1 rfl rfl)
abbrev cX4_leastFore : ByteArray := prog_14_method_42_code
def yX4_leastFore : MethodName := ⟨RX4, "leastFore", "(I)I"⟩
def dkwX4_leastFore_2 : List UInt8 := [172]
abbrev dktX4_leastFore_2 : List UInt8 := dkwX4_leastFore_2 ++ []
def dkwX4_leastFore_1 : List UInt8 := [180, 0, 35, 27, 29, 4, 184, 0, 154, 46, 184, 0, 114, 184, 0, 114, 61, 132, 3, 1, 167, 255, 217, 28]
abbrev dktX4_leastFore_1 : List UInt8 := dkwX4_leastFore_1 ++ dktX4_leastFore_2
def dkwX4_leastFore_0 : List UInt8 := [18, 149, 61, 3, 62, 29, 16, 33, 162, 0, 39, 28, 42, 180, 0, 35, 27, 29, 3, 184, 0, 154, 46, 42]
abbrev dktX4_leastFore_0 : List UInt8 := dkwX4_leastFore_0 ++ dktX4_leastFore_1
theorem dksX4_leastFore_0 : cX4_leastFore.data.toList.drop 0 = dktX4_leastFore_0 := by decide +kernel
theorem dksX4_leastFore_1 : cX4_leastFore.data.toList.drop 24 = dktX4_leastFore_1 := dk_seg dksX4_leastFore_0 24 rfl rfl
theorem dksX4_leastFore_2 : cX4_leastFore.data.toList.drop 48 = dktX4_leastFore_2 := dk_seg dksX4_leastFore_1 24 rfl rfl
theorem dX4_leastFore_0 : decode cX4_leastFore 0 = .ok (.ldc 149, 2) := dk_18 149 (dk_at dksX4_leastFore_0 0 rfl rfl)
theorem dX4_leastFore_2 : decode cX4_leastFore 2 = .ok (.istore_n 2, 1) := dk_61 (dk_at dksX4_leastFore_0 2 rfl rfl)
theorem dX4_leastFore_3 : decode cX4_leastFore 3 = .ok (.iconst 0, 1) := dk_3 (dk_at dksX4_leastFore_0 3 rfl rfl)
theorem dX4_leastFore_4 : decode cX4_leastFore 4 = .ok (.istore_n 3, 1) := dk_62 (dk_at dksX4_leastFore_0 4 rfl rfl)
theorem dX4_leastFore_5 : decode cX4_leastFore 5 = .ok (.iload_n 3, 1) := dk_29 (dk_at dksX4_leastFore_0 5 rfl rfl)
theorem dX4_leastFore_6 : decode cX4_leastFore 6 = .ok (.bipush 33, 2) := dk_16 33 (dk_at dksX4_leastFore_0 6 rfl rfl)
theorem dX4_leastFore_8 : decode cX4_leastFore 8 = .ok (.if_icmp .ge 39, 3) := dk_162 0 39 (dk_at dksX4_leastFore_0 8 rfl rfl)
theorem dX4_leastFore_11 : decode cX4_leastFore 11 = .ok (.iload_n 2, 1) := dk_28 (dk_at dksX4_leastFore_0 11 rfl rfl)
theorem dX4_leastFore_12 : decode cX4_leastFore 12 = .ok (.aload_n 0, 1) := dk_42 (dk_at dksX4_leastFore_0 12 rfl rfl)
theorem dX4_leastFore_13 : decode cX4_leastFore 13 = .ok (.getfield 35, 3) := dk_180 0 35 (dk_at dksX4_leastFore_0 13 rfl rfl)
theorem dX4_leastFore_16 : decode cX4_leastFore 16 = .ok (.iload_n 1, 1) := dk_27 (dk_at dksX4_leastFore_0 16 rfl rfl)
theorem dX4_leastFore_17 : decode cX4_leastFore 17 = .ok (.iload_n 3, 1) := dk_29 (dk_at dksX4_leastFore_0 17 rfl rfl)
theorem dX4_leastFore_18 : decode cX4_leastFore 18 = .ok (.iconst 0, 1) := dk_3 (dk_at dksX4_leastFore_0 18 rfl rfl)
theorem dX4_leastFore_19 : decode cX4_leastFore 19 = .ok (.invokestatic 154, 3) := dk_184 0 154 (dk_at dksX4_leastFore_0 19 rfl rfl)
theorem dX4_leastFore_22 : decode cX4_leastFore 22 = .ok (.iaload, 1) := dk_46 (dk_at dksX4_leastFore_0 22 rfl rfl)
theorem dX4_leastFore_23 : decode cX4_leastFore 23 = .ok (.aload_n 0, 1) := dk_42 (dk_at dksX4_leastFore_0 23 rfl rfl)
theorem dX4_leastFore_24 : decode cX4_leastFore 24 = .ok (.getfield 35, 3) := dk_180 0 35 (dk_at dksX4_leastFore_1 0 rfl rfl)
theorem dX4_leastFore_27 : decode cX4_leastFore 27 = .ok (.iload_n 1, 1) := dk_27 (dk_at dksX4_leastFore_1 3 rfl rfl)
theorem dX4_leastFore_28 : decode cX4_leastFore 28 = .ok (.iload_n 3, 1) := dk_29 (dk_at dksX4_leastFore_1 4 rfl rfl)
theorem dX4_leastFore_29 : decode cX4_leastFore 29 = .ok (.iconst 1, 1) := dk_4 (dk_at dksX4_leastFore_1 5 rfl rfl)
theorem dX4_leastFore_30 : decode cX4_leastFore 30 = .ok (.invokestatic 154, 3) := dk_184 0 154 (dk_at dksX4_leastFore_1 6 rfl rfl)
theorem dX4_leastFore_33 : decode cX4_leastFore 33 = .ok (.iaload, 1) := dk_46 (dk_at dksX4_leastFore_1 9 rfl rfl)
theorem dX4_leastFore_34 : decode cX4_leastFore 34 = .ok (.invokestatic 114, 3) := dk_184 0 114 (dk_at dksX4_leastFore_1 10 rfl rfl)
theorem dX4_leastFore_37 : decode cX4_leastFore 37 = .ok (.invokestatic 114, 3) := dk_184 0 114 (dk_at dksX4_leastFore_1 13 rfl rfl)
theorem dX4_leastFore_40 : decode cX4_leastFore 40 = .ok (.istore_n 2, 1) := dk_61 (dk_at dksX4_leastFore_1 16 rfl rfl)
theorem dX4_leastFore_41 : decode cX4_leastFore 41 = .ok (.iinc 3 1, 3) := dk_132 3 1 (dk_at dksX4_leastFore_1 17 rfl rfl)
theorem dX4_leastFore_44 : decode cX4_leastFore 44 = .ok (.goto (-39), 3) := dk_167 255 217 (dk_at dksX4_leastFore_1 20 rfl rfl)
theorem dX4_leastFore_47 : decode cX4_leastFore 47 = .ok (.iload_n 2, 1) := dk_28 (dk_at dksX4_leastFore_1 23 rfl rfl)
theorem dX4_leastFore_48 : decode cX4_leastFore 48 = .ok (.ireturn, 1) := dk_172 (dk_at dksX4_leastFore_2 0 rfl rfl)
abbrev cX4_costOf : ByteArray := prog_14_method_54_code
def yX4_costOf : MethodName := ⟨RX4, "costOf", "(I)I"⟩
def dkwX4_costOf_0 : List UInt8 := [42, 27, 182, 0, 217, 42, 182, 0, 220, 172]
abbrev dktX4_costOf_0 : List UInt8 := dkwX4_costOf_0 ++ []
theorem dksX4_costOf_0 : cX4_costOf.data.toList.drop 0 = dktX4_costOf_0 := by decide +kernel
theorem dX4_costOf_0 : decode cX4_costOf 0 = .ok (.aload_n 0, 1) := dk_42 (dk_at dksX4_costOf_0 0 rfl rfl)
theorem dX4_costOf_1 : decode cX4_costOf 1 = .ok (.iload_n 1, 1) := dk_27 (dk_at dksX4_costOf_0 1 rfl rfl)
theorem dX4_costOf_2 : decode cX4_costOf 2 = .ok (.invokevirtual 217, 3) := dk_182 0 217 (dk_at dksX4_costOf_0 2 rfl rfl)
theorem dX4_costOf_5 : decode cX4_costOf 5 = .ok (.aload_n 0, 1) := dk_42 (dk_at dksX4_costOf_0 5 rfl rfl)
theorem dX4_costOf_6 : decode cX4_costOf 6 = .ok (.invokevirtual 220, 3) := dk_182 0 220 (dk_at dksX4_costOf_0 6 rfl rfl)
theorem dX4_costOf_9 : decode cX4_costOf 9 = .ok (.ireturn, 1) := dk_172 (dk_at dksX4_costOf_0 9 rfl rfl)
abbrev cX4_givesText : ByteArray := prog_14_method_120_code
def yX4_givesText : MethodName := ⟨RX4, "givesText", "()Z"⟩
def dkwX4_givesText_4 : List UInt8 := [167, 255, 163, 42, 182, 0, 182, 42, 182, 0, 86, 160, 0, 7, 4, 167, 0, 4, 3, 172]
abbrev dktX4_givesText_4 : List UInt8 := dkwX4_givesText_4 ++ []
def dkwX4_givesText_3 : List UInt8 := [180, 0, 58, 28, 46, 42, 28, 182, 0, 89, 159, 0, 5, 3, 172, 132, 2, 1, 167, 255, 184, 132, 1, 1]
abbrev dktX4_givesText_3 : List UInt8 := dkwX4_givesText_3 ++ dktX4_givesText_4
def dkwX4_givesText_2 : List UInt8 := [42, 28, 182, 0, 89, 167, 0, 16, 42, 180, 0, 58, 28, 42, 180, 0, 44, 27, 46, 100, 46, 79, 42]
abbrev dktX4_givesText_2 : List UInt8 := dkwX4_givesText_2 ++ dktX4_givesText_3
def dkwX4_givesText_1 : List UInt8 := [42, 180, 0, 41, 27, 46, 96, 162, 0, 61, 42, 180, 0, 58, 28, 42, 180, 0, 44, 27, 46, 154, 0, 11]
abbrev dktX4_givesText_1 : List UInt8 := dkwX4_givesText_1 ++ dktX4_givesText_2
def dkwX4_givesText_0 : List UInt8 := [3, 60, 27, 42, 180, 0, 179, 162, 0, 91, 42, 180, 0, 38, 27, 46, 61, 28, 42, 180, 0, 38, 27, 46]
abbrev dktX4_givesText_0 : List UInt8 := dkwX4_givesText_0 ++ dktX4_givesText_1
theorem dksX4_givesText_0 : cX4_givesText.data.toList.drop 0 = dktX4_givesText_0 := by decide +kernel
theorem dksX4_givesText_1 : cX4_givesText.data.toList.drop 24 = dktX4_givesText_1 := dk_seg dksX4_givesText_0 24 rfl rfl
theorem dksX4_givesText_2 : cX4_givesText.data.toList.drop 48 = dktX4_givesText_2 := dk_seg dksX4_givesText_1 24 rfl rfl
theorem dksX4_givesText_3 : cX4_givesText.data.toList.drop 71 = dktX4_givesText_3 := dk_seg dksX4_givesText_2 23 rfl rfl
theorem dksX4_givesText_4 : cX4_givesText.data.toList.drop 95 = dktX4_givesText_4 := dk_seg dksX4_givesText_3 24 rfl rfl
theorem dX4_givesText_0 : decode cX4_givesText 0 = .ok (.iconst 0, 1) := dk_3 (dk_at dksX4_givesText_0 0 rfl rfl)
theorem dX4_givesText_1 : decode cX4_givesText 1 = .ok (.istore_n 1, 1) := dk_60 (dk_at dksX4_givesText_0 1 rfl rfl)
theorem dX4_givesText_2 : decode cX4_givesText 2 = .ok (.iload_n 1, 1) := dk_27 (dk_at dksX4_givesText_0 2 rfl rfl)
theorem dX4_givesText_3 : decode cX4_givesText 3 = .ok (.aload_n 0, 1) := dk_42 (dk_at dksX4_givesText_0 3 rfl rfl)
theorem dX4_givesText_4 : decode cX4_givesText 4 = .ok (.getfield 179, 3) := dk_180 0 179 (dk_at dksX4_givesText_0 4 rfl rfl)
theorem dX4_givesText_7 : decode cX4_givesText 7 = .ok (.if_icmp .ge 91, 3) := dk_162 0 91 (dk_at dksX4_givesText_0 7 rfl rfl)
theorem dX4_givesText_10 : decode cX4_givesText 10 = .ok (.aload_n 0, 1) := dk_42 (dk_at dksX4_givesText_0 10 rfl rfl)
theorem dX4_givesText_11 : decode cX4_givesText 11 = .ok (.getfield 38, 3) := dk_180 0 38 (dk_at dksX4_givesText_0 11 rfl rfl)
theorem dX4_givesText_14 : decode cX4_givesText 14 = .ok (.iload_n 1, 1) := dk_27 (dk_at dksX4_givesText_0 14 rfl rfl)
theorem dX4_givesText_15 : decode cX4_givesText 15 = .ok (.iaload, 1) := dk_46 (dk_at dksX4_givesText_0 15 rfl rfl)
theorem dX4_givesText_16 : decode cX4_givesText 16 = .ok (.istore_n 2, 1) := dk_61 (dk_at dksX4_givesText_0 16 rfl rfl)
theorem dX4_givesText_17 : decode cX4_givesText 17 = .ok (.iload_n 2, 1) := dk_28 (dk_at dksX4_givesText_0 17 rfl rfl)
theorem dX4_givesText_18 : decode cX4_givesText 18 = .ok (.aload_n 0, 1) := dk_42 (dk_at dksX4_givesText_0 18 rfl rfl)
theorem dX4_givesText_19 : decode cX4_givesText 19 = .ok (.getfield 38, 3) := dk_180 0 38 (dk_at dksX4_givesText_0 19 rfl rfl)
theorem dX4_givesText_22 : decode cX4_givesText 22 = .ok (.iload_n 1, 1) := dk_27 (dk_at dksX4_givesText_0 22 rfl rfl)
theorem dX4_givesText_23 : decode cX4_givesText 23 = .ok (.iaload, 1) := dk_46 (dk_at dksX4_givesText_0 23 rfl rfl)
theorem dX4_givesText_24 : decode cX4_givesText 24 = .ok (.aload_n 0, 1) := dk_42 (dk_at dksX4_givesText_1 0 rfl rfl)
theorem dX4_givesText_25 : decode cX4_givesText 25 = .ok (.getfield 41, 3) := dk_180 0 41 (dk_at dksX4_givesText_1 1 rfl rfl)
theorem dX4_givesText_28 : decode cX4_givesText 28 = .ok (.iload_n 1, 1) := dk_27 (dk_at dksX4_givesText_1 4 rfl rfl)
theorem dX4_givesText_29 : decode cX4_givesText 29 = .ok (.iaload, 1) := dk_46 (dk_at dksX4_givesText_1 5 rfl rfl)
theorem dX4_givesText_30 : decode cX4_givesText 30 = .ok (.iadd, 1) := dk_96 (dk_at dksX4_givesText_1 6 rfl rfl)
theorem dX4_givesText_31 : decode cX4_givesText 31 = .ok (.if_icmp .ge 61, 3) := dk_162 0 61 (dk_at dksX4_givesText_1 7 rfl rfl)
theorem dX4_givesText_34 : decode cX4_givesText 34 = .ok (.aload_n 0, 1) := dk_42 (dk_at dksX4_givesText_1 10 rfl rfl)
theorem dX4_givesText_35 : decode cX4_givesText 35 = .ok (.getfield 58, 3) := dk_180 0 58 (dk_at dksX4_givesText_1 11 rfl rfl)
theorem dX4_givesText_38 : decode cX4_givesText 38 = .ok (.iload_n 2, 1) := dk_28 (dk_at dksX4_givesText_1 14 rfl rfl)
theorem dX4_givesText_39 : decode cX4_givesText 39 = .ok (.aload_n 0, 1) := dk_42 (dk_at dksX4_givesText_1 15 rfl rfl)
theorem dX4_givesText_40 : decode cX4_givesText 40 = .ok (.getfield 44, 3) := dk_180 0 44 (dk_at dksX4_givesText_1 16 rfl rfl)
theorem dX4_givesText_43 : decode cX4_givesText 43 = .ok (.iload_n 1, 1) := dk_27 (dk_at dksX4_givesText_1 19 rfl rfl)
theorem dX4_givesText_44 : decode cX4_givesText 44 = .ok (.iaload, 1) := dk_46 (dk_at dksX4_givesText_1 20 rfl rfl)
theorem dX4_givesText_45 : decode cX4_givesText 45 = .ok (.ifCond .ne 11, 3) := dk_154 0 11 (dk_at dksX4_givesText_1 21 rfl rfl)
theorem dX4_givesText_48 : decode cX4_givesText 48 = .ok (.aload_n 0, 1) := dk_42 (dk_at dksX4_givesText_2 0 rfl rfl)
theorem dX4_givesText_49 : decode cX4_givesText 49 = .ok (.iload_n 2, 1) := dk_28 (dk_at dksX4_givesText_2 1 rfl rfl)
theorem dX4_givesText_50 : decode cX4_givesText 50 = .ok (.invokevirtual 89, 3) := dk_182 0 89 (dk_at dksX4_givesText_2 2 rfl rfl)
theorem dX4_givesText_53 : decode cX4_givesText 53 = .ok (.goto 16, 3) := dk_167 0 16 (dk_at dksX4_givesText_2 5 rfl rfl)
theorem dX4_givesText_56 : decode cX4_givesText 56 = .ok (.aload_n 0, 1) := dk_42 (dk_at dksX4_givesText_2 8 rfl rfl)
theorem dX4_givesText_57 : decode cX4_givesText 57 = .ok (.getfield 58, 3) := dk_180 0 58 (dk_at dksX4_givesText_2 9 rfl rfl)
theorem dX4_givesText_60 : decode cX4_givesText 60 = .ok (.iload_n 2, 1) := dk_28 (dk_at dksX4_givesText_2 12 rfl rfl)
theorem dX4_givesText_61 : decode cX4_givesText 61 = .ok (.aload_n 0, 1) := dk_42 (dk_at dksX4_givesText_2 13 rfl rfl)
theorem dX4_givesText_62 : decode cX4_givesText 62 = .ok (.getfield 44, 3) := dk_180 0 44 (dk_at dksX4_givesText_2 14 rfl rfl)
theorem dX4_givesText_65 : decode cX4_givesText 65 = .ok (.iload_n 1, 1) := dk_27 (dk_at dksX4_givesText_2 17 rfl rfl)
theorem dX4_givesText_66 : decode cX4_givesText 66 = .ok (.iaload, 1) := dk_46 (dk_at dksX4_givesText_2 18 rfl rfl)
theorem dX4_givesText_67 : decode cX4_givesText 67 = .ok (.isub, 1) := dk_100 (dk_at dksX4_givesText_2 19 rfl rfl)
theorem dX4_givesText_68 : decode cX4_givesText 68 = .ok (.iaload, 1) := dk_46 (dk_at dksX4_givesText_2 20 rfl rfl)
theorem dX4_givesText_69 : decode cX4_givesText 69 = .ok (.iastore, 1) := dk_79 (dk_at dksX4_givesText_2 21 rfl rfl)
theorem dX4_givesText_70 : decode cX4_givesText 70 = .ok (.aload_n 0, 1) := dk_42 (dk_at dksX4_givesText_2 22 rfl rfl)
theorem dX4_givesText_71 : decode cX4_givesText 71 = .ok (.getfield 58, 3) := dk_180 0 58 (dk_at dksX4_givesText_3 0 rfl rfl)
theorem dX4_givesText_74 : decode cX4_givesText 74 = .ok (.iload_n 2, 1) := dk_28 (dk_at dksX4_givesText_3 3 rfl rfl)
theorem dX4_givesText_75 : decode cX4_givesText 75 = .ok (.iaload, 1) := dk_46 (dk_at dksX4_givesText_3 4 rfl rfl)
theorem dX4_givesText_76 : decode cX4_givesText 76 = .ok (.aload_n 0, 1) := dk_42 (dk_at dksX4_givesText_3 5 rfl rfl)
theorem dX4_givesText_77 : decode cX4_givesText 77 = .ok (.iload_n 2, 1) := dk_28 (dk_at dksX4_givesText_3 6 rfl rfl)
theorem dX4_givesText_78 : decode cX4_givesText 78 = .ok (.invokevirtual 89, 3) := dk_182 0 89 (dk_at dksX4_givesText_3 7 rfl rfl)
theorem dX4_givesText_81 : decode cX4_givesText 81 = .ok (.if_icmp .eq 5, 3) := dk_159 0 5 (dk_at dksX4_givesText_3 10 rfl rfl)
theorem dX4_givesText_84 : decode cX4_givesText 84 = .ok (.iconst 0, 1) := dk_3 (dk_at dksX4_givesText_3 13 rfl rfl)
theorem dX4_givesText_85 : decode cX4_givesText 85 = .ok (.ireturn, 1) := dk_172 (dk_at dksX4_givesText_3 14 rfl rfl)
theorem dX4_givesText_86 : decode cX4_givesText 86 = .ok (.iinc 2 1, 3) := dk_132 2 1 (dk_at dksX4_givesText_3 15 rfl rfl)
theorem dX4_givesText_89 : decode cX4_givesText 89 = .ok (.goto (-72), 3) := dk_167 255 184 (dk_at dksX4_givesText_3 18 rfl rfl)
theorem dX4_givesText_92 : decode cX4_givesText 92 = .ok (.iinc 1 1, 3) := dk_132 1 1 (dk_at dksX4_givesText_3 21 rfl rfl)
theorem dX4_givesText_95 : decode cX4_givesText 95 = .ok (.goto (-93), 3) := dk_167 255 163 (dk_at dksX4_givesText_4 0 rfl rfl)
theorem dX4_givesText_98 : decode cX4_givesText 98 = .ok (.aload_n 0, 1) := dk_42 (dk_at dksX4_givesText_4 3 rfl rfl)
theorem dX4_givesText_99 : decode cX4_givesText 99 = .ok (.invokevirtual 182, 3) := dk_182 0 182 (dk_at dksX4_givesText_4 4 rfl rfl)
theorem dX4_givesText_102 : decode cX4_givesText 102 = .ok (.aload_n 0, 1) := dk_42 (dk_at dksX4_givesText_4 7 rfl rfl)
theorem dX4_givesText_103 : decode cX4_givesText 103 = .ok (.invokevirtual 86, 3) := dk_182 0 86 (dk_at dksX4_givesText_4 8 rfl rfl)
theorem dX4_givesText_106 : decode cX4_givesText 106 = .ok (.if_icmp .ne 7, 3) := dk_160 0 7 (dk_at dksX4_givesText_4 11 rfl rfl)
theorem dX4_givesText_109 : decode cX4_givesText 109 = .ok (.iconst 1, 1) := dk_4 (dk_at dksX4_givesText_4 14 rfl rfl)
theorem dX4_givesText_110 : decode cX4_givesText 110 = .ok (.goto 4, 3) := dk_167 0 4 (dk_at dksX4_givesText_4 15 rfl rfl)
theorem dX4_givesText_113 : decode cX4_givesText 113 = .ok (.iconst 0, 1) := dk_3 (dk_at dksX4_givesText_4 18 rfl rfl)
theorem dX4_givesText_114 : decode cX4_givesText 114 = .ok (.ireturn, 1) := dk_172 (dk_at dksX4_givesText_4 19 rfl rfl)
abbrev cX4_ifLetter : ByteArray := prog_14_method_125_code
def yX4_ifLetter : MethodName := ⟨RX4, "ifLetter", "(II)I"⟩
def dkwX4_ifLetter_1 : List UInt8 := [28, 182, 1, 187, 167, 0, 4, 3, 172]
abbrev dktX4_ifLetter_1 : List UInt8 := dkwX4_ifLetter_1 ++ []
def dkwX4_ifLetter_0 : List UInt8 := [42, 42, 27, 182, 1, 127, 28, 3, 16, 25, 184, 0, 121, 182, 1, 92, 153, 0, 15, 42, 16, 43, 27, 96]
abbrev dktX4_ifLetter_0 : List UInt8 := dkwX4_ifLetter_0 ++ dktX4_ifLetter_1
theorem dksX4_ifLetter_0 : cX4_ifLetter.data.toList.drop 0 = dktX4_ifLetter_0 := by decide +kernel
theorem dksX4_ifLetter_1 : cX4_ifLetter.data.toList.drop 24 = dktX4_ifLetter_1 := dk_seg dksX4_ifLetter_0 24 rfl rfl
theorem dX4_ifLetter_0 : decode cX4_ifLetter 0 = .ok (.aload_n 0, 1) := dk_42 (dk_at dksX4_ifLetter_0 0 rfl rfl)
theorem dX4_ifLetter_1 : decode cX4_ifLetter 1 = .ok (.aload_n 0, 1) := dk_42 (dk_at dksX4_ifLetter_0 1 rfl rfl)
theorem dX4_ifLetter_2 : decode cX4_ifLetter 2 = .ok (.iload_n 1, 1) := dk_27 (dk_at dksX4_ifLetter_0 2 rfl rfl)
theorem dX4_ifLetter_3 : decode cX4_ifLetter 3 = .ok (.invokevirtual 383, 3) := dk_182 1 127 (dk_at dksX4_ifLetter_0 3 rfl rfl)
theorem dX4_ifLetter_6 : decode cX4_ifLetter 6 = .ok (.iload_n 2, 1) := dk_28 (dk_at dksX4_ifLetter_0 6 rfl rfl)
theorem dX4_ifLetter_7 : decode cX4_ifLetter 7 = .ok (.iconst 0, 1) := dk_3 (dk_at dksX4_ifLetter_0 7 rfl rfl)
theorem dX4_ifLetter_8 : decode cX4_ifLetter 8 = .ok (.bipush 25, 2) := dk_16 25 (dk_at dksX4_ifLetter_0 8 rfl rfl)
theorem dX4_ifLetter_10 : decode cX4_ifLetter 10 = .ok (.invokestatic 121, 3) := dk_184 0 121 (dk_at dksX4_ifLetter_0 10 rfl rfl)
theorem dX4_ifLetter_13 : decode cX4_ifLetter 13 = .ok (.invokevirtual 348, 3) := dk_182 1 92 (dk_at dksX4_ifLetter_0 13 rfl rfl)
theorem dX4_ifLetter_16 : decode cX4_ifLetter 16 = .ok (.ifCond .eq 15, 3) := dk_153 0 15 (dk_at dksX4_ifLetter_0 16 rfl rfl)
theorem dX4_ifLetter_19 : decode cX4_ifLetter 19 = .ok (.aload_n 0, 1) := dk_42 (dk_at dksX4_ifLetter_0 19 rfl rfl)
theorem dX4_ifLetter_20 : decode cX4_ifLetter 20 = .ok (.bipush 43, 2) := dk_16 43 (dk_at dksX4_ifLetter_0 20 rfl rfl)
theorem dX4_ifLetter_22 : decode cX4_ifLetter 22 = .ok (.iload_n 1, 1) := dk_27 (dk_at dksX4_ifLetter_0 22 rfl rfl)
theorem dX4_ifLetter_23 : decode cX4_ifLetter 23 = .ok (.iadd, 1) := dk_96 (dk_at dksX4_ifLetter_0 23 rfl rfl)
theorem dX4_ifLetter_24 : decode cX4_ifLetter 24 = .ok (.iload_n 2, 1) := dk_28 (dk_at dksX4_ifLetter_1 0 rfl rfl)
theorem dX4_ifLetter_25 : decode cX4_ifLetter 25 = .ok (.invokevirtual 443, 3) := dk_182 1 187 (dk_at dksX4_ifLetter_1 1 rfl rfl)
theorem dX4_ifLetter_28 : decode cX4_ifLetter 28 = .ok (.goto 4, 3) := dk_167 0 4 (dk_at dksX4_ifLetter_1 4 rfl rfl)
theorem dX4_ifLetter_31 : decode cX4_ifLetter 31 = .ok (.iconst 0, 1) := dk_3 (dk_at dksX4_ifLetter_1 7 rfl rfl)
theorem dX4_ifLetter_32 : decode cX4_ifLetter 32 = .ok (.ireturn, 1) := dk_172 (dk_at dksX4_ifLetter_1 8 rfl rfl)
abbrev cX4_bestWith : ByteArray := prog_14_method_124_code
def yX4_bestWith : MethodName := ⟨RX4, "bestWith", "(II)I"⟩
def dkwX4_bestWith_0 : List UInt8 := [42, 182, 1, 181, 42, 180, 0, 13, 27, 28, 79, 42, 42, 182, 0, 207, 182, 1, 184, 172]
abbrev dktX4_bestWith_0 : List UInt8 := dkwX4_bestWith_0 ++ []
theorem dksX4_bestWith_0 : cX4_bestWith.data.toList.drop 0 = dktX4_bestWith_0 := by decide +kernel
theorem dX4_bestWith_0 : decode cX4_bestWith 0 = .ok (.aload_n 0, 1) := dk_42 (dk_at dksX4_bestWith_0 0 rfl rfl)
theorem dX4_bestWith_1 : decode cX4_bestWith 1 = .ok (.invokevirtual 437, 3) := dk_182 1 181 (dk_at dksX4_bestWith_0 1 rfl rfl)
theorem dX4_bestWith_4 : decode cX4_bestWith 4 = .ok (.aload_n 0, 1) := dk_42 (dk_at dksX4_bestWith_0 4 rfl rfl)
theorem dX4_bestWith_5 : decode cX4_bestWith 5 = .ok (.getfield 13, 3) := dk_180 0 13 (dk_at dksX4_bestWith_0 5 rfl rfl)
theorem dX4_bestWith_8 : decode cX4_bestWith 8 = .ok (.iload_n 1, 1) := dk_27 (dk_at dksX4_bestWith_0 8 rfl rfl)
theorem dX4_bestWith_9 : decode cX4_bestWith 9 = .ok (.iload_n 2, 1) := dk_28 (dk_at dksX4_bestWith_0 9 rfl rfl)
theorem dX4_bestWith_10 : decode cX4_bestWith 10 = .ok (.iastore, 1) := dk_79 (dk_at dksX4_bestWith_0 10 rfl rfl)
theorem dX4_bestWith_11 : decode cX4_bestWith 11 = .ok (.aload_n 0, 1) := dk_42 (dk_at dksX4_bestWith_0 11 rfl rfl)
theorem dX4_bestWith_12 : decode cX4_bestWith 12 = .ok (.aload_n 0, 1) := dk_42 (dk_at dksX4_bestWith_0 12 rfl rfl)
theorem dX4_bestWith_13 : decode cX4_bestWith 13 = .ok (.invokevirtual 207, 3) := dk_182 0 207 (dk_at dksX4_bestWith_0 13 rfl rfl)
theorem dX4_bestWith_16 : decode cX4_bestWith 16 = .ok (.invokevirtual 440, 3) := dk_182 1 184 (dk_at dksX4_bestWith_0 16 rfl rfl)
theorem dX4_bestWith_19 : decode cX4_bestWith 19 = .ok (.ireturn, 1) := dk_172 (dk_at dksX4_bestWith_0 19 rfl rfl)
abbrev cX4_trial : ByteArray := prog_14_method_122_code
def yX4_trial : MethodName := ⟨RX4, "trial", "()V"⟩
def dkwX4_trial_0 : List UInt8 := [42, 180, 0, 13, 3, 42, 180, 0, 20, 3, 17, 0, 171, 184, 1, 78, 177]
abbrev dktX4_trial_0 : List UInt8 := dkwX4_trial_0 ++ []
theorem dksX4_trial_0 : cX4_trial.data.toList.drop 0 = dktX4_trial_0 := by decide +kernel
theorem dX4_trial_0 : decode cX4_trial 0 = .ok (.aload_n 0, 1) := dk_42 (dk_at dksX4_trial_0 0 rfl rfl)
theorem dX4_trial_1 : decode cX4_trial 1 = .ok (.getfield 13, 3) := dk_180 0 13 (dk_at dksX4_trial_0 1 rfl rfl)
theorem dX4_trial_4 : decode cX4_trial 4 = .ok (.iconst 0, 1) := dk_3 (dk_at dksX4_trial_0 4 rfl rfl)
theorem dX4_trial_5 : decode cX4_trial 5 = .ok (.aload_n 0, 1) := dk_42 (dk_at dksX4_trial_0 5 rfl rfl)
theorem dX4_trial_6 : decode cX4_trial 6 = .ok (.getfield 20, 3) := dk_180 0 20 (dk_at dksX4_trial_0 6 rfl rfl)
theorem dX4_trial_9 : decode cX4_trial 9 = .ok (.iconst 0, 1) := dk_3 (dk_at dksX4_trial_0 9 rfl rfl)
theorem dX4_trial_10 : decode cX4_trial 10 = .ok (.sipush 171, 3) := dk_17 0 171 (dk_at dksX4_trial_0 10 rfl rfl)
theorem dX4_trial_13 : decode cX4_trial 13 = .ok (.invokestatic 334, 3) := dk_184 1 78 (dk_at dksX4_trial_0 13 rfl rfl)
theorem dX4_trial_16 : decode cX4_trial 16 = .ok (.return_, 1) := dk_177 (dk_at dksX4_trial_0 16 rfl rfl)
abbrev cX4_back : ByteArray := prog_14_method_123_code
def yX4_back : MethodName := ⟨RX4, "back", "(I)I"⟩
def dkwX4_back_0 : List UInt8 := [42, 180, 0, 20, 3, 42, 180, 0, 13, 3, 17, 0, 171, 184, 1, 78, 27, 172]
abbrev dktX4_back_0 : List UInt8 := dkwX4_back_0 ++ []
theorem dksX4_back_0 : cX4_back.data.toList.drop 0 = dktX4_back_0 := by decide +kernel
theorem dX4_back_0 : decode cX4_back 0 = .ok (.aload_n 0, 1) := dk_42 (dk_at dksX4_back_0 0 rfl rfl)
theorem dX4_back_1 : decode cX4_back 1 = .ok (.getfield 20, 3) := dk_180 0 20 (dk_at dksX4_back_0 1 rfl rfl)
theorem dX4_back_4 : decode cX4_back 4 = .ok (.iconst 0, 1) := dk_3 (dk_at dksX4_back_0 4 rfl rfl)
theorem dX4_back_5 : decode cX4_back 5 = .ok (.aload_n 0, 1) := dk_42 (dk_at dksX4_back_0 5 rfl rfl)
theorem dX4_back_6 : decode cX4_back 6 = .ok (.getfield 13, 3) := dk_180 0 13 (dk_at dksX4_back_0 6 rfl rfl)
theorem dX4_back_9 : decode cX4_back 9 = .ok (.iconst 0, 1) := dk_3 (dk_at dksX4_back_0 9 rfl rfl)
theorem dX4_back_10 : decode cX4_back 10 = .ok (.sipush 171, 3) := dk_17 0 171 (dk_at dksX4_back_0 10 rfl rfl)
theorem dX4_back_13 : decode cX4_back 13 = .ok (.invokestatic 334, 3) := dk_184 1 78 (dk_at dksX4_back_0 13 rfl rfl)
theorem dX4_back_16 : decode cX4_back 16 = .ok (.iload_n 1, 1) := dk_27 (dk_at dksX4_back_0 16 rfl rfl)
theorem dX4_back_17 : decode cX4_back 17 = .ok (.ireturn, 1) := dk_172 (dk_at dksX4_back_0 17 rfl rfl)
abbrev cX4_pinCost : ByteArray := prog_14_method_127_code
def yX4_pinCost : MethodName := ⟨RX4, "pinCost", "(I)I"⟩
def dkwX4_pinCost_1 : List UInt8 := [3, 172]
abbrev dktX4_pinCost_1 : List UInt8 := dkwX4_pinCost_1 ++ []
def dkwX4_pinCost_0 : List UInt8 := [42, 42, 27, 182, 1, 127, 182, 1, 102, 153, 0, 15, 42, 27, 42, 182, 0, 207, 182, 1, 190, 167, 0, 4]
abbrev dktX4_pinCost_0 : List UInt8 := dkwX4_pinCost_0 ++ dktX4_pinCost_1
theorem dksX4_pinCost_0 : cX4_pinCost.data.toList.drop 0 = dktX4_pinCost_0 := by decide +kernel
theorem dksX4_pinCost_1 : cX4_pinCost.data.toList.drop 24 = dktX4_pinCost_1 := dk_seg dksX4_pinCost_0 24 rfl rfl
theorem dX4_pinCost_0 : decode cX4_pinCost 0 = .ok (.aload_n 0, 1) := dk_42 (dk_at dksX4_pinCost_0 0 rfl rfl)
theorem dX4_pinCost_1 : decode cX4_pinCost 1 = .ok (.aload_n 0, 1) := dk_42 (dk_at dksX4_pinCost_0 1 rfl rfl)
theorem dX4_pinCost_2 : decode cX4_pinCost 2 = .ok (.iload_n 1, 1) := dk_27 (dk_at dksX4_pinCost_0 2 rfl rfl)
theorem dX4_pinCost_3 : decode cX4_pinCost 3 = .ok (.invokevirtual 383, 3) := dk_182 1 127 (dk_at dksX4_pinCost_0 3 rfl rfl)
theorem dX4_pinCost_6 : decode cX4_pinCost 6 = .ok (.invokevirtual 358, 3) := dk_182 1 102 (dk_at dksX4_pinCost_0 6 rfl rfl)
theorem dX4_pinCost_9 : decode cX4_pinCost 9 = .ok (.ifCond .eq 15, 3) := dk_153 0 15 (dk_at dksX4_pinCost_0 9 rfl rfl)
theorem dX4_pinCost_12 : decode cX4_pinCost 12 = .ok (.aload_n 0, 1) := dk_42 (dk_at dksX4_pinCost_0 12 rfl rfl)
theorem dX4_pinCost_13 : decode cX4_pinCost 13 = .ok (.iload_n 1, 1) := dk_27 (dk_at dksX4_pinCost_0 13 rfl rfl)
theorem dX4_pinCost_14 : decode cX4_pinCost 14 = .ok (.aload_n 0, 1) := dk_42 (dk_at dksX4_pinCost_0 14 rfl rfl)
theorem dX4_pinCost_15 : decode cX4_pinCost 15 = .ok (.invokevirtual 207, 3) := dk_182 0 207 (dk_at dksX4_pinCost_0 15 rfl rfl)
theorem dX4_pinCost_18 : decode cX4_pinCost 18 = .ok (.invokevirtual 446, 3) := dk_182 1 190 (dk_at dksX4_pinCost_0 18 rfl rfl)
theorem dX4_pinCost_21 : decode cX4_pinCost 21 = .ok (.goto 4, 3) := dk_167 0 4 (dk_at dksX4_pinCost_0 21 rfl rfl)
theorem dX4_pinCost_24 : decode cX4_pinCost 24 = .ok (.iconst 0, 1) := dk_3 (dk_at dksX4_pinCost_1 0 rfl rfl)
theorem dX4_pinCost_25 : decode cX4_pinCost 25 = .ok (.ireturn, 1) := dk_172 (dk_at dksX4_pinCost_1 1 rfl rfl)
abbrev cX4_pinCostNow : ByteArray := prog_14_method_126_code
def yX4_pinCostNow : MethodName := ⟨RX4, "pinCostNow", "(II)I"⟩
def dkwX4_pinCostNow_0 : List UInt8 := [42, 16, 107, 27, 96, 4, 182, 1, 187, 28, 100, 172]
abbrev dktX4_pinCostNow_0 : List UInt8 := dkwX4_pinCostNow_0 ++ []
theorem dksX4_pinCostNow_0 : cX4_pinCostNow.data.toList.drop 0 = dktX4_pinCostNow_0 := by decide +kernel
theorem dX4_pinCostNow_0 : decode cX4_pinCostNow 0 = .ok (.aload_n 0, 1) := dk_42 (dk_at dksX4_pinCostNow_0 0 rfl rfl)
theorem dX4_pinCostNow_1 : decode cX4_pinCostNow 1 = .ok (.bipush 107, 2) := dk_16 107 (dk_at dksX4_pinCostNow_0 1 rfl rfl)
theorem dX4_pinCostNow_3 : decode cX4_pinCostNow 3 = .ok (.iload_n 1, 1) := dk_27 (dk_at dksX4_pinCostNow_0 3 rfl rfl)
theorem dX4_pinCostNow_4 : decode cX4_pinCostNow 4 = .ok (.iadd, 1) := dk_96 (dk_at dksX4_pinCostNow_0 4 rfl rfl)
theorem dX4_pinCostNow_5 : decode cX4_pinCostNow 5 = .ok (.iconst 1, 1) := dk_4 (dk_at dksX4_pinCostNow_0 5 rfl rfl)
theorem dX4_pinCostNow_6 : decode cX4_pinCostNow 6 = .ok (.invokevirtual 443, 3) := dk_182 1 187 (dk_at dksX4_pinCostNow_0 6 rfl rfl)
theorem dX4_pinCostNow_9 : decode cX4_pinCostNow 9 = .ok (.iload_n 2, 1) := dk_28 (dk_at dksX4_pinCostNow_0 9 rfl rfl)
theorem dX4_pinCostNow_10 : decode cX4_pinCostNow 10 = .ok (.isub, 1) := dk_100 (dk_at dksX4_pinCostNow_0 10 rfl rfl)
theorem dX4_pinCostNow_11 : decode cX4_pinCostNow 11 = .ok (.ireturn, 1) := dk_172 (dk_at dksX4_pinCostNow_0 11 rfl rfl)
abbrev cX4_costliestPin : ByteArray := prog_14_method_128_code
def yX4_costliestPin : MethodName := ⟨RX4, "costliestPin", "()I"⟩
def dkwX4_costliestPin_2 : List UInt8 := [21, 5, 62, 132, 4, 1, 167, 255, 220, 28, 172]
abbrev dktX4_costliestPin_2 : List UInt8 := dkwX4_costliestPin_2 ++ []
def dkwX4_costliestPin_1 : List UInt8 := [162, 0, 33, 42, 21, 4, 27, 182, 1, 190, 54, 5, 21, 5, 29, 163, 0, 6, 167, 0, 9, 21, 4, 61]
abbrev dktX4_costliestPin_1 : List UInt8 := dkwX4_costliestPin_1 ++ dktX4_costliestPin_2
def dkwX4_costliestPin_0 : List UInt8 := [42, 3, 181, 0, 1, 42, 182, 0, 207, 60, 2, 61, 2, 62, 3, 54, 4, 21, 4, 42, 182, 0, 86]
abbrev dktX4_costliestPin_0 : List UInt8 := dkwX4_costliestPin_0 ++ dktX4_costliestPin_1
theorem dksX4_costliestPin_0 : cX4_costliestPin.data.toList.drop 0 = dktX4_costliestPin_0 := by decide +kernel
theorem dksX4_costliestPin_1 : cX4_costliestPin.data.toList.drop 23 = dktX4_costliestPin_1 := dk_seg dksX4_costliestPin_0 23 rfl rfl
theorem dksX4_costliestPin_2 : cX4_costliestPin.data.toList.drop 47 = dktX4_costliestPin_2 := dk_seg dksX4_costliestPin_1 24 rfl rfl
theorem dX4_costliestPin_0 : decode cX4_costliestPin 0 = .ok (.aload_n 0, 1) := dk_42 (dk_at dksX4_costliestPin_0 0 rfl rfl)
theorem dX4_costliestPin_1 : decode cX4_costliestPin 1 = .ok (.iconst 0, 1) := dk_3 (dk_at dksX4_costliestPin_0 1 rfl rfl)
theorem dX4_costliestPin_2 : decode cX4_costliestPin 2 = .ok (.putfield 1, 3) := dk_181 0 1 (dk_at dksX4_costliestPin_0 2 rfl rfl)
theorem dX4_costliestPin_5 : decode cX4_costliestPin 5 = .ok (.aload_n 0, 1) := dk_42 (dk_at dksX4_costliestPin_0 5 rfl rfl)
theorem dX4_costliestPin_6 : decode cX4_costliestPin 6 = .ok (.invokevirtual 207, 3) := dk_182 0 207 (dk_at dksX4_costliestPin_0 6 rfl rfl)
theorem dX4_costliestPin_9 : decode cX4_costliestPin 9 = .ok (.istore_n 1, 1) := dk_60 (dk_at dksX4_costliestPin_0 9 rfl rfl)
theorem dX4_costliestPin_10 : decode cX4_costliestPin 10 = .ok (.iconst (-1), 1) := dk_2 (dk_at dksX4_costliestPin_0 10 rfl rfl)
theorem dX4_costliestPin_11 : decode cX4_costliestPin 11 = .ok (.istore_n 2, 1) := dk_61 (dk_at dksX4_costliestPin_0 11 rfl rfl)
theorem dX4_costliestPin_12 : decode cX4_costliestPin 12 = .ok (.iconst (-1), 1) := dk_2 (dk_at dksX4_costliestPin_0 12 rfl rfl)
theorem dX4_costliestPin_13 : decode cX4_costliestPin 13 = .ok (.istore_n 3, 1) := dk_62 (dk_at dksX4_costliestPin_0 13 rfl rfl)
theorem dX4_costliestPin_14 : decode cX4_costliestPin 14 = .ok (.iconst 0, 1) := dk_3 (dk_at dksX4_costliestPin_0 14 rfl rfl)
theorem dX4_costliestPin_15 : decode cX4_costliestPin 15 = .ok (.istore 4, 2) := dk_54 4 (dk_at dksX4_costliestPin_0 15 rfl rfl)
theorem dX4_costliestPin_17 : decode cX4_costliestPin 17 = .ok (.iload 4, 2) := dk_21 4 (dk_at dksX4_costliestPin_0 17 rfl rfl)
theorem dX4_costliestPin_19 : decode cX4_costliestPin 19 = .ok (.aload_n 0, 1) := dk_42 (dk_at dksX4_costliestPin_0 19 rfl rfl)
theorem dX4_costliestPin_20 : decode cX4_costliestPin 20 = .ok (.invokevirtual 86, 3) := dk_182 0 86 (dk_at dksX4_costliestPin_0 20 rfl rfl)
theorem dX4_costliestPin_23 : decode cX4_costliestPin 23 = .ok (.if_icmp .ge 33, 3) := dk_162 0 33 (dk_at dksX4_costliestPin_1 0 rfl rfl)
theorem dX4_costliestPin_26 : decode cX4_costliestPin 26 = .ok (.aload_n 0, 1) := dk_42 (dk_at dksX4_costliestPin_1 3 rfl rfl)
theorem dX4_costliestPin_27 : decode cX4_costliestPin 27 = .ok (.iload 4, 2) := dk_21 4 (dk_at dksX4_costliestPin_1 4 rfl rfl)
theorem dX4_costliestPin_29 : decode cX4_costliestPin 29 = .ok (.iload_n 1, 1) := dk_27 (dk_at dksX4_costliestPin_1 6 rfl rfl)
theorem dX4_costliestPin_30 : decode cX4_costliestPin 30 = .ok (.invokevirtual 446, 3) := dk_182 1 190 (dk_at dksX4_costliestPin_1 7 rfl rfl)
theorem dX4_costliestPin_33 : decode cX4_costliestPin 33 = .ok (.istore 5, 2) := dk_54 5 (dk_at dksX4_costliestPin_1 10 rfl rfl)
theorem dX4_costliestPin_35 : decode cX4_costliestPin 35 = .ok (.iload 5, 2) := dk_21 5 (dk_at dksX4_costliestPin_1 12 rfl rfl)
theorem dX4_costliestPin_37 : decode cX4_costliestPin 37 = .ok (.iload_n 3, 1) := dk_29 (dk_at dksX4_costliestPin_1 14 rfl rfl)
theorem dX4_costliestPin_38 : decode cX4_costliestPin 38 = .ok (.if_icmp .gt 6, 3) := dk_163 0 6 (dk_at dksX4_costliestPin_1 15 rfl rfl)
theorem dX4_costliestPin_41 : decode cX4_costliestPin 41 = .ok (.goto 9, 3) := dk_167 0 9 (dk_at dksX4_costliestPin_1 18 rfl rfl)
theorem dX4_costliestPin_44 : decode cX4_costliestPin 44 = .ok (.iload 4, 2) := dk_21 4 (dk_at dksX4_costliestPin_1 21 rfl rfl)
theorem dX4_costliestPin_46 : decode cX4_costliestPin 46 = .ok (.istore_n 2, 1) := dk_61 (dk_at dksX4_costliestPin_1 23 rfl rfl)
theorem dX4_costliestPin_47 : decode cX4_costliestPin 47 = .ok (.iload 5, 2) := dk_21 5 (dk_at dksX4_costliestPin_2 0 rfl rfl)
theorem dX4_costliestPin_49 : decode cX4_costliestPin 49 = .ok (.istore_n 3, 1) := dk_62 (dk_at dksX4_costliestPin_2 2 rfl rfl)
theorem dX4_costliestPin_50 : decode cX4_costliestPin 50 = .ok (.iinc 4 1, 3) := dk_132 4 1 (dk_at dksX4_costliestPin_2 3 rfl rfl)
theorem dX4_costliestPin_53 : decode cX4_costliestPin 53 = .ok (.goto (-36), 3) := dk_167 255 220 (dk_at dksX4_costliestPin_2 6 rfl rfl)
theorem dX4_costliestPin_56 : decode cX4_costliestPin 56 = .ok (.iload_n 2, 1) := dk_28 (dk_at dksX4_costliestPin_2 9 rfl rfl)
theorem dX4_costliestPin_57 : decode cX4_costliestPin 57 = .ok (.ireturn, 1) := dk_172 (dk_at dksX4_costliestPin_2 10 rfl rfl)
abbrev cX4_enough : ByteArray := prog_14_method_129_code
def yX4_enough : MethodName := ⟨RX4, "enough", "(I)I"⟩
def dkwX4_enough_4 : List UInt8 := [21, 5, 4, 96, 54, 5, 167, 255, 225, 21, 5, 172]
abbrev dktX4_enough_4 : List UInt8 := dkwX4_enough_4 ++ []
def dkwX4_enough_3 : List UInt8 := [27, 96, 21, 5, 182, 1, 187, 21, 4, 159, 0, 23, 28, 153, 0, 10, 21, 5, 4, 100, 167, 0, 7]
abbrev dktX4_enough_3 : List UInt8 := dkwX4_enough_3 ++ dktX4_enough_4
def dkwX4_enough_2 : List UInt8 := [182, 1, 187, 54, 4, 28, 153, 0, 10, 27, 184, 1, 40, 167, 0, 7, 27, 184, 1, 37, 54, 5, 42, 4]
abbrev dktX4_enough_2 : List UInt8 := dkwX4_enough_2 ++ dktX4_enough_3
def dkwX4_enough_1 : List UInt8 := [3, 61, 28, 153, 0, 10, 27, 184, 1, 37, 167, 0, 7, 27, 184, 1, 40, 62, 42, 4, 27, 96, 29]
abbrev dktX4_enough_1 : List UInt8 := dkwX4_enough_1 ++ dktX4_enough_2
def dkwX4_enough_0 : List UInt8 := [42, 27, 3, 6, 184, 0, 121, 182, 1, 102, 154, 0, 5, 3, 172, 27, 5, 160, 0, 7, 4, 167, 0, 4]
abbrev dktX4_enough_0 : List UInt8 := dkwX4_enough_0 ++ dktX4_enough_1
theorem dksX4_enough_0 : cX4_enough.data.toList.drop 0 = dktX4_enough_0 := by decide +kernel
theorem dksX4_enough_1 : cX4_enough.data.toList.drop 24 = dktX4_enough_1 := dk_seg dksX4_enough_0 24 rfl rfl
theorem dksX4_enough_2 : cX4_enough.data.toList.drop 47 = dktX4_enough_2 := dk_seg dksX4_enough_1 23 rfl rfl
theorem dksX4_enough_3 : cX4_enough.data.toList.drop 71 = dktX4_enough_3 := dk_seg dksX4_enough_2 24 rfl rfl
theorem dksX4_enough_4 : cX4_enough.data.toList.drop 94 = dktX4_enough_4 := dk_seg dksX4_enough_3 23 rfl rfl
theorem dX4_enough_0 : decode cX4_enough 0 = .ok (.aload_n 0, 1) := dk_42 (dk_at dksX4_enough_0 0 rfl rfl)
theorem dX4_enough_1 : decode cX4_enough 1 = .ok (.iload_n 1, 1) := dk_27 (dk_at dksX4_enough_0 1 rfl rfl)
theorem dX4_enough_2 : decode cX4_enough 2 = .ok (.iconst 0, 1) := dk_3 (dk_at dksX4_enough_0 2 rfl rfl)
theorem dX4_enough_3 : decode cX4_enough 3 = .ok (.iconst 3, 1) := dk_6 (dk_at dksX4_enough_0 3 rfl rfl)
theorem dX4_enough_4 : decode cX4_enough 4 = .ok (.invokestatic 121, 3) := dk_184 0 121 (dk_at dksX4_enough_0 4 rfl rfl)
theorem dX4_enough_7 : decode cX4_enough 7 = .ok (.invokevirtual 358, 3) := dk_182 1 102 (dk_at dksX4_enough_0 7 rfl rfl)
theorem dX4_enough_10 : decode cX4_enough 10 = .ok (.ifCond .ne 5, 3) := dk_154 0 5 (dk_at dksX4_enough_0 10 rfl rfl)
theorem dX4_enough_13 : decode cX4_enough 13 = .ok (.iconst 0, 1) := dk_3 (dk_at dksX4_enough_0 13 rfl rfl)
theorem dX4_enough_14 : decode cX4_enough 14 = .ok (.ireturn, 1) := dk_172 (dk_at dksX4_enough_0 14 rfl rfl)
theorem dX4_enough_15 : decode cX4_enough 15 = .ok (.iload_n 1, 1) := dk_27 (dk_at dksX4_enough_0 15 rfl rfl)
theorem dX4_enough_16 : decode cX4_enough 16 = .ok (.iconst 2, 1) := dk_5 (dk_at dksX4_enough_0 16 rfl rfl)
theorem dX4_enough_17 : decode cX4_enough 17 = .ok (.if_icmp .ne 7, 3) := dk_160 0 7 (dk_at dksX4_enough_0 17 rfl rfl)
theorem dX4_enough_20 : decode cX4_enough 20 = .ok (.iconst 1, 1) := dk_4 (dk_at dksX4_enough_0 20 rfl rfl)
theorem dX4_enough_21 : decode cX4_enough 21 = .ok (.goto 4, 3) := dk_167 0 4 (dk_at dksX4_enough_0 21 rfl rfl)
theorem dX4_enough_24 : decode cX4_enough 24 = .ok (.iconst 0, 1) := dk_3 (dk_at dksX4_enough_1 0 rfl rfl)
theorem dX4_enough_25 : decode cX4_enough 25 = .ok (.istore_n 2, 1) := dk_61 (dk_at dksX4_enough_1 1 rfl rfl)
theorem dX4_enough_26 : decode cX4_enough 26 = .ok (.iload_n 2, 1) := dk_28 (dk_at dksX4_enough_1 2 rfl rfl)
theorem dX4_enough_27 : decode cX4_enough 27 = .ok (.ifCond .eq 10, 3) := dk_153 0 10 (dk_at dksX4_enough_1 3 rfl rfl)
theorem dX4_enough_30 : decode cX4_enough 30 = .ok (.iload_n 1, 1) := dk_27 (dk_at dksX4_enough_1 6 rfl rfl)
theorem dX4_enough_31 : decode cX4_enough 31 = .ok (.invokestatic 293, 3) := dk_184 1 37 (dk_at dksX4_enough_1 7 rfl rfl)
theorem dX4_enough_34 : decode cX4_enough 34 = .ok (.goto 7, 3) := dk_167 0 7 (dk_at dksX4_enough_1 10 rfl rfl)
theorem dX4_enough_37 : decode cX4_enough 37 = .ok (.iload_n 1, 1) := dk_27 (dk_at dksX4_enough_1 13 rfl rfl)
theorem dX4_enough_38 : decode cX4_enough 38 = .ok (.invokestatic 296, 3) := dk_184 1 40 (dk_at dksX4_enough_1 14 rfl rfl)
theorem dX4_enough_41 : decode cX4_enough 41 = .ok (.istore_n 3, 1) := dk_62 (dk_at dksX4_enough_1 17 rfl rfl)
theorem dX4_enough_42 : decode cX4_enough 42 = .ok (.aload_n 0, 1) := dk_42 (dk_at dksX4_enough_1 18 rfl rfl)
theorem dX4_enough_43 : decode cX4_enough 43 = .ok (.iconst 1, 1) := dk_4 (dk_at dksX4_enough_1 19 rfl rfl)
theorem dX4_enough_44 : decode cX4_enough 44 = .ok (.iload_n 1, 1) := dk_27 (dk_at dksX4_enough_1 20 rfl rfl)
theorem dX4_enough_45 : decode cX4_enough 45 = .ok (.iadd, 1) := dk_96 (dk_at dksX4_enough_1 21 rfl rfl)
theorem dX4_enough_46 : decode cX4_enough 46 = .ok (.iload_n 3, 1) := dk_29 (dk_at dksX4_enough_1 22 rfl rfl)
theorem dX4_enough_47 : decode cX4_enough 47 = .ok (.invokevirtual 443, 3) := dk_182 1 187 (dk_at dksX4_enough_2 0 rfl rfl)
theorem dX4_enough_50 : decode cX4_enough 50 = .ok (.istore 4, 2) := dk_54 4 (dk_at dksX4_enough_2 3 rfl rfl)
theorem dX4_enough_52 : decode cX4_enough 52 = .ok (.iload_n 2, 1) := dk_28 (dk_at dksX4_enough_2 5 rfl rfl)
theorem dX4_enough_53 : decode cX4_enough 53 = .ok (.ifCond .eq 10, 3) := dk_153 0 10 (dk_at dksX4_enough_2 6 rfl rfl)
theorem dX4_enough_56 : decode cX4_enough 56 = .ok (.iload_n 1, 1) := dk_27 (dk_at dksX4_enough_2 9 rfl rfl)
theorem dX4_enough_57 : decode cX4_enough 57 = .ok (.invokestatic 296, 3) := dk_184 1 40 (dk_at dksX4_enough_2 10 rfl rfl)
theorem dX4_enough_60 : decode cX4_enough 60 = .ok (.goto 7, 3) := dk_167 0 7 (dk_at dksX4_enough_2 13 rfl rfl)
theorem dX4_enough_63 : decode cX4_enough 63 = .ok (.iload_n 1, 1) := dk_27 (dk_at dksX4_enough_2 16 rfl rfl)
theorem dX4_enough_64 : decode cX4_enough 64 = .ok (.invokestatic 293, 3) := dk_184 1 37 (dk_at dksX4_enough_2 17 rfl rfl)
theorem dX4_enough_67 : decode cX4_enough 67 = .ok (.istore 5, 2) := dk_54 5 (dk_at dksX4_enough_2 20 rfl rfl)
theorem dX4_enough_69 : decode cX4_enough 69 = .ok (.aload_n 0, 1) := dk_42 (dk_at dksX4_enough_2 22 rfl rfl)
theorem dX4_enough_70 : decode cX4_enough 70 = .ok (.iconst 1, 1) := dk_4 (dk_at dksX4_enough_2 23 rfl rfl)
theorem dX4_enough_71 : decode cX4_enough 71 = .ok (.iload_n 1, 1) := dk_27 (dk_at dksX4_enough_3 0 rfl rfl)
theorem dX4_enough_72 : decode cX4_enough 72 = .ok (.iadd, 1) := dk_96 (dk_at dksX4_enough_3 1 rfl rfl)
theorem dX4_enough_73 : decode cX4_enough 73 = .ok (.iload 5, 2) := dk_21 5 (dk_at dksX4_enough_3 2 rfl rfl)
theorem dX4_enough_75 : decode cX4_enough 75 = .ok (.invokevirtual 443, 3) := dk_182 1 187 (dk_at dksX4_enough_3 4 rfl rfl)
theorem dX4_enough_78 : decode cX4_enough 78 = .ok (.iload 4, 2) := dk_21 4 (dk_at dksX4_enough_3 7 rfl rfl)
theorem dX4_enough_80 : decode cX4_enough 80 = .ok (.if_icmp .eq 23, 3) := dk_159 0 23 (dk_at dksX4_enough_3 9 rfl rfl)
theorem dX4_enough_83 : decode cX4_enough 83 = .ok (.iload_n 2, 1) := dk_28 (dk_at dksX4_enough_3 12 rfl rfl)
theorem dX4_enough_84 : decode cX4_enough 84 = .ok (.ifCond .eq 10, 3) := dk_153 0 10 (dk_at dksX4_enough_3 13 rfl rfl)
theorem dX4_enough_87 : decode cX4_enough 87 = .ok (.iload 5, 2) := dk_21 5 (dk_at dksX4_enough_3 16 rfl rfl)
theorem dX4_enough_89 : decode cX4_enough 89 = .ok (.iconst 1, 1) := dk_4 (dk_at dksX4_enough_3 18 rfl rfl)
theorem dX4_enough_90 : decode cX4_enough 90 = .ok (.isub, 1) := dk_100 (dk_at dksX4_enough_3 19 rfl rfl)
theorem dX4_enough_91 : decode cX4_enough 91 = .ok (.goto 7, 3) := dk_167 0 7 (dk_at dksX4_enough_3 20 rfl rfl)
theorem dX4_enough_94 : decode cX4_enough 94 = .ok (.iload 5, 2) := dk_21 5 (dk_at dksX4_enough_4 0 rfl rfl)
theorem dX4_enough_96 : decode cX4_enough 96 = .ok (.iconst 1, 1) := dk_4 (dk_at dksX4_enough_4 2 rfl rfl)
theorem dX4_enough_97 : decode cX4_enough 97 = .ok (.iadd, 1) := dk_96 (dk_at dksX4_enough_4 3 rfl rfl)
theorem dX4_enough_98 : decode cX4_enough 98 = .ok (.istore 5, 2) := dk_54 5 (dk_at dksX4_enough_4 4 rfl rfl)
theorem dX4_enough_100 : decode cX4_enough 100 = .ok (.goto (-31), 3) := dk_167 255 225 (dk_at dksX4_enough_4 6 rfl rfl)
theorem dX4_enough_103 : decode cX4_enough 103 = .ok (.iload 5, 2) := dk_21 5 (dk_at dksX4_enough_4 9 rfl rfl)
theorem dX4_enough_105 : decode cX4_enough 105 = .ok (.ireturn, 1) := dk_172 (dk_at dksX4_enough_4 11 rfl rfl)
abbrev cX4_bestWait : ByteArray := prog_14_method_131_code
def yX4_bestWait : MethodName := ⟨RX4, "bestWait", "()I"⟩
def dkwX4_bestWait_2 : List UInt8 := [167, 255, 224, 27, 172]
abbrev dktX4_bestWait_2 : List UInt8 := dkwX4_bestWait_2 ++ []
def dkwX4_bestWait_1 : List UInt8 := [29, 182, 1, 193, 54, 4, 21, 4, 28, 161, 0, 6, 167, 0, 8, 29, 60, 21, 4, 61, 132, 3, 1]
abbrev dktX4_bestWait_1 : List UInt8 := dkwX4_bestWait_1 ++ dktX4_bestWait_2
def dkwX4_bestWait_0 : List UInt8 := [42, 3, 181, 0, 1, 4, 60, 42, 4, 182, 1, 193, 61, 5, 62, 29, 7, 184, 1, 40, 163, 0, 30, 42]
abbrev dktX4_bestWait_0 : List UInt8 := dkwX4_bestWait_0 ++ dktX4_bestWait_1
theorem dksX4_bestWait_0 : cX4_bestWait.data.toList.drop 0 = dktX4_bestWait_0 := by decide +kernel
theorem dksX4_bestWait_1 : cX4_bestWait.data.toList.drop 24 = dktX4_bestWait_1 := dk_seg dksX4_bestWait_0 24 rfl rfl
theorem dksX4_bestWait_2 : cX4_bestWait.data.toList.drop 47 = dktX4_bestWait_2 := dk_seg dksX4_bestWait_1 23 rfl rfl
theorem dX4_bestWait_0 : decode cX4_bestWait 0 = .ok (.aload_n 0, 1) := dk_42 (dk_at dksX4_bestWait_0 0 rfl rfl)
theorem dX4_bestWait_1 : decode cX4_bestWait 1 = .ok (.iconst 0, 1) := dk_3 (dk_at dksX4_bestWait_0 1 rfl rfl)
theorem dX4_bestWait_2 : decode cX4_bestWait 2 = .ok (.putfield 1, 3) := dk_181 0 1 (dk_at dksX4_bestWait_0 2 rfl rfl)
theorem dX4_bestWait_5 : decode cX4_bestWait 5 = .ok (.iconst 1, 1) := dk_4 (dk_at dksX4_bestWait_0 5 rfl rfl)
theorem dX4_bestWait_6 : decode cX4_bestWait 6 = .ok (.istore_n 1, 1) := dk_60 (dk_at dksX4_bestWait_0 6 rfl rfl)
theorem dX4_bestWait_7 : decode cX4_bestWait 7 = .ok (.aload_n 0, 1) := dk_42 (dk_at dksX4_bestWait_0 7 rfl rfl)
theorem dX4_bestWait_8 : decode cX4_bestWait 8 = .ok (.iconst 1, 1) := dk_4 (dk_at dksX4_bestWait_0 8 rfl rfl)
theorem dX4_bestWait_9 : decode cX4_bestWait 9 = .ok (.invokevirtual 449, 3) := dk_182 1 193 (dk_at dksX4_bestWait_0 9 rfl rfl)
theorem dX4_bestWait_12 : decode cX4_bestWait 12 = .ok (.istore_n 2, 1) := dk_61 (dk_at dksX4_bestWait_0 12 rfl rfl)
theorem dX4_bestWait_13 : decode cX4_bestWait 13 = .ok (.iconst 2, 1) := dk_5 (dk_at dksX4_bestWait_0 13 rfl rfl)
theorem dX4_bestWait_14 : decode cX4_bestWait 14 = .ok (.istore_n 3, 1) := dk_62 (dk_at dksX4_bestWait_0 14 rfl rfl)
theorem dX4_bestWait_15 : decode cX4_bestWait 15 = .ok (.iload_n 3, 1) := dk_29 (dk_at dksX4_bestWait_0 15 rfl rfl)
theorem dX4_bestWait_16 : decode cX4_bestWait 16 = .ok (.iconst 4, 1) := dk_7 (dk_at dksX4_bestWait_0 16 rfl rfl)
theorem dX4_bestWait_17 : decode cX4_bestWait 17 = .ok (.invokestatic 296, 3) := dk_184 1 40 (dk_at dksX4_bestWait_0 17 rfl rfl)
theorem dX4_bestWait_20 : decode cX4_bestWait 20 = .ok (.if_icmp .gt 30, 3) := dk_163 0 30 (dk_at dksX4_bestWait_0 20 rfl rfl)
theorem dX4_bestWait_23 : decode cX4_bestWait 23 = .ok (.aload_n 0, 1) := dk_42 (dk_at dksX4_bestWait_0 23 rfl rfl)
theorem dX4_bestWait_24 : decode cX4_bestWait 24 = .ok (.iload_n 3, 1) := dk_29 (dk_at dksX4_bestWait_1 0 rfl rfl)
theorem dX4_bestWait_25 : decode cX4_bestWait 25 = .ok (.invokevirtual 449, 3) := dk_182 1 193 (dk_at dksX4_bestWait_1 1 rfl rfl)
theorem dX4_bestWait_28 : decode cX4_bestWait 28 = .ok (.istore 4, 2) := dk_54 4 (dk_at dksX4_bestWait_1 4 rfl rfl)
theorem dX4_bestWait_30 : decode cX4_bestWait 30 = .ok (.iload 4, 2) := dk_21 4 (dk_at dksX4_bestWait_1 6 rfl rfl)
theorem dX4_bestWait_32 : decode cX4_bestWait 32 = .ok (.iload_n 2, 1) := dk_28 (dk_at dksX4_bestWait_1 8 rfl rfl)
theorem dX4_bestWait_33 : decode cX4_bestWait 33 = .ok (.if_icmp .lt 6, 3) := dk_161 0 6 (dk_at dksX4_bestWait_1 9 rfl rfl)
theorem dX4_bestWait_36 : decode cX4_bestWait 36 = .ok (.goto 8, 3) := dk_167 0 8 (dk_at dksX4_bestWait_1 12 rfl rfl)
theorem dX4_bestWait_39 : decode cX4_bestWait 39 = .ok (.iload_n 3, 1) := dk_29 (dk_at dksX4_bestWait_1 15 rfl rfl)
theorem dX4_bestWait_40 : decode cX4_bestWait 40 = .ok (.istore_n 1, 1) := dk_60 (dk_at dksX4_bestWait_1 16 rfl rfl)
theorem dX4_bestWait_41 : decode cX4_bestWait 41 = .ok (.iload 4, 2) := dk_21 4 (dk_at dksX4_bestWait_1 17 rfl rfl)
theorem dX4_bestWait_43 : decode cX4_bestWait 43 = .ok (.istore_n 2, 1) := dk_61 (dk_at dksX4_bestWait_1 19 rfl rfl)
theorem dX4_bestWait_44 : decode cX4_bestWait 44 = .ok (.iinc 3 1, 3) := dk_132 3 1 (dk_at dksX4_bestWait_1 20 rfl rfl)
theorem dX4_bestWait_47 : decode cX4_bestWait 47 = .ok (.goto (-32), 3) := dk_167 255 224 (dk_at dksX4_bestWait_2 0 rfl rfl)
theorem dX4_bestWait_50 : decode cX4_bestWait 50 = .ok (.iload_n 1, 1) := dk_27 (dk_at dksX4_bestWait_2 3 rfl rfl)
theorem dX4_bestWait_51 : decode cX4_bestWait 51 = .ok (.ireturn, 1) := dk_172 (dk_at dksX4_bestWait_2 4 rfl rfl)
abbrev cX4_waitingWith : ByteArray := prog_14_method_130_code
def yX4_waitingWith : MethodName := ⟨RX4, "waitingWith", "(I)I"⟩
def dkwX4_waitingWith_0 : List UInt8 := [42, 182, 1, 181, 42, 180, 0, 13, 8, 27, 79, 42, 42, 5, 182, 1, 175, 182, 1, 184, 172]
abbrev dktX4_waitingWith_0 : List UInt8 := dkwX4_waitingWith_0 ++ []
theorem dksX4_waitingWith_0 : cX4_waitingWith.data.toList.drop 0 = dktX4_waitingWith_0 := by decide +kernel
theorem dX4_waitingWith_0 : decode cX4_waitingWith 0 = .ok (.aload_n 0, 1) := dk_42 (dk_at dksX4_waitingWith_0 0 rfl rfl)
theorem dX4_waitingWith_1 : decode cX4_waitingWith 1 = .ok (.invokevirtual 437, 3) := dk_182 1 181 (dk_at dksX4_waitingWith_0 1 rfl rfl)
theorem dX4_waitingWith_4 : decode cX4_waitingWith 4 = .ok (.aload_n 0, 1) := dk_42 (dk_at dksX4_waitingWith_0 4 rfl rfl)
theorem dX4_waitingWith_5 : decode cX4_waitingWith 5 = .ok (.getfield 13, 3) := dk_180 0 13 (dk_at dksX4_waitingWith_0 5 rfl rfl)
theorem dX4_waitingWith_8 : decode cX4_waitingWith 8 = .ok (.iconst 5, 1) := dk_8 (dk_at dksX4_waitingWith_0 8 rfl rfl)
theorem dX4_waitingWith_9 : decode cX4_waitingWith 9 = .ok (.iload_n 1, 1) := dk_27 (dk_at dksX4_waitingWith_0 9 rfl rfl)
theorem dX4_waitingWith_10 : decode cX4_waitingWith 10 = .ok (.iastore, 1) := dk_79 (dk_at dksX4_waitingWith_0 10 rfl rfl)
theorem dX4_waitingWith_11 : decode cX4_waitingWith 11 = .ok (.aload_n 0, 1) := dk_42 (dk_at dksX4_waitingWith_0 11 rfl rfl)
theorem dX4_waitingWith_12 : decode cX4_waitingWith 12 = .ok (.aload_n 0, 1) := dk_42 (dk_at dksX4_waitingWith_0 12 rfl rfl)
theorem dX4_waitingWith_13 : decode cX4_waitingWith 13 = .ok (.iconst 2, 1) := dk_5 (dk_at dksX4_waitingWith_0 13 rfl rfl)
theorem dX4_waitingWith_14 : decode cX4_waitingWith 14 = .ok (.invokevirtual 431, 3) := dk_182 1 175 (dk_at dksX4_waitingWith_0 14 rfl rfl)
theorem dX4_waitingWith_17 : decode cX4_waitingWith 17 = .ok (.invokevirtual 440, 3) := dk_182 1 184 (dk_at dksX4_waitingWith_0 17 rfl rfl)
theorem dX4_waitingWith_20 : decode cX4_waitingWith 20 = .ok (.ireturn, 1) := dk_172 (dk_at dksX4_waitingWith_0 20 rfl rfl)
abbrev cX4_bestShare : ByteArray := prog_14_method_132_code
def yX4_bestShare : MethodName := ⟨RX4, "bestShare", "()F"⟩
def dkwX4_bestShare_1 : List UInt8 := [134, 27, 134, 110, 174]
abbrev dktX4_bestShare_1 : List UInt8 := dkwX4_bestShare_1 ++ []
def dkwX4_bestShare_0 : List UInt8 := [42, 3, 181, 0, 1, 42, 3, 182, 1, 175, 60, 27, 154, 0, 7, 12, 167, 0, 12, 42, 6, 182, 1, 175]
abbrev dktX4_bestShare_0 : List UInt8 := dkwX4_bestShare_0 ++ dktX4_bestShare_1
theorem dksX4_bestShare_0 : cX4_bestShare.data.toList.drop 0 = dktX4_bestShare_0 := by decide +kernel
theorem dksX4_bestShare_1 : cX4_bestShare.data.toList.drop 24 = dktX4_bestShare_1 := dk_seg dksX4_bestShare_0 24 rfl rfl
theorem dX4_bestShare_0 : decode cX4_bestShare 0 = .ok (.aload_n 0, 1) := dk_42 (dk_at dksX4_bestShare_0 0 rfl rfl)
theorem dX4_bestShare_1 : decode cX4_bestShare 1 = .ok (.iconst 0, 1) := dk_3 (dk_at dksX4_bestShare_0 1 rfl rfl)
theorem dX4_bestShare_2 : decode cX4_bestShare 2 = .ok (.putfield 1, 3) := dk_181 0 1 (dk_at dksX4_bestShare_0 2 rfl rfl)
theorem dX4_bestShare_5 : decode cX4_bestShare 5 = .ok (.aload_n 0, 1) := dk_42 (dk_at dksX4_bestShare_0 5 rfl rfl)
theorem dX4_bestShare_6 : decode cX4_bestShare 6 = .ok (.iconst 0, 1) := dk_3 (dk_at dksX4_bestShare_0 6 rfl rfl)
theorem dX4_bestShare_7 : decode cX4_bestShare 7 = .ok (.invokevirtual 431, 3) := dk_182 1 175 (dk_at dksX4_bestShare_0 7 rfl rfl)
theorem dX4_bestShare_10 : decode cX4_bestShare 10 = .ok (.istore_n 1, 1) := dk_60 (dk_at dksX4_bestShare_0 10 rfl rfl)
theorem dX4_bestShare_11 : decode cX4_bestShare 11 = .ok (.iload_n 1, 1) := dk_27 (dk_at dksX4_bestShare_0 11 rfl rfl)
theorem dX4_bestShare_12 : decode cX4_bestShare 12 = .ok (.ifCond .ne 7, 3) := dk_154 0 7 (dk_at dksX4_bestShare_0 12 rfl rfl)
theorem dX4_bestShare_15 : decode cX4_bestShare 15 = .ok (.fconst 1, 1) := dk_12 (dk_at dksX4_bestShare_0 15 rfl rfl)
theorem dX4_bestShare_16 : decode cX4_bestShare 16 = .ok (.goto 12, 3) := dk_167 0 12 (dk_at dksX4_bestShare_0 16 rfl rfl)
theorem dX4_bestShare_19 : decode cX4_bestShare 19 = .ok (.aload_n 0, 1) := dk_42 (dk_at dksX4_bestShare_0 19 rfl rfl)
theorem dX4_bestShare_20 : decode cX4_bestShare 20 = .ok (.iconst 3, 1) := dk_6 (dk_at dksX4_bestShare_0 20 rfl rfl)
theorem dX4_bestShare_21 : decode cX4_bestShare 21 = .ok (.invokevirtual 431, 3) := dk_182 1 175 (dk_at dksX4_bestShare_0 21 rfl rfl)
theorem dX4_bestShare_24 : decode cX4_bestShare 24 = .ok (.i2f, 1) := dk_134 (dk_at dksX4_bestShare_1 0 rfl rfl)
theorem dX4_bestShare_25 : decode cX4_bestShare 25 = .ok (.iload_n 1, 1) := dk_27 (dk_at dksX4_bestShare_1 1 rfl rfl)
theorem dX4_bestShare_26 : decode cX4_bestShare 26 = .ok (.i2f, 1) := dk_134 (dk_at dksX4_bestShare_1 2 rfl rfl)
theorem dX4_bestShare_27 : decode cX4_bestShare 27 = .ok (.fdiv, 1) := dk_110 (dk_at dksX4_bestShare_1 3 rfl rfl)
theorem dX4_bestShare_28 : decode cX4_bestShare 28 = .ok (.freturn, 1) := dk_174 (dk_at dksX4_bestShare_1 4 rfl rfl)
abbrev cX4_meanLength : ByteArray := prog_14_method_133_code
def yX4_meanLength : MethodName := ⟨RX4, "meanLength", "(I)D"⟩
def dkwX4_meanLength_1 : List UInt8 := [154, 0, 7, 14, 167, 0, 11, 42, 182, 1, 160, 135, 28, 135, 111, 175]
abbrev dktX4_meanLength_1 : List UInt8 := dkwX4_meanLength_1 ++ []
def dkwX4_meanLength_0 : List UInt8 := [42, 27, 184, 1, 142, 182, 1, 102, 154, 0, 5, 14, 175, 42, 27, 182, 0, 217, 42, 182, 1, 148, 61, 28]
abbrev dktX4_meanLength_0 : List UInt8 := dkwX4_meanLength_0 ++ dktX4_meanLength_1
theorem dksX4_meanLength_0 : cX4_meanLength.data.toList.drop 0 = dktX4_meanLength_0 := by decide +kernel
theorem dksX4_meanLength_1 : cX4_meanLength.data.toList.drop 24 = dktX4_meanLength_1 := dk_seg dksX4_meanLength_0 24 rfl rfl
theorem dX4_meanLength_0 : decode cX4_meanLength 0 = .ok (.aload_n 0, 1) := dk_42 (dk_at dksX4_meanLength_0 0 rfl rfl)
theorem dX4_meanLength_1 : decode cX4_meanLength 1 = .ok (.iload_n 1, 1) := dk_27 (dk_at dksX4_meanLength_0 1 rfl rfl)
theorem dX4_meanLength_2 : decode cX4_meanLength 2 = .ok (.invokestatic 398, 3) := dk_184 1 142 (dk_at dksX4_meanLength_0 2 rfl rfl)
theorem dX4_meanLength_5 : decode cX4_meanLength 5 = .ok (.invokevirtual 358, 3) := dk_182 1 102 (dk_at dksX4_meanLength_0 5 rfl rfl)
theorem dX4_meanLength_8 : decode cX4_meanLength 8 = .ok (.ifCond .ne 5, 3) := dk_154 0 5 (dk_at dksX4_meanLength_0 8 rfl rfl)
theorem dX4_meanLength_11 : decode cX4_meanLength 11 = .ok (.dconst 0, 1) := dk_14 (dk_at dksX4_meanLength_0 11 rfl rfl)
theorem dX4_meanLength_12 : decode cX4_meanLength 12 = .ok (.dreturn, 1) := dk_175 (dk_at dksX4_meanLength_0 12 rfl rfl)
theorem dX4_meanLength_13 : decode cX4_meanLength 13 = .ok (.aload_n 0, 1) := dk_42 (dk_at dksX4_meanLength_0 13 rfl rfl)
theorem dX4_meanLength_14 : decode cX4_meanLength 14 = .ok (.iload_n 1, 1) := dk_27 (dk_at dksX4_meanLength_0 14 rfl rfl)
theorem dX4_meanLength_15 : decode cX4_meanLength 15 = .ok (.invokevirtual 217, 3) := dk_182 0 217 (dk_at dksX4_meanLength_0 15 rfl rfl)
theorem dX4_meanLength_18 : decode cX4_meanLength 18 = .ok (.aload_n 0, 1) := dk_42 (dk_at dksX4_meanLength_0 18 rfl rfl)
theorem dX4_meanLength_19 : decode cX4_meanLength 19 = .ok (.invokevirtual 404, 3) := dk_182 1 148 (dk_at dksX4_meanLength_0 19 rfl rfl)
theorem dX4_meanLength_22 : decode cX4_meanLength 22 = .ok (.istore_n 2, 1) := dk_61 (dk_at dksX4_meanLength_0 22 rfl rfl)
theorem dX4_meanLength_23 : decode cX4_meanLength 23 = .ok (.iload_n 2, 1) := dk_28 (dk_at dksX4_meanLength_0 23 rfl rfl)
theorem dX4_meanLength_24 : decode cX4_meanLength 24 = .ok (.ifCond .ne 7, 3) := dk_154 0 7 (dk_at dksX4_meanLength_1 0 rfl rfl)
theorem dX4_meanLength_27 : decode cX4_meanLength 27 = .ok (.dconst 0, 1) := dk_14 (dk_at dksX4_meanLength_1 3 rfl rfl)
theorem dX4_meanLength_28 : decode cX4_meanLength 28 = .ok (.goto 11, 3) := dk_167 0 11 (dk_at dksX4_meanLength_1 4 rfl rfl)
theorem dX4_meanLength_31 : decode cX4_meanLength 31 = .ok (.aload_n 0, 1) := dk_42 (dk_at dksX4_meanLength_1 7 rfl rfl)
theorem dX4_meanLength_32 : decode cX4_meanLength 32 = .ok (.invokevirtual 416, 3) := dk_182 1 160 (dk_at dksX4_meanLength_1 8 rfl rfl)
theorem dX4_meanLength_35 : decode cX4_meanLength 35 = .ok (.i2d, 1) := dk_135 (dk_at dksX4_meanLength_1 11 rfl rfl)
theorem dX4_meanLength_36 : decode cX4_meanLength 36 = .ok (.iload_n 2, 1) := dk_28 (dk_at dksX4_meanLength_1 12 rfl rfl)
theorem dX4_meanLength_37 : decode cX4_meanLength 37 = .ok (.i2d, 1) := dk_135 (dk_at dksX4_meanLength_1 13 rfl rfl)
theorem dX4_meanLength_38 : decode cX4_meanLength 38 = .ok (.ddiv, 1) := dk_111 (dk_at dksX4_meanLength_1 14 rfl rfl)
theorem dX4_meanLength_39 : decode cX4_meanLength 39 = .ok (.dreturn, 1) := dk_175 (dk_at dksX4_meanLength_1 15 rfl rfl)
abbrev cX4_put : ByteArray := prog_14_method_136_code
def yX4_put : MethodName := ⟨RX4, "put", "(II)I"⟩
def dkwX4_put_1 : List UInt8 := [28, 3, 182, 1, 202, 167, 0, 4, 3, 172]
abbrev dktX4_put_1 : List UInt8 := dkwX4_put_1 ++ []
def dkwX4_put_0 : List UInt8 := [42, 42, 27, 182, 1, 127, 28, 3, 16, 25, 184, 0, 121, 182, 1, 92, 153, 0, 16, 42, 16, 43, 27, 96]
abbrev dktX4_put_0 : List UInt8 := dkwX4_put_0 ++ dktX4_put_1
theorem dksX4_put_0 : cX4_put.data.toList.drop 0 = dktX4_put_0 := by decide +kernel
theorem dksX4_put_1 : cX4_put.data.toList.drop 24 = dktX4_put_1 := dk_seg dksX4_put_0 24 rfl rfl
theorem dX4_put_0 : decode cX4_put 0 = .ok (.aload_n 0, 1) := dk_42 (dk_at dksX4_put_0 0 rfl rfl)
theorem dX4_put_1 : decode cX4_put 1 = .ok (.aload_n 0, 1) := dk_42 (dk_at dksX4_put_0 1 rfl rfl)
theorem dX4_put_2 : decode cX4_put 2 = .ok (.iload_n 1, 1) := dk_27 (dk_at dksX4_put_0 2 rfl rfl)
theorem dX4_put_3 : decode cX4_put 3 = .ok (.invokevirtual 383, 3) := dk_182 1 127 (dk_at dksX4_put_0 3 rfl rfl)
theorem dX4_put_6 : decode cX4_put 6 = .ok (.iload_n 2, 1) := dk_28 (dk_at dksX4_put_0 6 rfl rfl)
theorem dX4_put_7 : decode cX4_put 7 = .ok (.iconst 0, 1) := dk_3 (dk_at dksX4_put_0 7 rfl rfl)
theorem dX4_put_8 : decode cX4_put 8 = .ok (.bipush 25, 2) := dk_16 25 (dk_at dksX4_put_0 8 rfl rfl)
theorem dX4_put_10 : decode cX4_put 10 = .ok (.invokestatic 121, 3) := dk_184 0 121 (dk_at dksX4_put_0 10 rfl rfl)
theorem dX4_put_13 : decode cX4_put 13 = .ok (.invokevirtual 348, 3) := dk_182 1 92 (dk_at dksX4_put_0 13 rfl rfl)
theorem dX4_put_16 : decode cX4_put 16 = .ok (.ifCond .eq 16, 3) := dk_153 0 16 (dk_at dksX4_put_0 16 rfl rfl)
theorem dX4_put_19 : decode cX4_put 19 = .ok (.aload_n 0, 1) := dk_42 (dk_at dksX4_put_0 19 rfl rfl)
theorem dX4_put_20 : decode cX4_put 20 = .ok (.bipush 43, 2) := dk_16 43 (dk_at dksX4_put_0 20 rfl rfl)
theorem dX4_put_22 : decode cX4_put 22 = .ok (.iload_n 1, 1) := dk_27 (dk_at dksX4_put_0 22 rfl rfl)
theorem dX4_put_23 : decode cX4_put 23 = .ok (.iadd, 1) := dk_96 (dk_at dksX4_put_0 23 rfl rfl)
theorem dX4_put_24 : decode cX4_put 24 = .ok (.iload_n 2, 1) := dk_28 (dk_at dksX4_put_1 0 rfl rfl)
theorem dX4_put_25 : decode cX4_put 25 = .ok (.iconst 0, 1) := dk_3 (dk_at dksX4_put_1 1 rfl rfl)
theorem dX4_put_26 : decode cX4_put 26 = .ok (.invokevirtual 458, 3) := dk_182 1 202 (dk_at dksX4_put_1 2 rfl rfl)
theorem dX4_put_29 : decode cX4_put 29 = .ok (.goto 4, 3) := dk_167 0 4 (dk_at dksX4_put_1 5 rfl rfl)
theorem dX4_put_32 : decode cX4_put 32 = .ok (.iconst 0, 1) := dk_3 (dk_at dksX4_put_1 8 rfl rfl)
theorem dX4_put_33 : decode cX4_put 33 = .ok (.ireturn, 1) := dk_172 (dk_at dksX4_put_1 9 rfl rfl)
abbrev cX4_changes : ByteArray := prog_14_method_135_code
def yX4_changes : MethodName := ⟨RX4, "changes", "(III)I"⟩
def dkwX4_changes_0 : List UInt8 := [42, 29, 4, 182, 1, 199, 42, 180, 0, 13, 27, 46, 54, 4, 42, 180, 0, 13, 27, 28, 79, 21, 4, 172]
abbrev dktX4_changes_0 : List UInt8 := dkwX4_changes_0 ++ []
theorem dksX4_changes_0 : cX4_changes.data.toList.drop 0 = dktX4_changes_0 := by decide +kernel
theorem dX4_changes_0 : decode cX4_changes 0 = .ok (.aload_n 0, 1) := dk_42 (dk_at dksX4_changes_0 0 rfl rfl)
theorem dX4_changes_1 : decode cX4_changes 1 = .ok (.iload_n 3, 1) := dk_29 (dk_at dksX4_changes_0 1 rfl rfl)
theorem dX4_changes_2 : decode cX4_changes 2 = .ok (.iconst 1, 1) := dk_4 (dk_at dksX4_changes_0 2 rfl rfl)
theorem dX4_changes_3 : decode cX4_changes 3 = .ok (.invokevirtual 455, 3) := dk_182 1 199 (dk_at dksX4_changes_0 3 rfl rfl)
theorem dX4_changes_6 : decode cX4_changes 6 = .ok (.aload_n 0, 1) := dk_42 (dk_at dksX4_changes_0 6 rfl rfl)
theorem dX4_changes_7 : decode cX4_changes 7 = .ok (.getfield 13, 3) := dk_180 0 13 (dk_at dksX4_changes_0 7 rfl rfl)
theorem dX4_changes_10 : decode cX4_changes 10 = .ok (.iload_n 1, 1) := dk_27 (dk_at dksX4_changes_0 10 rfl rfl)
theorem dX4_changes_11 : decode cX4_changes 11 = .ok (.iaload, 1) := dk_46 (dk_at dksX4_changes_0 11 rfl rfl)
theorem dX4_changes_12 : decode cX4_changes 12 = .ok (.istore 4, 2) := dk_54 4 (dk_at dksX4_changes_0 12 rfl rfl)
theorem dX4_changes_14 : decode cX4_changes 14 = .ok (.aload_n 0, 1) := dk_42 (dk_at dksX4_changes_0 14 rfl rfl)
theorem dX4_changes_15 : decode cX4_changes 15 = .ok (.getfield 13, 3) := dk_180 0 13 (dk_at dksX4_changes_0 15 rfl rfl)
theorem dX4_changes_18 : decode cX4_changes 18 = .ok (.iload_n 1, 1) := dk_27 (dk_at dksX4_changes_0 18 rfl rfl)
theorem dX4_changes_19 : decode cX4_changes 19 = .ok (.iload_n 2, 1) := dk_28 (dk_at dksX4_changes_0 19 rfl rfl)
theorem dX4_changes_20 : decode cX4_changes 20 = .ok (.iastore, 1) := dk_79 (dk_at dksX4_changes_0 20 rfl rfl)
theorem dX4_changes_21 : decode cX4_changes 21 = .ok (.iload 4, 2) := dk_21 4 (dk_at dksX4_changes_0 21 rfl rfl)
theorem dX4_changes_23 : decode cX4_changes 23 = .ok (.ireturn, 1) := dk_172 (dk_at dksX4_changes_0 23 rfl rfl)
abbrev cX4_keeps : ByteArray := prog_14_method_134_code
def yX4_keeps : MethodName := ⟨RX4, "keeps", "(II)V"⟩
def dkwX4_keeps_3 : List UInt8 := [42, 27, 28, 182, 1, 196, 177]
abbrev dktX4_keeps_3 : List UInt8 := dkwX4_keeps_3 ++ []
def dkwX4_keeps_2 : List UInt8 := [17, 0, 171, 42, 180, 1, 85, 104, 17, 0, 171, 184, 1, 78, 42, 42, 180, 1, 85, 4, 96, 181, 1, 85]
abbrev dktX4_keeps_2 : List UInt8 := dkwX4_keeps_2 ++ dktX4_keeps_3
def dkwX4_keeps_1 : List UInt8 := [184, 1, 78, 42, 42, 180, 1, 85, 4, 100, 181, 1, 85, 42, 180, 0, 13, 3, 42, 180, 0, 26]
abbrev dktX4_keeps_1 : List UInt8 := dkwX4_keeps_1 ++ dktX4_keeps_2
def dkwX4_keeps_0 : List UInt8 := [42, 180, 1, 85, 16, 8, 160, 0, 31, 42, 180, 0, 26, 17, 0, 171, 42, 180, 0, 26, 3, 17, 4, 173]
abbrev dktX4_keeps_0 : List UInt8 := dkwX4_keeps_0 ++ dktX4_keeps_1
theorem dksX4_keeps_0 : cX4_keeps.data.toList.drop 0 = dktX4_keeps_0 := by decide +kernel
theorem dksX4_keeps_1 : cX4_keeps.data.toList.drop 24 = dktX4_keeps_1 := dk_seg dksX4_keeps_0 24 rfl rfl
theorem dksX4_keeps_2 : cX4_keeps.data.toList.drop 46 = dktX4_keeps_2 := dk_seg dksX4_keeps_1 22 rfl rfl
theorem dksX4_keeps_3 : cX4_keeps.data.toList.drop 70 = dktX4_keeps_3 := dk_seg dksX4_keeps_2 24 rfl rfl
theorem dX4_keeps_0 : decode cX4_keeps 0 = .ok (.aload_n 0, 1) := dk_42 (dk_at dksX4_keeps_0 0 rfl rfl)
theorem dX4_keeps_1 : decode cX4_keeps 1 = .ok (.getfield 341, 3) := dk_180 1 85 (dk_at dksX4_keeps_0 1 rfl rfl)
theorem dX4_keeps_4 : decode cX4_keeps 4 = .ok (.bipush 8, 2) := dk_16 8 (dk_at dksX4_keeps_0 4 rfl rfl)
theorem dX4_keeps_6 : decode cX4_keeps 6 = .ok (.if_icmp .ne 31, 3) := dk_160 0 31 (dk_at dksX4_keeps_0 6 rfl rfl)
theorem dX4_keeps_9 : decode cX4_keeps 9 = .ok (.aload_n 0, 1) := dk_42 (dk_at dksX4_keeps_0 9 rfl rfl)
theorem dX4_keeps_10 : decode cX4_keeps 10 = .ok (.getfield 26, 3) := dk_180 0 26 (dk_at dksX4_keeps_0 10 rfl rfl)
theorem dX4_keeps_13 : decode cX4_keeps 13 = .ok (.sipush 171, 3) := dk_17 0 171 (dk_at dksX4_keeps_0 13 rfl rfl)
theorem dX4_keeps_16 : decode cX4_keeps 16 = .ok (.aload_n 0, 1) := dk_42 (dk_at dksX4_keeps_0 16 rfl rfl)
theorem dX4_keeps_17 : decode cX4_keeps 17 = .ok (.getfield 26, 3) := dk_180 0 26 (dk_at dksX4_keeps_0 17 rfl rfl)
theorem dX4_keeps_20 : decode cX4_keeps 20 = .ok (.iconst 0, 1) := dk_3 (dk_at dksX4_keeps_0 20 rfl rfl)
theorem dX4_keeps_21 : decode cX4_keeps 21 = .ok (.sipush 1197, 3) := dk_17 4 173 (dk_at dksX4_keeps_0 21 rfl rfl)
theorem dX4_keeps_24 : decode cX4_keeps 24 = .ok (.invokestatic 334, 3) := dk_184 1 78 (dk_at dksX4_keeps_1 0 rfl rfl)
theorem dX4_keeps_27 : decode cX4_keeps 27 = .ok (.aload_n 0, 1) := dk_42 (dk_at dksX4_keeps_1 3 rfl rfl)
theorem dX4_keeps_28 : decode cX4_keeps 28 = .ok (.aload_n 0, 1) := dk_42 (dk_at dksX4_keeps_1 4 rfl rfl)
theorem dX4_keeps_29 : decode cX4_keeps 29 = .ok (.getfield 341, 3) := dk_180 1 85 (dk_at dksX4_keeps_1 5 rfl rfl)
theorem dX4_keeps_32 : decode cX4_keeps 32 = .ok (.iconst 1, 1) := dk_4 (dk_at dksX4_keeps_1 8 rfl rfl)
theorem dX4_keeps_33 : decode cX4_keeps 33 = .ok (.isub, 1) := dk_100 (dk_at dksX4_keeps_1 9 rfl rfl)
theorem dX4_keeps_34 : decode cX4_keeps 34 = .ok (.putfield 341, 3) := dk_181 1 85 (dk_at dksX4_keeps_1 10 rfl rfl)
theorem dX4_keeps_37 : decode cX4_keeps 37 = .ok (.aload_n 0, 1) := dk_42 (dk_at dksX4_keeps_1 13 rfl rfl)
theorem dX4_keeps_38 : decode cX4_keeps 38 = .ok (.getfield 13, 3) := dk_180 0 13 (dk_at dksX4_keeps_1 14 rfl rfl)
theorem dX4_keeps_41 : decode cX4_keeps 41 = .ok (.iconst 0, 1) := dk_3 (dk_at dksX4_keeps_1 17 rfl rfl)
theorem dX4_keeps_42 : decode cX4_keeps 42 = .ok (.aload_n 0, 1) := dk_42 (dk_at dksX4_keeps_1 18 rfl rfl)
theorem dX4_keeps_43 : decode cX4_keeps 43 = .ok (.getfield 26, 3) := dk_180 0 26 (dk_at dksX4_keeps_1 19 rfl rfl)
theorem dX4_keeps_46 : decode cX4_keeps 46 = .ok (.sipush 171, 3) := dk_17 0 171 (dk_at dksX4_keeps_2 0 rfl rfl)
theorem dX4_keeps_49 : decode cX4_keeps 49 = .ok (.aload_n 0, 1) := dk_42 (dk_at dksX4_keeps_2 3 rfl rfl)
theorem dX4_keeps_50 : decode cX4_keeps 50 = .ok (.getfield 341, 3) := dk_180 1 85 (dk_at dksX4_keeps_2 4 rfl rfl)
theorem dX4_keeps_53 : decode cX4_keeps 53 = .ok (.imul, 1) := dk_104 (dk_at dksX4_keeps_2 7 rfl rfl)
theorem dX4_keeps_54 : decode cX4_keeps 54 = .ok (.sipush 171, 3) := dk_17 0 171 (dk_at dksX4_keeps_2 8 rfl rfl)
theorem dX4_keeps_57 : decode cX4_keeps 57 = .ok (.invokestatic 334, 3) := dk_184 1 78 (dk_at dksX4_keeps_2 11 rfl rfl)
theorem dX4_keeps_60 : decode cX4_keeps 60 = .ok (.aload_n 0, 1) := dk_42 (dk_at dksX4_keeps_2 14 rfl rfl)
theorem dX4_keeps_61 : decode cX4_keeps 61 = .ok (.aload_n 0, 1) := dk_42 (dk_at dksX4_keeps_2 15 rfl rfl)
theorem dX4_keeps_62 : decode cX4_keeps 62 = .ok (.getfield 341, 3) := dk_180 1 85 (dk_at dksX4_keeps_2 16 rfl rfl)
theorem dX4_keeps_65 : decode cX4_keeps 65 = .ok (.iconst 1, 1) := dk_4 (dk_at dksX4_keeps_2 19 rfl rfl)
theorem dX4_keeps_66 : decode cX4_keeps 66 = .ok (.iadd, 1) := dk_96 (dk_at dksX4_keeps_2 20 rfl rfl)
theorem dX4_keeps_67 : decode cX4_keeps 67 = .ok (.putfield 341, 3) := dk_181 1 85 (dk_at dksX4_keeps_2 21 rfl rfl)
theorem dX4_keeps_70 : decode cX4_keeps 70 = .ok (.aload_n 0, 1) := dk_42 (dk_at dksX4_keeps_3 0 rfl rfl)
theorem dX4_keeps_71 : decode cX4_keeps 71 = .ok (.iload_n 1, 1) := dk_27 (dk_at dksX4_keeps_3 1 rfl rfl)
theorem dX4_keeps_72 : decode cX4_keeps 72 = .ok (.iload_n 2, 1) := dk_28 (dk_at dksX4_keeps_3 2 rfl rfl)
theorem dX4_keeps_73 : decode cX4_keeps 73 = .ok (.invokevirtual 452, 3) := dk_182 1 196 (dk_at dksX4_keeps_3 3 rfl rfl)
theorem dX4_keeps_76 : decode cX4_keeps 76 = .ok (.return_, 1) := dk_177 (dk_at dksX4_keeps_3 6 rfl rfl)
abbrev cX4_counts : ByteArray := prog_14_method_11_code
def yX4_counts : MethodName := ⟨RX4, "counts", "(II)V"⟩
def dkwX4_counts_0 : List UInt8 := [42, 180, 0, 13, 16, 37, 27, 96, 42, 180, 0, 13, 16, 37, 27, 96, 46, 28, 96, 79, 177]
abbrev dktX4_counts_0 : List UInt8 := dkwX4_counts_0 ++ []
theorem dksX4_counts_0 : cX4_counts.data.toList.drop 0 = dktX4_counts_0 := by decide +kernel
theorem dX4_counts_0 : decode cX4_counts 0 = .ok (.aload_n 0, 1) := dk_42 (dk_at dksX4_counts_0 0 rfl rfl)
theorem dX4_counts_1 : decode cX4_counts 1 = .ok (.getfield 13, 3) := dk_180 0 13 (dk_at dksX4_counts_0 1 rfl rfl)
theorem dX4_counts_4 : decode cX4_counts 4 = .ok (.bipush 37, 2) := dk_16 37 (dk_at dksX4_counts_0 4 rfl rfl)
theorem dX4_counts_6 : decode cX4_counts 6 = .ok (.iload_n 1, 1) := dk_27 (dk_at dksX4_counts_0 6 rfl rfl)
theorem dX4_counts_7 : decode cX4_counts 7 = .ok (.iadd, 1) := dk_96 (dk_at dksX4_counts_0 7 rfl rfl)
theorem dX4_counts_8 : decode cX4_counts 8 = .ok (.aload_n 0, 1) := dk_42 (dk_at dksX4_counts_0 8 rfl rfl)
theorem dX4_counts_9 : decode cX4_counts 9 = .ok (.getfield 13, 3) := dk_180 0 13 (dk_at dksX4_counts_0 9 rfl rfl)
theorem dX4_counts_12 : decode cX4_counts 12 = .ok (.bipush 37, 2) := dk_16 37 (dk_at dksX4_counts_0 12 rfl rfl)
theorem dX4_counts_14 : decode cX4_counts 14 = .ok (.iload_n 1, 1) := dk_27 (dk_at dksX4_counts_0 14 rfl rfl)
theorem dX4_counts_15 : decode cX4_counts 15 = .ok (.iadd, 1) := dk_96 (dk_at dksX4_counts_0 15 rfl rfl)
theorem dX4_counts_16 : decode cX4_counts 16 = .ok (.iaload, 1) := dk_46 (dk_at dksX4_counts_0 16 rfl rfl)
theorem dX4_counts_17 : decode cX4_counts 17 = .ok (.iload_n 2, 1) := dk_28 (dk_at dksX4_counts_0 17 rfl rfl)
theorem dX4_counts_18 : decode cX4_counts 18 = .ok (.iadd, 1) := dk_96 (dk_at dksX4_counts_0 18 rfl rfl)
theorem dX4_counts_19 : decode cX4_counts 19 = .ok (.iastore, 1) := dk_79 (dk_at dksX4_counts_0 19 rfl rfl)
theorem dX4_counts_20 : decode cX4_counts 20 = .ok (.return_, 1) := dk_177 (dk_at dksX4_counts_0 20 rfl rfl)
abbrev cX4_add : ByteArray := prog_14_method_137_code
def yX4_add : MethodName := ⟨RX4, "add", "(I)I"⟩
def dkwX4_add_1 : List UInt8 := [182, 1, 92, 154, 0, 5, 3, 172, 42, 4, 4, 182, 1, 199, 42, 27, 182, 0, 82, 42, 182, 0, 86, 172]
abbrev dktX4_add_1 : List UInt8 := dkwX4_add_1 ++ []
def dkwX4_add_0 : List UInt8 := [42, 27, 3, 16, 25, 184, 0, 121, 42, 182, 0, 86, 16, 64, 162, 0, 7, 4, 167, 0, 4, 3]
abbrev dktX4_add_0 : List UInt8 := dkwX4_add_0 ++ dktX4_add_1
theorem dksX4_add_0 : cX4_add.data.toList.drop 0 = dktX4_add_0 := by decide +kernel
theorem dksX4_add_1 : cX4_add.data.toList.drop 22 = dktX4_add_1 := dk_seg dksX4_add_0 22 rfl rfl
theorem dX4_add_0 : decode cX4_add 0 = .ok (.aload_n 0, 1) := dk_42 (dk_at dksX4_add_0 0 rfl rfl)
theorem dX4_add_1 : decode cX4_add 1 = .ok (.iload_n 1, 1) := dk_27 (dk_at dksX4_add_0 1 rfl rfl)
theorem dX4_add_2 : decode cX4_add 2 = .ok (.iconst 0, 1) := dk_3 (dk_at dksX4_add_0 2 rfl rfl)
theorem dX4_add_3 : decode cX4_add 3 = .ok (.bipush 25, 2) := dk_16 25 (dk_at dksX4_add_0 3 rfl rfl)
theorem dX4_add_5 : decode cX4_add 5 = .ok (.invokestatic 121, 3) := dk_184 0 121 (dk_at dksX4_add_0 5 rfl rfl)
theorem dX4_add_8 : decode cX4_add 8 = .ok (.aload_n 0, 1) := dk_42 (dk_at dksX4_add_0 8 rfl rfl)
theorem dX4_add_9 : decode cX4_add 9 = .ok (.invokevirtual 86, 3) := dk_182 0 86 (dk_at dksX4_add_0 9 rfl rfl)
theorem dX4_add_12 : decode cX4_add 12 = .ok (.bipush 64, 2) := dk_16 64 (dk_at dksX4_add_0 12 rfl rfl)
theorem dX4_add_14 : decode cX4_add 14 = .ok (.if_icmp .ge 7, 3) := dk_162 0 7 (dk_at dksX4_add_0 14 rfl rfl)
theorem dX4_add_17 : decode cX4_add 17 = .ok (.iconst 1, 1) := dk_4 (dk_at dksX4_add_0 17 rfl rfl)
theorem dX4_add_18 : decode cX4_add 18 = .ok (.goto 4, 3) := dk_167 0 4 (dk_at dksX4_add_0 18 rfl rfl)
theorem dX4_add_21 : decode cX4_add 21 = .ok (.iconst 0, 1) := dk_3 (dk_at dksX4_add_0 21 rfl rfl)
theorem dX4_add_22 : decode cX4_add 22 = .ok (.invokevirtual 348, 3) := dk_182 1 92 (dk_at dksX4_add_1 0 rfl rfl)
theorem dX4_add_25 : decode cX4_add 25 = .ok (.ifCond .ne 5, 3) := dk_154 0 5 (dk_at dksX4_add_1 3 rfl rfl)
theorem dX4_add_28 : decode cX4_add 28 = .ok (.iconst 0, 1) := dk_3 (dk_at dksX4_add_1 6 rfl rfl)
theorem dX4_add_29 : decode cX4_add 29 = .ok (.ireturn, 1) := dk_172 (dk_at dksX4_add_1 7 rfl rfl)
theorem dX4_add_30 : decode cX4_add 30 = .ok (.aload_n 0, 1) := dk_42 (dk_at dksX4_add_1 8 rfl rfl)
theorem dX4_add_31 : decode cX4_add 31 = .ok (.iconst 1, 1) := dk_4 (dk_at dksX4_add_1 9 rfl rfl)
theorem dX4_add_32 : decode cX4_add 32 = .ok (.iconst 1, 1) := dk_4 (dk_at dksX4_add_1 10 rfl rfl)
theorem dX4_add_33 : decode cX4_add 33 = .ok (.invokevirtual 455, 3) := dk_182 1 199 (dk_at dksX4_add_1 11 rfl rfl)
theorem dX4_add_36 : decode cX4_add 36 = .ok (.aload_n 0, 1) := dk_42 (dk_at dksX4_add_1 14 rfl rfl)
theorem dX4_add_37 : decode cX4_add 37 = .ok (.iload_n 1, 1) := dk_27 (dk_at dksX4_add_1 15 rfl rfl)
theorem dX4_add_38 : decode cX4_add 38 = .ok (.invokevirtual 82, 3) := dk_182 0 82 (dk_at dksX4_add_1 16 rfl rfl)
theorem dX4_add_41 : decode cX4_add 41 = .ok (.aload_n 0, 1) := dk_42 (dk_at dksX4_add_1 19 rfl rfl)
theorem dX4_add_42 : decode cX4_add 42 = .ok (.invokevirtual 86, 3) := dk_182 0 86 (dk_at dksX4_add_1 20 rfl rfl)
theorem dX4_add_45 : decode cX4_add 45 = .ok (.ireturn, 1) := dk_172 (dk_at dksX4_add_1 23 rfl rfl)
abbrev cX4_cut : ByteArray := prog_14_method_138_code
def yX4_cut : MethodName := ⟨RX4, "cut", "(I)I"⟩
def dkwX4_cut_3 : List UInt8 := [132, 2, 1, 167, 255, 225, 42, 180, 0, 13, 3, 42, 182, 0, 86, 27, 100, 79, 42, 182, 0, 86, 172]
abbrev dktX4_cut_3 : List UInt8 := dkwX4_cut_3 ++ []
def dkwX4_cut_2 : List UInt8 := [162, 0, 29, 42, 180, 0, 13, 16, 43, 28, 96, 3, 79, 42, 180, 0, 13, 16, 107, 28, 96, 3, 79]
abbrev dktX4_cut_2 : List UInt8 := dkwX4_cut_2 ++ dktX4_cut_3
def dkwX4_cut_1 : List UInt8 := [154, 0, 5, 3, 172, 42, 5, 27, 182, 1, 199, 42, 182, 0, 86, 27, 100, 61, 28, 42, 182, 0, 86]
abbrev dktX4_cut_1 : List UInt8 := dkwX4_cut_1 ++ dktX4_cut_2
def dkwX4_cut_0 : List UInt8 := [42, 27, 4, 16, 64, 184, 0, 121, 27, 42, 182, 0, 86, 162, 0, 7, 4, 167, 0, 4, 3, 182, 1, 92]
abbrev dktX4_cut_0 : List UInt8 := dkwX4_cut_0 ++ dktX4_cut_1
theorem dksX4_cut_0 : cX4_cut.data.toList.drop 0 = dktX4_cut_0 := by decide +kernel
theorem dksX4_cut_1 : cX4_cut.data.toList.drop 24 = dktX4_cut_1 := dk_seg dksX4_cut_0 24 rfl rfl
theorem dksX4_cut_2 : cX4_cut.data.toList.drop 47 = dktX4_cut_2 := dk_seg dksX4_cut_1 23 rfl rfl
theorem dksX4_cut_3 : cX4_cut.data.toList.drop 70 = dktX4_cut_3 := dk_seg dksX4_cut_2 23 rfl rfl
theorem dX4_cut_0 : decode cX4_cut 0 = .ok (.aload_n 0, 1) := dk_42 (dk_at dksX4_cut_0 0 rfl rfl)
theorem dX4_cut_1 : decode cX4_cut 1 = .ok (.iload_n 1, 1) := dk_27 (dk_at dksX4_cut_0 1 rfl rfl)
theorem dX4_cut_2 : decode cX4_cut 2 = .ok (.iconst 1, 1) := dk_4 (dk_at dksX4_cut_0 2 rfl rfl)
theorem dX4_cut_3 : decode cX4_cut 3 = .ok (.bipush 64, 2) := dk_16 64 (dk_at dksX4_cut_0 3 rfl rfl)
theorem dX4_cut_5 : decode cX4_cut 5 = .ok (.invokestatic 121, 3) := dk_184 0 121 (dk_at dksX4_cut_0 5 rfl rfl)
theorem dX4_cut_8 : decode cX4_cut 8 = .ok (.iload_n 1, 1) := dk_27 (dk_at dksX4_cut_0 8 rfl rfl)
theorem dX4_cut_9 : decode cX4_cut 9 = .ok (.aload_n 0, 1) := dk_42 (dk_at dksX4_cut_0 9 rfl rfl)
theorem dX4_cut_10 : decode cX4_cut 10 = .ok (.invokevirtual 86, 3) := dk_182 0 86 (dk_at dksX4_cut_0 10 rfl rfl)
theorem dX4_cut_13 : decode cX4_cut 13 = .ok (.if_icmp .ge 7, 3) := dk_162 0 7 (dk_at dksX4_cut_0 13 rfl rfl)
theorem dX4_cut_16 : decode cX4_cut 16 = .ok (.iconst 1, 1) := dk_4 (dk_at dksX4_cut_0 16 rfl rfl)
theorem dX4_cut_17 : decode cX4_cut 17 = .ok (.goto 4, 3) := dk_167 0 4 (dk_at dksX4_cut_0 17 rfl rfl)
theorem dX4_cut_20 : decode cX4_cut 20 = .ok (.iconst 0, 1) := dk_3 (dk_at dksX4_cut_0 20 rfl rfl)
theorem dX4_cut_21 : decode cX4_cut 21 = .ok (.invokevirtual 348, 3) := dk_182 1 92 (dk_at dksX4_cut_0 21 rfl rfl)
theorem dX4_cut_24 : decode cX4_cut 24 = .ok (.ifCond .ne 5, 3) := dk_154 0 5 (dk_at dksX4_cut_1 0 rfl rfl)
theorem dX4_cut_27 : decode cX4_cut 27 = .ok (.iconst 0, 1) := dk_3 (dk_at dksX4_cut_1 3 rfl rfl)
theorem dX4_cut_28 : decode cX4_cut 28 = .ok (.ireturn, 1) := dk_172 (dk_at dksX4_cut_1 4 rfl rfl)
theorem dX4_cut_29 : decode cX4_cut 29 = .ok (.aload_n 0, 1) := dk_42 (dk_at dksX4_cut_1 5 rfl rfl)
theorem dX4_cut_30 : decode cX4_cut 30 = .ok (.iconst 2, 1) := dk_5 (dk_at dksX4_cut_1 6 rfl rfl)
theorem dX4_cut_31 : decode cX4_cut 31 = .ok (.iload_n 1, 1) := dk_27 (dk_at dksX4_cut_1 7 rfl rfl)
theorem dX4_cut_32 : decode cX4_cut 32 = .ok (.invokevirtual 455, 3) := dk_182 1 199 (dk_at dksX4_cut_1 8 rfl rfl)
theorem dX4_cut_35 : decode cX4_cut 35 = .ok (.aload_n 0, 1) := dk_42 (dk_at dksX4_cut_1 11 rfl rfl)
theorem dX4_cut_36 : decode cX4_cut 36 = .ok (.invokevirtual 86, 3) := dk_182 0 86 (dk_at dksX4_cut_1 12 rfl rfl)
theorem dX4_cut_39 : decode cX4_cut 39 = .ok (.iload_n 1, 1) := dk_27 (dk_at dksX4_cut_1 15 rfl rfl)
theorem dX4_cut_40 : decode cX4_cut 40 = .ok (.isub, 1) := dk_100 (dk_at dksX4_cut_1 16 rfl rfl)
theorem dX4_cut_41 : decode cX4_cut 41 = .ok (.istore_n 2, 1) := dk_61 (dk_at dksX4_cut_1 17 rfl rfl)
theorem dX4_cut_42 : decode cX4_cut 42 = .ok (.iload_n 2, 1) := dk_28 (dk_at dksX4_cut_1 18 rfl rfl)
theorem dX4_cut_43 : decode cX4_cut 43 = .ok (.aload_n 0, 1) := dk_42 (dk_at dksX4_cut_1 19 rfl rfl)
theorem dX4_cut_44 : decode cX4_cut 44 = .ok (.invokevirtual 86, 3) := dk_182 0 86 (dk_at dksX4_cut_1 20 rfl rfl)
theorem dX4_cut_47 : decode cX4_cut 47 = .ok (.if_icmp .ge 29, 3) := dk_162 0 29 (dk_at dksX4_cut_2 0 rfl rfl)
theorem dX4_cut_50 : decode cX4_cut 50 = .ok (.aload_n 0, 1) := dk_42 (dk_at dksX4_cut_2 3 rfl rfl)
theorem dX4_cut_51 : decode cX4_cut 51 = .ok (.getfield 13, 3) := dk_180 0 13 (dk_at dksX4_cut_2 4 rfl rfl)
theorem dX4_cut_54 : decode cX4_cut 54 = .ok (.bipush 43, 2) := dk_16 43 (dk_at dksX4_cut_2 7 rfl rfl)
theorem dX4_cut_56 : decode cX4_cut 56 = .ok (.iload_n 2, 1) := dk_28 (dk_at dksX4_cut_2 9 rfl rfl)
theorem dX4_cut_57 : decode cX4_cut 57 = .ok (.iadd, 1) := dk_96 (dk_at dksX4_cut_2 10 rfl rfl)
theorem dX4_cut_58 : decode cX4_cut 58 = .ok (.iconst 0, 1) := dk_3 (dk_at dksX4_cut_2 11 rfl rfl)
theorem dX4_cut_59 : decode cX4_cut 59 = .ok (.iastore, 1) := dk_79 (dk_at dksX4_cut_2 12 rfl rfl)
theorem dX4_cut_60 : decode cX4_cut 60 = .ok (.aload_n 0, 1) := dk_42 (dk_at dksX4_cut_2 13 rfl rfl)
theorem dX4_cut_61 : decode cX4_cut 61 = .ok (.getfield 13, 3) := dk_180 0 13 (dk_at dksX4_cut_2 14 rfl rfl)
theorem dX4_cut_64 : decode cX4_cut 64 = .ok (.bipush 107, 2) := dk_16 107 (dk_at dksX4_cut_2 17 rfl rfl)
theorem dX4_cut_66 : decode cX4_cut 66 = .ok (.iload_n 2, 1) := dk_28 (dk_at dksX4_cut_2 19 rfl rfl)
theorem dX4_cut_67 : decode cX4_cut 67 = .ok (.iadd, 1) := dk_96 (dk_at dksX4_cut_2 20 rfl rfl)
theorem dX4_cut_68 : decode cX4_cut 68 = .ok (.iconst 0, 1) := dk_3 (dk_at dksX4_cut_2 21 rfl rfl)
theorem dX4_cut_69 : decode cX4_cut 69 = .ok (.iastore, 1) := dk_79 (dk_at dksX4_cut_2 22 rfl rfl)
theorem dX4_cut_70 : decode cX4_cut 70 = .ok (.iinc 2 1, 3) := dk_132 2 1 (dk_at dksX4_cut_3 0 rfl rfl)
theorem dX4_cut_73 : decode cX4_cut 73 = .ok (.goto (-31), 3) := dk_167 255 225 (dk_at dksX4_cut_3 3 rfl rfl)
theorem dX4_cut_76 : decode cX4_cut 76 = .ok (.aload_n 0, 1) := dk_42 (dk_at dksX4_cut_3 6 rfl rfl)
theorem dX4_cut_77 : decode cX4_cut 77 = .ok (.getfield 13, 3) := dk_180 0 13 (dk_at dksX4_cut_3 7 rfl rfl)
theorem dX4_cut_80 : decode cX4_cut 80 = .ok (.iconst 0, 1) := dk_3 (dk_at dksX4_cut_3 10 rfl rfl)
theorem dX4_cut_81 : decode cX4_cut 81 = .ok (.aload_n 0, 1) := dk_42 (dk_at dksX4_cut_3 11 rfl rfl)
theorem dX4_cut_82 : decode cX4_cut 82 = .ok (.invokevirtual 86, 3) := dk_182 0 86 (dk_at dksX4_cut_3 12 rfl rfl)
theorem dX4_cut_85 : decode cX4_cut 85 = .ok (.iload_n 1, 1) := dk_27 (dk_at dksX4_cut_3 15 rfl rfl)
theorem dX4_cut_86 : decode cX4_cut 86 = .ok (.isub, 1) := dk_100 (dk_at dksX4_cut_3 16 rfl rfl)
theorem dX4_cut_87 : decode cX4_cut 87 = .ok (.iastore, 1) := dk_79 (dk_at dksX4_cut_3 17 rfl rfl)
theorem dX4_cut_88 : decode cX4_cut 88 = .ok (.aload_n 0, 1) := dk_42 (dk_at dksX4_cut_3 18 rfl rfl)
theorem dX4_cut_89 : decode cX4_cut 89 = .ok (.invokevirtual 86, 3) := dk_182 0 86 (dk_at dksX4_cut_3 19 rfl rfl)
theorem dX4_cut_92 : decode cX4_cut 92 = .ok (.ireturn, 1) := dk_172 (dk_at dksX4_cut_3 22 rfl rfl)
abbrev cX4_pin : ByteArray := prog_14_method_139_code
def yX4_pin : MethodName := ⟨RX4, "pin", "(IZ)I"⟩
def dkwX4_pin_2 : List UInt8 := [16, 107, 27, 96, 28, 184, 0, 107, 6, 182, 1, 202, 54, 4, 42, 182, 1, 46, 172]
abbrev dktX4_pin_2 : List UInt8 := dkwX4_pin_2 ++ []
def dkwX4_pin_1 : List UInt8 := [42, 182, 1, 46, 16, 16, 162, 0, 7, 4, 167, 0, 4, 3, 182, 1, 92, 154, 0, 5, 3, 172, 42]
abbrev dktX4_pin_1 : List UInt8 := dkwX4_pin_1 ++ dktX4_pin_2
def dkwX4_pin_0 : List UInt8 := [42, 27, 182, 1, 127, 62, 42, 29, 29, 153, 0, 28, 28, 153, 0, 20, 42, 27, 182, 0, 117, 154, 0, 12]
abbrev dktX4_pin_0 : List UInt8 := dkwX4_pin_0 ++ dktX4_pin_1
theorem dksX4_pin_0 : cX4_pin.data.toList.drop 0 = dktX4_pin_0 := by decide +kernel
theorem dksX4_pin_1 : cX4_pin.data.toList.drop 24 = dktX4_pin_1 := dk_seg dksX4_pin_0 24 rfl rfl
theorem dksX4_pin_2 : cX4_pin.data.toList.drop 47 = dktX4_pin_2 := dk_seg dksX4_pin_1 23 rfl rfl
theorem dX4_pin_0 : decode cX4_pin 0 = .ok (.aload_n 0, 1) := dk_42 (dk_at dksX4_pin_0 0 rfl rfl)
theorem dX4_pin_1 : decode cX4_pin 1 = .ok (.iload_n 1, 1) := dk_27 (dk_at dksX4_pin_0 1 rfl rfl)
theorem dX4_pin_2 : decode cX4_pin 2 = .ok (.invokevirtual 383, 3) := dk_182 1 127 (dk_at dksX4_pin_0 2 rfl rfl)
theorem dX4_pin_5 : decode cX4_pin 5 = .ok (.istore_n 3, 1) := dk_62 (dk_at dksX4_pin_0 5 rfl rfl)
theorem dX4_pin_6 : decode cX4_pin 6 = .ok (.aload_n 0, 1) := dk_42 (dk_at dksX4_pin_0 6 rfl rfl)
theorem dX4_pin_7 : decode cX4_pin 7 = .ok (.iload_n 3, 1) := dk_29 (dk_at dksX4_pin_0 7 rfl rfl)
theorem dX4_pin_8 : decode cX4_pin 8 = .ok (.iload_n 3, 1) := dk_29 (dk_at dksX4_pin_0 8 rfl rfl)
theorem dX4_pin_9 : decode cX4_pin 9 = .ok (.ifCond .eq 28, 3) := dk_153 0 28 (dk_at dksX4_pin_0 9 rfl rfl)
theorem dX4_pin_12 : decode cX4_pin 12 = .ok (.iload_n 2, 1) := dk_28 (dk_at dksX4_pin_0 12 rfl rfl)
theorem dX4_pin_13 : decode cX4_pin 13 = .ok (.ifCond .eq 20, 3) := dk_153 0 20 (dk_at dksX4_pin_0 13 rfl rfl)
theorem dX4_pin_16 : decode cX4_pin 16 = .ok (.aload_n 0, 1) := dk_42 (dk_at dksX4_pin_0 16 rfl rfl)
theorem dX4_pin_17 : decode cX4_pin 17 = .ok (.iload_n 1, 1) := dk_27 (dk_at dksX4_pin_0 17 rfl rfl)
theorem dX4_pin_18 : decode cX4_pin 18 = .ok (.invokevirtual 117, 3) := dk_182 0 117 (dk_at dksX4_pin_0 18 rfl rfl)
theorem dX4_pin_21 : decode cX4_pin 21 = .ok (.ifCond .ne 12, 3) := dk_154 0 12 (dk_at dksX4_pin_0 21 rfl rfl)
theorem dX4_pin_24 : decode cX4_pin 24 = .ok (.aload_n 0, 1) := dk_42 (dk_at dksX4_pin_1 0 rfl rfl)
theorem dX4_pin_25 : decode cX4_pin 25 = .ok (.invokevirtual 302, 3) := dk_182 1 46 (dk_at dksX4_pin_1 1 rfl rfl)
theorem dX4_pin_28 : decode cX4_pin 28 = .ok (.bipush 16, 2) := dk_16 16 (dk_at dksX4_pin_1 4 rfl rfl)
theorem dX4_pin_30 : decode cX4_pin 30 = .ok (.if_icmp .ge 7, 3) := dk_162 0 7 (dk_at dksX4_pin_1 6 rfl rfl)
theorem dX4_pin_33 : decode cX4_pin 33 = .ok (.iconst 1, 1) := dk_4 (dk_at dksX4_pin_1 9 rfl rfl)
theorem dX4_pin_34 : decode cX4_pin 34 = .ok (.goto 4, 3) := dk_167 0 4 (dk_at dksX4_pin_1 10 rfl rfl)
theorem dX4_pin_37 : decode cX4_pin 37 = .ok (.iconst 0, 1) := dk_3 (dk_at dksX4_pin_1 13 rfl rfl)
theorem dX4_pin_38 : decode cX4_pin 38 = .ok (.invokevirtual 348, 3) := dk_182 1 92 (dk_at dksX4_pin_1 14 rfl rfl)
theorem dX4_pin_41 : decode cX4_pin 41 = .ok (.ifCond .ne 5, 3) := dk_154 0 5 (dk_at dksX4_pin_1 17 rfl rfl)
theorem dX4_pin_44 : decode cX4_pin 44 = .ok (.iconst 0, 1) := dk_3 (dk_at dksX4_pin_1 20 rfl rfl)
theorem dX4_pin_45 : decode cX4_pin 45 = .ok (.ireturn, 1) := dk_172 (dk_at dksX4_pin_1 21 rfl rfl)
theorem dX4_pin_46 : decode cX4_pin 46 = .ok (.aload_n 0, 1) := dk_42 (dk_at dksX4_pin_1 22 rfl rfl)
theorem dX4_pin_47 : decode cX4_pin 47 = .ok (.bipush 107, 2) := dk_16 107 (dk_at dksX4_pin_2 0 rfl rfl)
theorem dX4_pin_49 : decode cX4_pin 49 = .ok (.iload_n 1, 1) := dk_27 (dk_at dksX4_pin_2 2 rfl rfl)
theorem dX4_pin_50 : decode cX4_pin 50 = .ok (.iadd, 1) := dk_96 (dk_at dksX4_pin_2 3 rfl rfl)
theorem dX4_pin_51 : decode cX4_pin 51 = .ok (.iload_n 2, 1) := dk_28 (dk_at dksX4_pin_2 4 rfl rfl)
theorem dX4_pin_52 : decode cX4_pin 52 = .ok (.invokestatic 107, 3) := dk_184 0 107 (dk_at dksX4_pin_2 5 rfl rfl)
theorem dX4_pin_55 : decode cX4_pin 55 = .ok (.iconst 3, 1) := dk_6 (dk_at dksX4_pin_2 8 rfl rfl)
theorem dX4_pin_56 : decode cX4_pin 56 = .ok (.invokevirtual 458, 3) := dk_182 1 202 (dk_at dksX4_pin_2 9 rfl rfl)
theorem dX4_pin_59 : decode cX4_pin 59 = .ok (.istore 4, 2) := dk_54 4 (dk_at dksX4_pin_2 12 rfl rfl)
theorem dX4_pin_61 : decode cX4_pin 61 = .ok (.aload_n 0, 1) := dk_42 (dk_at dksX4_pin_2 14 rfl rfl)
theorem dX4_pin_62 : decode cX4_pin 62 = .ok (.invokevirtual 302, 3) := dk_182 1 46 (dk_at dksX4_pin_2 15 rfl rfl)
theorem dX4_pin_65 : decode cX4_pin 65 = .ok (.ireturn, 1) := dk_172 (dk_at dksX4_pin_2 18 rfl rfl)
abbrev cX4_set_2 : ByteArray := prog_14_method_140_code
def yX4_set_2 : MethodName := ⟨RX4, "set", "(II)I"⟩
def dkwX4_set_2_1 : List UInt8 := [167, 0, 4, 3, 182, 1, 102, 154, 0, 5, 3, 172, 42, 4, 27, 96, 28, 7, 182, 1, 202, 172]
abbrev dktX4_set_2_1 : List UInt8 := dkwX4_set_2_1 ++ []
def dkwX4_set_2_0 : List UInt8 := [42, 27, 184, 1, 121, 153, 0, 22, 28, 27, 184, 1, 37, 27, 184, 1, 40, 184, 0, 121, 153, 0, 7, 4]
abbrev dktX4_set_2_0 : List UInt8 := dkwX4_set_2_0 ++ dktX4_set_2_1
theorem dksX4_set_2_0 : cX4_set_2.data.toList.drop 0 = dktX4_set_2_0 := by decide +kernel
theorem dksX4_set_2_1 : cX4_set_2.data.toList.drop 24 = dktX4_set_2_1 := dk_seg dksX4_set_2_0 24 rfl rfl
theorem dX4_set_2_0 : decode cX4_set_2 0 = .ok (.aload_n 0, 1) := dk_42 (dk_at dksX4_set_2_0 0 rfl rfl)
theorem dX4_set_2_1 : decode cX4_set_2 1 = .ok (.iload_n 1, 1) := dk_27 (dk_at dksX4_set_2_0 1 rfl rfl)
theorem dX4_set_2_2 : decode cX4_set_2 2 = .ok (.invokestatic 377, 3) := dk_184 1 121 (dk_at dksX4_set_2_0 2 rfl rfl)
theorem dX4_set_2_5 : decode cX4_set_2 5 = .ok (.ifCond .eq 22, 3) := dk_153 0 22 (dk_at dksX4_set_2_0 5 rfl rfl)
theorem dX4_set_2_8 : decode cX4_set_2 8 = .ok (.iload_n 2, 1) := dk_28 (dk_at dksX4_set_2_0 8 rfl rfl)
theorem dX4_set_2_9 : decode cX4_set_2 9 = .ok (.iload_n 1, 1) := dk_27 (dk_at dksX4_set_2_0 9 rfl rfl)
theorem dX4_set_2_10 : decode cX4_set_2 10 = .ok (.invokestatic 293, 3) := dk_184 1 37 (dk_at dksX4_set_2_0 10 rfl rfl)
theorem dX4_set_2_13 : decode cX4_set_2 13 = .ok (.iload_n 1, 1) := dk_27 (dk_at dksX4_set_2_0 13 rfl rfl)
theorem dX4_set_2_14 : decode cX4_set_2 14 = .ok (.invokestatic 296, 3) := dk_184 1 40 (dk_at dksX4_set_2_0 14 rfl rfl)
theorem dX4_set_2_17 : decode cX4_set_2 17 = .ok (.invokestatic 121, 3) := dk_184 0 121 (dk_at dksX4_set_2_0 17 rfl rfl)
theorem dX4_set_2_20 : decode cX4_set_2 20 = .ok (.ifCond .eq 7, 3) := dk_153 0 7 (dk_at dksX4_set_2_0 20 rfl rfl)
theorem dX4_set_2_23 : decode cX4_set_2 23 = .ok (.iconst 1, 1) := dk_4 (dk_at dksX4_set_2_0 23 rfl rfl)
theorem dX4_set_2_24 : decode cX4_set_2 24 = .ok (.goto 4, 3) := dk_167 0 4 (dk_at dksX4_set_2_1 0 rfl rfl)
theorem dX4_set_2_27 : decode cX4_set_2 27 = .ok (.iconst 0, 1) := dk_3 (dk_at dksX4_set_2_1 3 rfl rfl)
theorem dX4_set_2_28 : decode cX4_set_2 28 = .ok (.invokevirtual 358, 3) := dk_182 1 102 (dk_at dksX4_set_2_1 4 rfl rfl)
theorem dX4_set_2_31 : decode cX4_set_2 31 = .ok (.ifCond .ne 5, 3) := dk_154 0 5 (dk_at dksX4_set_2_1 7 rfl rfl)
theorem dX4_set_2_34 : decode cX4_set_2 34 = .ok (.iconst 0, 1) := dk_3 (dk_at dksX4_set_2_1 10 rfl rfl)
theorem dX4_set_2_35 : decode cX4_set_2 35 = .ok (.ireturn, 1) := dk_172 (dk_at dksX4_set_2_1 11 rfl rfl)
theorem dX4_set_2_36 : decode cX4_set_2 36 = .ok (.aload_n 0, 1) := dk_42 (dk_at dksX4_set_2_1 12 rfl rfl)
theorem dX4_set_2_37 : decode cX4_set_2 37 = .ok (.iconst 1, 1) := dk_4 (dk_at dksX4_set_2_1 13 rfl rfl)
theorem dX4_set_2_38 : decode cX4_set_2 38 = .ok (.iload_n 1, 1) := dk_27 (dk_at dksX4_set_2_1 14 rfl rfl)
theorem dX4_set_2_39 : decode cX4_set_2 39 = .ok (.iadd, 1) := dk_96 (dk_at dksX4_set_2_1 15 rfl rfl)
theorem dX4_set_2_40 : decode cX4_set_2 40 = .ok (.iload_n 2, 1) := dk_28 (dk_at dksX4_set_2_1 16 rfl rfl)
theorem dX4_set_2_41 : decode cX4_set_2 41 = .ok (.iconst 4, 1) := dk_7 (dk_at dksX4_set_2_1 17 rfl rfl)
theorem dX4_set_2_42 : decode cX4_set_2 42 = .ok (.invokevirtual 458, 3) := dk_182 1 202 (dk_at dksX4_set_2_1 18 rfl rfl)
theorem dX4_set_2_45 : decode cX4_set_2 45 = .ok (.ireturn, 1) := dk_172 (dk_at dksX4_set_2_1 21 rfl rfl)
abbrev cX4_setPrice : ByteArray := prog_14_method_141_code
def yX4_setPrice : MethodName := ⟨RX4, "setPrice", "(II)I"⟩
def dkwX4_setPrice_1 : List UInt8 := [182, 1, 102, 153, 0, 16, 42, 16, 6, 27, 96, 28, 8, 182, 1, 202, 167, 0, 4, 3, 172]
abbrev dktX4_setPrice_1 : List UInt8 := dkwX4_setPrice_1 ++ []
def dkwX4_setPrice_0 : List UInt8 := [42, 27, 184, 1, 124, 153, 0, 17, 28, 3, 16, 40, 184, 0, 121, 153, 0, 7, 4, 167, 0, 4, 3]
abbrev dktX4_setPrice_0 : List UInt8 := dkwX4_setPrice_0 ++ dktX4_setPrice_1
theorem dksX4_setPrice_0 : cX4_setPrice.data.toList.drop 0 = dktX4_setPrice_0 := by decide +kernel
theorem dksX4_setPrice_1 : cX4_setPrice.data.toList.drop 23 = dktX4_setPrice_1 := dk_seg dksX4_setPrice_0 23 rfl rfl
theorem dX4_setPrice_0 : decode cX4_setPrice 0 = .ok (.aload_n 0, 1) := dk_42 (dk_at dksX4_setPrice_0 0 rfl rfl)
theorem dX4_setPrice_1 : decode cX4_setPrice 1 = .ok (.iload_n 1, 1) := dk_27 (dk_at dksX4_setPrice_0 1 rfl rfl)
theorem dX4_setPrice_2 : decode cX4_setPrice 2 = .ok (.invokestatic 380, 3) := dk_184 1 124 (dk_at dksX4_setPrice_0 2 rfl rfl)
theorem dX4_setPrice_5 : decode cX4_setPrice 5 = .ok (.ifCond .eq 17, 3) := dk_153 0 17 (dk_at dksX4_setPrice_0 5 rfl rfl)
theorem dX4_setPrice_8 : decode cX4_setPrice 8 = .ok (.iload_n 2, 1) := dk_28 (dk_at dksX4_setPrice_0 8 rfl rfl)
theorem dX4_setPrice_9 : decode cX4_setPrice 9 = .ok (.iconst 0, 1) := dk_3 (dk_at dksX4_setPrice_0 9 rfl rfl)
theorem dX4_setPrice_10 : decode cX4_setPrice 10 = .ok (.bipush 40, 2) := dk_16 40 (dk_at dksX4_setPrice_0 10 rfl rfl)
theorem dX4_setPrice_12 : decode cX4_setPrice 12 = .ok (.invokestatic 121, 3) := dk_184 0 121 (dk_at dksX4_setPrice_0 12 rfl rfl)
theorem dX4_setPrice_15 : decode cX4_setPrice 15 = .ok (.ifCond .eq 7, 3) := dk_153 0 7 (dk_at dksX4_setPrice_0 15 rfl rfl)
theorem dX4_setPrice_18 : decode cX4_setPrice 18 = .ok (.iconst 1, 1) := dk_4 (dk_at dksX4_setPrice_0 18 rfl rfl)
theorem dX4_setPrice_19 : decode cX4_setPrice 19 = .ok (.goto 4, 3) := dk_167 0 4 (dk_at dksX4_setPrice_0 19 rfl rfl)
theorem dX4_setPrice_22 : decode cX4_setPrice 22 = .ok (.iconst 0, 1) := dk_3 (dk_at dksX4_setPrice_0 22 rfl rfl)
theorem dX4_setPrice_23 : decode cX4_setPrice 23 = .ok (.invokevirtual 358, 3) := dk_182 1 102 (dk_at dksX4_setPrice_1 0 rfl rfl)
theorem dX4_setPrice_26 : decode cX4_setPrice 26 = .ok (.ifCond .eq 16, 3) := dk_153 0 16 (dk_at dksX4_setPrice_1 3 rfl rfl)
theorem dX4_setPrice_29 : decode cX4_setPrice 29 = .ok (.aload_n 0, 1) := dk_42 (dk_at dksX4_setPrice_1 6 rfl rfl)
theorem dX4_setPrice_30 : decode cX4_setPrice 30 = .ok (.bipush 6, 2) := dk_16 6 (dk_at dksX4_setPrice_1 7 rfl rfl)
theorem dX4_setPrice_32 : decode cX4_setPrice 32 = .ok (.iload_n 1, 1) := dk_27 (dk_at dksX4_setPrice_1 9 rfl rfl)
theorem dX4_setPrice_33 : decode cX4_setPrice 33 = .ok (.iadd, 1) := dk_96 (dk_at dksX4_setPrice_1 10 rfl rfl)
theorem dX4_setPrice_34 : decode cX4_setPrice 34 = .ok (.iload_n 2, 1) := dk_28 (dk_at dksX4_setPrice_1 11 rfl rfl)
theorem dX4_setPrice_35 : decode cX4_setPrice 35 = .ok (.iconst 5, 1) := dk_8 (dk_at dksX4_setPrice_1 12 rfl rfl)
theorem dX4_setPrice_36 : decode cX4_setPrice 36 = .ok (.invokevirtual 458, 3) := dk_182 1 202 (dk_at dksX4_setPrice_1 13 rfl rfl)
theorem dX4_setPrice_39 : decode cX4_setPrice 39 = .ok (.goto 4, 3) := dk_167 0 4 (dk_at dksX4_setPrice_1 16 rfl rfl)
theorem dX4_setPrice_42 : decode cX4_setPrice 42 = .ok (.iconst 0, 1) := dk_3 (dk_at dksX4_setPrice_1 19 rfl rfl)
theorem dX4_setPrice_43 : decode cX4_setPrice 43 = .ok (.ireturn, 1) := dk_172 (dk_at dksX4_setPrice_1 20 rfl rfl)
abbrev cX4_undo : ByteArray := prog_14_method_142_code
def yX4_undo : MethodName := ⟨RX4, "undo", "()I"⟩
def dkwX4_undo_2 : List UInt8 := [3, 17, 0, 171, 184, 1, 78, 42, 180, 1, 85, 172]
abbrev dktX4_undo_2 : List UInt8 := dkwX4_undo_2 ++ []
def dkwX4_undo_1 : List UInt8 := [180, 1, 85, 4, 100, 181, 1, 85, 42, 180, 0, 26, 17, 0, 171, 42, 180, 1, 85, 104, 42, 180, 0, 13]
abbrev dktX4_undo_1 : List UInt8 := dkwX4_undo_1 ++ dktX4_undo_2
def dkwX4_undo_0 : List UInt8 := [42, 42, 180, 1, 85, 158, 0, 7, 4, 167, 0, 4, 3, 182, 1, 102, 154, 0, 5, 3, 172, 42, 42]
abbrev dktX4_undo_0 : List UInt8 := dkwX4_undo_0 ++ dktX4_undo_1
theorem dksX4_undo_0 : cX4_undo.data.toList.drop 0 = dktX4_undo_0 := by decide +kernel
theorem dksX4_undo_1 : cX4_undo.data.toList.drop 23 = dktX4_undo_1 := dk_seg dksX4_undo_0 23 rfl rfl
theorem dksX4_undo_2 : cX4_undo.data.toList.drop 47 = dktX4_undo_2 := dk_seg dksX4_undo_1 24 rfl rfl
theorem dX4_undo_0 : decode cX4_undo 0 = .ok (.aload_n 0, 1) := dk_42 (dk_at dksX4_undo_0 0 rfl rfl)
theorem dX4_undo_1 : decode cX4_undo 1 = .ok (.aload_n 0, 1) := dk_42 (dk_at dksX4_undo_0 1 rfl rfl)
theorem dX4_undo_2 : decode cX4_undo 2 = .ok (.getfield 341, 3) := dk_180 1 85 (dk_at dksX4_undo_0 2 rfl rfl)
theorem dX4_undo_5 : decode cX4_undo 5 = .ok (.ifCond .le 7, 3) := dk_158 0 7 (dk_at dksX4_undo_0 5 rfl rfl)
theorem dX4_undo_8 : decode cX4_undo 8 = .ok (.iconst 1, 1) := dk_4 (dk_at dksX4_undo_0 8 rfl rfl)
theorem dX4_undo_9 : decode cX4_undo 9 = .ok (.goto 4, 3) := dk_167 0 4 (dk_at dksX4_undo_0 9 rfl rfl)
theorem dX4_undo_12 : decode cX4_undo 12 = .ok (.iconst 0, 1) := dk_3 (dk_at dksX4_undo_0 12 rfl rfl)
theorem dX4_undo_13 : decode cX4_undo 13 = .ok (.invokevirtual 358, 3) := dk_182 1 102 (dk_at dksX4_undo_0 13 rfl rfl)
theorem dX4_undo_16 : decode cX4_undo 16 = .ok (.ifCond .ne 5, 3) := dk_154 0 5 (dk_at dksX4_undo_0 16 rfl rfl)
theorem dX4_undo_19 : decode cX4_undo 19 = .ok (.iconst 0, 1) := dk_3 (dk_at dksX4_undo_0 19 rfl rfl)
theorem dX4_undo_20 : decode cX4_undo 20 = .ok (.ireturn, 1) := dk_172 (dk_at dksX4_undo_0 20 rfl rfl)
theorem dX4_undo_21 : decode cX4_undo 21 = .ok (.aload_n 0, 1) := dk_42 (dk_at dksX4_undo_0 21 rfl rfl)
theorem dX4_undo_22 : decode cX4_undo 22 = .ok (.aload_n 0, 1) := dk_42 (dk_at dksX4_undo_0 22 rfl rfl)
theorem dX4_undo_23 : decode cX4_undo 23 = .ok (.getfield 341, 3) := dk_180 1 85 (dk_at dksX4_undo_1 0 rfl rfl)
theorem dX4_undo_26 : decode cX4_undo 26 = .ok (.iconst 1, 1) := dk_4 (dk_at dksX4_undo_1 3 rfl rfl)
theorem dX4_undo_27 : decode cX4_undo 27 = .ok (.isub, 1) := dk_100 (dk_at dksX4_undo_1 4 rfl rfl)
theorem dX4_undo_28 : decode cX4_undo 28 = .ok (.putfield 341, 3) := dk_181 1 85 (dk_at dksX4_undo_1 5 rfl rfl)
theorem dX4_undo_31 : decode cX4_undo 31 = .ok (.aload_n 0, 1) := dk_42 (dk_at dksX4_undo_1 8 rfl rfl)
theorem dX4_undo_32 : decode cX4_undo 32 = .ok (.getfield 26, 3) := dk_180 0 26 (dk_at dksX4_undo_1 9 rfl rfl)
theorem dX4_undo_35 : decode cX4_undo 35 = .ok (.sipush 171, 3) := dk_17 0 171 (dk_at dksX4_undo_1 12 rfl rfl)
theorem dX4_undo_38 : decode cX4_undo 38 = .ok (.aload_n 0, 1) := dk_42 (dk_at dksX4_undo_1 15 rfl rfl)
theorem dX4_undo_39 : decode cX4_undo 39 = .ok (.getfield 341, 3) := dk_180 1 85 (dk_at dksX4_undo_1 16 rfl rfl)
theorem dX4_undo_42 : decode cX4_undo 42 = .ok (.imul, 1) := dk_104 (dk_at dksX4_undo_1 19 rfl rfl)
theorem dX4_undo_43 : decode cX4_undo 43 = .ok (.aload_n 0, 1) := dk_42 (dk_at dksX4_undo_1 20 rfl rfl)
theorem dX4_undo_44 : decode cX4_undo 44 = .ok (.getfield 13, 3) := dk_180 0 13 (dk_at dksX4_undo_1 21 rfl rfl)
theorem dX4_undo_47 : decode cX4_undo 47 = .ok (.iconst 0, 1) := dk_3 (dk_at dksX4_undo_2 0 rfl rfl)
theorem dX4_undo_48 : decode cX4_undo 48 = .ok (.sipush 171, 3) := dk_17 0 171 (dk_at dksX4_undo_2 1 rfl rfl)
theorem dX4_undo_51 : decode cX4_undo 51 = .ok (.invokestatic 334, 3) := dk_184 1 78 (dk_at dksX4_undo_2 4 rfl rfl)
theorem dX4_undo_54 : decode cX4_undo 54 = .ok (.aload_n 0, 1) := dk_42 (dk_at dksX4_undo_2 7 rfl rfl)
theorem dX4_undo_55 : decode cX4_undo 55 = .ok (.getfield 341, 3) := dk_180 1 85 (dk_at dksX4_undo_2 8 rfl rfl)
theorem dX4_undo_58 : decode cX4_undo 58 = .ok (.ireturn, 1) := dk_172 (dk_at dksX4_undo_2 11 rfl rfl)
abbrev cX4_printParse : ByteArray := prog_14_method_146_code
def yX4_printParse : MethodName := ⟨RX4, "printParse", "(I)I"⟩
def dkwX4_printParse_2 : List UInt8 := [172]
abbrev dktX4_printParse_2 : List UInt8 := dkwX4_printParse_2 ++ []
def dkwX4_printParse_1 : List UInt8 := [61, 28, 42, 180, 0, 179, 162, 0, 14, 42, 28, 182, 1, 214, 132, 2, 1, 167, 255, 240, 42, 180, 1, 205]
abbrev dktX4_printParse_1 : List UInt8 := dkwX4_printParse_1 ++ dktX4_printParse_2
def dkwX4_printParse_0 : List UInt8 := [42, 27, 184, 1, 142, 182, 1, 102, 154, 0, 5, 3, 172, 42, 27, 182, 0, 217, 42, 3, 181, 1, 205, 3]
abbrev dktX4_printParse_0 : List UInt8 := dkwX4_printParse_0 ++ dktX4_printParse_1
theorem dksX4_printParse_0 : cX4_printParse.data.toList.drop 0 = dktX4_printParse_0 := by decide +kernel
theorem dksX4_printParse_1 : cX4_printParse.data.toList.drop 24 = dktX4_printParse_1 := dk_seg dksX4_printParse_0 24 rfl rfl
theorem dksX4_printParse_2 : cX4_printParse.data.toList.drop 48 = dktX4_printParse_2 := dk_seg dksX4_printParse_1 24 rfl rfl
theorem dX4_printParse_0 : decode cX4_printParse 0 = .ok (.aload_n 0, 1) := dk_42 (dk_at dksX4_printParse_0 0 rfl rfl)
theorem dX4_printParse_1 : decode cX4_printParse 1 = .ok (.iload_n 1, 1) := dk_27 (dk_at dksX4_printParse_0 1 rfl rfl)
theorem dX4_printParse_2 : decode cX4_printParse 2 = .ok (.invokestatic 398, 3) := dk_184 1 142 (dk_at dksX4_printParse_0 2 rfl rfl)
theorem dX4_printParse_5 : decode cX4_printParse 5 = .ok (.invokevirtual 358, 3) := dk_182 1 102 (dk_at dksX4_printParse_0 5 rfl rfl)
theorem dX4_printParse_8 : decode cX4_printParse 8 = .ok (.ifCond .ne 5, 3) := dk_154 0 5 (dk_at dksX4_printParse_0 8 rfl rfl)
theorem dX4_printParse_11 : decode cX4_printParse 11 = .ok (.iconst 0, 1) := dk_3 (dk_at dksX4_printParse_0 11 rfl rfl)
theorem dX4_printParse_12 : decode cX4_printParse 12 = .ok (.ireturn, 1) := dk_172 (dk_at dksX4_printParse_0 12 rfl rfl)
theorem dX4_printParse_13 : decode cX4_printParse 13 = .ok (.aload_n 0, 1) := dk_42 (dk_at dksX4_printParse_0 13 rfl rfl)
theorem dX4_printParse_14 : decode cX4_printParse 14 = .ok (.iload_n 1, 1) := dk_27 (dk_at dksX4_printParse_0 14 rfl rfl)
theorem dX4_printParse_15 : decode cX4_printParse 15 = .ok (.invokevirtual 217, 3) := dk_182 0 217 (dk_at dksX4_printParse_0 15 rfl rfl)
theorem dX4_printParse_18 : decode cX4_printParse 18 = .ok (.aload_n 0, 1) := dk_42 (dk_at dksX4_printParse_0 18 rfl rfl)
theorem dX4_printParse_19 : decode cX4_printParse 19 = .ok (.iconst 0, 1) := dk_3 (dk_at dksX4_printParse_0 19 rfl rfl)
theorem dX4_printParse_20 : decode cX4_printParse 20 = .ok (.putfield 461, 3) := dk_181 1 205 (dk_at dksX4_printParse_0 20 rfl rfl)
theorem dX4_printParse_23 : decode cX4_printParse 23 = .ok (.iconst 0, 1) := dk_3 (dk_at dksX4_printParse_0 23 rfl rfl)
theorem dX4_printParse_24 : decode cX4_printParse 24 = .ok (.istore_n 2, 1) := dk_61 (dk_at dksX4_printParse_1 0 rfl rfl)
theorem dX4_printParse_25 : decode cX4_printParse 25 = .ok (.iload_n 2, 1) := dk_28 (dk_at dksX4_printParse_1 1 rfl rfl)
theorem dX4_printParse_26 : decode cX4_printParse 26 = .ok (.aload_n 0, 1) := dk_42 (dk_at dksX4_printParse_1 2 rfl rfl)
theorem dX4_printParse_27 : decode cX4_printParse 27 = .ok (.getfield 179, 3) := dk_180 0 179 (dk_at dksX4_printParse_1 3 rfl rfl)
theorem dX4_printParse_30 : decode cX4_printParse 30 = .ok (.if_icmp .ge 14, 3) := dk_162 0 14 (dk_at dksX4_printParse_1 6 rfl rfl)
theorem dX4_printParse_33 : decode cX4_printParse 33 = .ok (.aload_n 0, 1) := dk_42 (dk_at dksX4_printParse_1 9 rfl rfl)
theorem dX4_printParse_34 : decode cX4_printParse 34 = .ok (.iload_n 2, 1) := dk_28 (dk_at dksX4_printParse_1 10 rfl rfl)
theorem dX4_printParse_35 : decode cX4_printParse 35 = .ok (.invokevirtual 470, 3) := dk_182 1 214 (dk_at dksX4_printParse_1 11 rfl rfl)
theorem dX4_printParse_38 : decode cX4_printParse 38 = .ok (.iinc 2 1, 3) := dk_132 2 1 (dk_at dksX4_printParse_1 14 rfl rfl)
theorem dX4_printParse_41 : decode cX4_printParse 41 = .ok (.goto (-16), 3) := dk_167 255 240 (dk_at dksX4_printParse_1 17 rfl rfl)
theorem dX4_printParse_44 : decode cX4_printParse 44 = .ok (.aload_n 0, 1) := dk_42 (dk_at dksX4_printParse_1 20 rfl rfl)
theorem dX4_printParse_45 : decode cX4_printParse 45 = .ok (.getfield 461, 3) := dk_180 1 205 (dk_at dksX4_printParse_1 21 rfl rfl)
theorem dX4_printParse_48 : decode cX4_printParse 48 = .ok (.ireturn, 1) := dk_172 (dk_at dksX4_printParse_2 0 rfl rfl)
abbrev cX4_writesStep : ByteArray := prog_14_method_145_code
def yX4_writesStep : MethodName := ⟨RX4, "writesStep", "(I)V"⟩
def dkwX4_writesStep_2 : List UInt8 := [182, 1, 208, 42, 42, 180, 0, 44, 27, 46, 182, 1, 211, 42, 16, 41, 182, 1, 208, 177]
abbrev dktX4_writesStep_2 : List UInt8 := dkwX4_writesStep_2 ++ []
def dkwX4_writesStep_1 : List UInt8 := [182, 1, 208, 177, 42, 16, 40, 182, 1, 208, 42, 42, 180, 0, 41, 27, 46, 182, 1, 211, 42, 16, 44]
abbrev dktX4_writesStep_1 : List UInt8 := dkwX4_writesStep_1 ++ dktX4_writesStep_2
def dkwX4_writesStep_0 : List UInt8 := [42, 180, 0, 44, 27, 46, 154, 0, 21, 42, 16, 97, 42, 42, 180, 0, 38, 27, 46, 182, 0, 89, 96]
abbrev dktX4_writesStep_0 : List UInt8 := dkwX4_writesStep_0 ++ dktX4_writesStep_1
theorem dksX4_writesStep_0 : cX4_writesStep.data.toList.drop 0 = dktX4_writesStep_0 := by decide +kernel
theorem dksX4_writesStep_1 : cX4_writesStep.data.toList.drop 23 = dktX4_writesStep_1 := dk_seg dksX4_writesStep_0 23 rfl rfl
theorem dksX4_writesStep_2 : cX4_writesStep.data.toList.drop 46 = dktX4_writesStep_2 := dk_seg dksX4_writesStep_1 23 rfl rfl
theorem dX4_writesStep_0 : decode cX4_writesStep 0 = .ok (.aload_n 0, 1) := dk_42 (dk_at dksX4_writesStep_0 0 rfl rfl)
theorem dX4_writesStep_1 : decode cX4_writesStep 1 = .ok (.getfield 44, 3) := dk_180 0 44 (dk_at dksX4_writesStep_0 1 rfl rfl)
theorem dX4_writesStep_4 : decode cX4_writesStep 4 = .ok (.iload_n 1, 1) := dk_27 (dk_at dksX4_writesStep_0 4 rfl rfl)
theorem dX4_writesStep_5 : decode cX4_writesStep 5 = .ok (.iaload, 1) := dk_46 (dk_at dksX4_writesStep_0 5 rfl rfl)
theorem dX4_writesStep_6 : decode cX4_writesStep 6 = .ok (.ifCond .ne 21, 3) := dk_154 0 21 (dk_at dksX4_writesStep_0 6 rfl rfl)
theorem dX4_writesStep_9 : decode cX4_writesStep 9 = .ok (.aload_n 0, 1) := dk_42 (dk_at dksX4_writesStep_0 9 rfl rfl)
theorem dX4_writesStep_10 : decode cX4_writesStep 10 = .ok (.bipush 97, 2) := dk_16 97 (dk_at dksX4_writesStep_0 10 rfl rfl)
theorem dX4_writesStep_12 : decode cX4_writesStep 12 = .ok (.aload_n 0, 1) := dk_42 (dk_at dksX4_writesStep_0 12 rfl rfl)
theorem dX4_writesStep_13 : decode cX4_writesStep 13 = .ok (.aload_n 0, 1) := dk_42 (dk_at dksX4_writesStep_0 13 rfl rfl)
theorem dX4_writesStep_14 : decode cX4_writesStep 14 = .ok (.getfield 38, 3) := dk_180 0 38 (dk_at dksX4_writesStep_0 14 rfl rfl)
theorem dX4_writesStep_17 : decode cX4_writesStep 17 = .ok (.iload_n 1, 1) := dk_27 (dk_at dksX4_writesStep_0 17 rfl rfl)
theorem dX4_writesStep_18 : decode cX4_writesStep 18 = .ok (.iaload, 1) := dk_46 (dk_at dksX4_writesStep_0 18 rfl rfl)
theorem dX4_writesStep_19 : decode cX4_writesStep 19 = .ok (.invokevirtual 89, 3) := dk_182 0 89 (dk_at dksX4_writesStep_0 19 rfl rfl)
theorem dX4_writesStep_22 : decode cX4_writesStep 22 = .ok (.iadd, 1) := dk_96 (dk_at dksX4_writesStep_0 22 rfl rfl)
theorem dX4_writesStep_23 : decode cX4_writesStep 23 = .ok (.invokevirtual 464, 3) := dk_182 1 208 (dk_at dksX4_writesStep_1 0 rfl rfl)
theorem dX4_writesStep_26 : decode cX4_writesStep 26 = .ok (.return_, 1) := dk_177 (dk_at dksX4_writesStep_1 3 rfl rfl)
theorem dX4_writesStep_27 : decode cX4_writesStep 27 = .ok (.aload_n 0, 1) := dk_42 (dk_at dksX4_writesStep_1 4 rfl rfl)
theorem dX4_writesStep_28 : decode cX4_writesStep 28 = .ok (.bipush 40, 2) := dk_16 40 (dk_at dksX4_writesStep_1 5 rfl rfl)
theorem dX4_writesStep_30 : decode cX4_writesStep 30 = .ok (.invokevirtual 464, 3) := dk_182 1 208 (dk_at dksX4_writesStep_1 7 rfl rfl)
theorem dX4_writesStep_33 : decode cX4_writesStep 33 = .ok (.aload_n 0, 1) := dk_42 (dk_at dksX4_writesStep_1 10 rfl rfl)
theorem dX4_writesStep_34 : decode cX4_writesStep 34 = .ok (.aload_n 0, 1) := dk_42 (dk_at dksX4_writesStep_1 11 rfl rfl)
theorem dX4_writesStep_35 : decode cX4_writesStep 35 = .ok (.getfield 41, 3) := dk_180 0 41 (dk_at dksX4_writesStep_1 12 rfl rfl)
theorem dX4_writesStep_38 : decode cX4_writesStep 38 = .ok (.iload_n 1, 1) := dk_27 (dk_at dksX4_writesStep_1 15 rfl rfl)
theorem dX4_writesStep_39 : decode cX4_writesStep 39 = .ok (.iaload, 1) := dk_46 (dk_at dksX4_writesStep_1 16 rfl rfl)
theorem dX4_writesStep_40 : decode cX4_writesStep 40 = .ok (.invokevirtual 467, 3) := dk_182 1 211 (dk_at dksX4_writesStep_1 17 rfl rfl)
theorem dX4_writesStep_43 : decode cX4_writesStep 43 = .ok (.aload_n 0, 1) := dk_42 (dk_at dksX4_writesStep_1 20 rfl rfl)
theorem dX4_writesStep_44 : decode cX4_writesStep 44 = .ok (.bipush 44, 2) := dk_16 44 (dk_at dksX4_writesStep_1 21 rfl rfl)
theorem dX4_writesStep_46 : decode cX4_writesStep 46 = .ok (.invokevirtual 464, 3) := dk_182 1 208 (dk_at dksX4_writesStep_2 0 rfl rfl)
theorem dX4_writesStep_49 : decode cX4_writesStep 49 = .ok (.aload_n 0, 1) := dk_42 (dk_at dksX4_writesStep_2 3 rfl rfl)
theorem dX4_writesStep_50 : decode cX4_writesStep 50 = .ok (.aload_n 0, 1) := dk_42 (dk_at dksX4_writesStep_2 4 rfl rfl)
theorem dX4_writesStep_51 : decode cX4_writesStep 51 = .ok (.getfield 44, 3) := dk_180 0 44 (dk_at dksX4_writesStep_2 5 rfl rfl)
theorem dX4_writesStep_54 : decode cX4_writesStep 54 = .ok (.iload_n 1, 1) := dk_27 (dk_at dksX4_writesStep_2 8 rfl rfl)
theorem dX4_writesStep_55 : decode cX4_writesStep 55 = .ok (.iaload, 1) := dk_46 (dk_at dksX4_writesStep_2 9 rfl rfl)
theorem dX4_writesStep_56 : decode cX4_writesStep 56 = .ok (.invokevirtual 467, 3) := dk_182 1 211 (dk_at dksX4_writesStep_2 10 rfl rfl)
theorem dX4_writesStep_59 : decode cX4_writesStep 59 = .ok (.aload_n 0, 1) := dk_42 (dk_at dksX4_writesStep_2 13 rfl rfl)
theorem dX4_writesStep_60 : decode cX4_writesStep 60 = .ok (.bipush 41, 2) := dk_16 41 (dk_at dksX4_writesStep_2 14 rfl rfl)
theorem dX4_writesStep_62 : decode cX4_writesStep 62 = .ok (.invokevirtual 464, 3) := dk_182 1 208 (dk_at dksX4_writesStep_2 16 rfl rfl)
theorem dX4_writesStep_65 : decode cX4_writesStep 65 = .ok (.return_, 1) := dk_177 (dk_at dksX4_writesStep_2 19 rfl rfl)
abbrev cX4_writes : ByteArray := prog_14_method_143_code
def yX4_writes : MethodName := ⟨RX4, "writes", "(I)V"⟩
def dkwX4_writes_0 : List UInt8 := [42, 180, 0, 61, 42, 180, 1, 205, 27, 145, 84, 42, 42, 180, 1, 205, 4, 96, 181, 1, 205, 177]
abbrev dktX4_writes_0 : List UInt8 := dkwX4_writes_0 ++ []
theorem dksX4_writes_0 : cX4_writes.data.toList.drop 0 = dktX4_writes_0 := by decide +kernel
theorem dX4_writes_0 : decode cX4_writes 0 = .ok (.aload_n 0, 1) := dk_42 (dk_at dksX4_writes_0 0 rfl rfl)
theorem dX4_writes_1 : decode cX4_writes 1 = .ok (.getfield 61, 3) := dk_180 0 61 (dk_at dksX4_writes_0 1 rfl rfl)
theorem dX4_writes_4 : decode cX4_writes 4 = .ok (.aload_n 0, 1) := dk_42 (dk_at dksX4_writes_0 4 rfl rfl)
theorem dX4_writes_5 : decode cX4_writes 5 = .ok (.getfield 461, 3) := dk_180 1 205 (dk_at dksX4_writes_0 5 rfl rfl)
theorem dX4_writes_8 : decode cX4_writes 8 = .ok (.iload_n 1, 1) := dk_27 (dk_at dksX4_writes_0 8 rfl rfl)
theorem dX4_writes_9 : decode cX4_writes 9 = .ok (.i2b, 1) := dk_145 (dk_at dksX4_writes_0 9 rfl rfl)
theorem dX4_writes_10 : decode cX4_writes 10 = .ok (.bastore, 1) := dk_84 (dk_at dksX4_writes_0 10 rfl rfl)
theorem dX4_writes_11 : decode cX4_writes 11 = .ok (.aload_n 0, 1) := dk_42 (dk_at dksX4_writes_0 11 rfl rfl)
theorem dX4_writes_12 : decode cX4_writes 12 = .ok (.aload_n 0, 1) := dk_42 (dk_at dksX4_writes_0 12 rfl rfl)
theorem dX4_writes_13 : decode cX4_writes 13 = .ok (.getfield 461, 3) := dk_180 1 205 (dk_at dksX4_writes_0 13 rfl rfl)
theorem dX4_writes_16 : decode cX4_writes 16 = .ok (.iconst 1, 1) := dk_4 (dk_at dksX4_writes_0 16 rfl rfl)
theorem dX4_writes_17 : decode cX4_writes 17 = .ok (.iadd, 1) := dk_96 (dk_at dksX4_writes_0 17 rfl rfl)
theorem dX4_writes_18 : decode cX4_writes 18 = .ok (.putfield 461, 3) := dk_181 1 205 (dk_at dksX4_writes_0 18 rfl rfl)
theorem dX4_writes_21 : decode cX4_writes 21 = .ok (.return_, 1) := dk_177 (dk_at dksX4_writes_0 21 rfl rfl)
abbrev cX4_writesNumber : ByteArray := prog_14_method_144_code
def yX4_writesNumber : MethodName := ⟨RX4, "writesNumber", "(I)V"⟩
def dkwX4_writesNumber_1 : List UInt8 := [96, 182, 1, 208, 177]
abbrev dktX4_writesNumber_1 : List UInt8 := dkwX4_writesNumber_1 ++ []
def dkwX4_writesNumber_0 : List UInt8 := [27, 16, 9, 164, 0, 14, 42, 16, 48, 27, 16, 10, 108, 96, 182, 1, 208, 42, 16, 48, 27, 16, 10, 112]
abbrev dktX4_writesNumber_0 : List UInt8 := dkwX4_writesNumber_0 ++ dktX4_writesNumber_1
theorem dksX4_writesNumber_0 : cX4_writesNumber.data.toList.drop 0 = dktX4_writesNumber_0 := by decide +kernel
theorem dksX4_writesNumber_1 : cX4_writesNumber.data.toList.drop 24 = dktX4_writesNumber_1 := dk_seg dksX4_writesNumber_0 24 rfl rfl
theorem dX4_writesNumber_0 : decode cX4_writesNumber 0 = .ok (.iload_n 1, 1) := dk_27 (dk_at dksX4_writesNumber_0 0 rfl rfl)
theorem dX4_writesNumber_1 : decode cX4_writesNumber 1 = .ok (.bipush 9, 2) := dk_16 9 (dk_at dksX4_writesNumber_0 1 rfl rfl)
theorem dX4_writesNumber_3 : decode cX4_writesNumber 3 = .ok (.if_icmp .le 14, 3) := dk_164 0 14 (dk_at dksX4_writesNumber_0 3 rfl rfl)
theorem dX4_writesNumber_6 : decode cX4_writesNumber 6 = .ok (.aload_n 0, 1) := dk_42 (dk_at dksX4_writesNumber_0 6 rfl rfl)
theorem dX4_writesNumber_7 : decode cX4_writesNumber 7 = .ok (.bipush 48, 2) := dk_16 48 (dk_at dksX4_writesNumber_0 7 rfl rfl)
theorem dX4_writesNumber_9 : decode cX4_writesNumber 9 = .ok (.iload_n 1, 1) := dk_27 (dk_at dksX4_writesNumber_0 9 rfl rfl)
theorem dX4_writesNumber_10 : decode cX4_writesNumber 10 = .ok (.bipush 10, 2) := dk_16 10 (dk_at dksX4_writesNumber_0 10 rfl rfl)
theorem dX4_writesNumber_12 : decode cX4_writesNumber 12 = .ok (.idiv, 1) := dk_108 (dk_at dksX4_writesNumber_0 12 rfl rfl)
theorem dX4_writesNumber_13 : decode cX4_writesNumber 13 = .ok (.iadd, 1) := dk_96 (dk_at dksX4_writesNumber_0 13 rfl rfl)
theorem dX4_writesNumber_14 : decode cX4_writesNumber 14 = .ok (.invokevirtual 464, 3) := dk_182 1 208 (dk_at dksX4_writesNumber_0 14 rfl rfl)
theorem dX4_writesNumber_17 : decode cX4_writesNumber 17 = .ok (.aload_n 0, 1) := dk_42 (dk_at dksX4_writesNumber_0 17 rfl rfl)
theorem dX4_writesNumber_18 : decode cX4_writesNumber 18 = .ok (.bipush 48, 2) := dk_16 48 (dk_at dksX4_writesNumber_0 18 rfl rfl)
theorem dX4_writesNumber_20 : decode cX4_writesNumber 20 = .ok (.iload_n 1, 1) := dk_27 (dk_at dksX4_writesNumber_0 20 rfl rfl)
theorem dX4_writesNumber_21 : decode cX4_writesNumber 21 = .ok (.bipush 10, 2) := dk_16 10 (dk_at dksX4_writesNumber_0 21 rfl rfl)
theorem dX4_writesNumber_23 : decode cX4_writesNumber 23 = .ok (.irem, 1) := dk_112 (dk_at dksX4_writesNumber_0 23 rfl rfl)
theorem dX4_writesNumber_24 : decode cX4_writesNumber 24 = .ok (.iadd, 1) := dk_96 (dk_at dksX4_writesNumber_1 0 rfl rfl)
theorem dX4_writesNumber_25 : decode cX4_writesNumber 25 = .ok (.invokevirtual 464, 3) := dk_182 1 208 (dk_at dksX4_writesNumber_1 1 rfl rfl)
theorem dX4_writesNumber_28 : decode cX4_writesNumber 28 = .ok (.return_, 1) := dk_177 (dk_at dksX4_writesNumber_1 4 rfl rfl)
abbrev cX4_printText : ByteArray := prog_14_method_147_code
def yX4_printText : MethodName := ⟨RX4, "printText", "()I"⟩
def dkwX4_printText_2 : List UInt8 := [132, 1, 1, 167, 255, 219, 42, 180, 1, 205, 172]
abbrev dktX4_printText_2 : List UInt8 := dkwX4_printText_2 ++ []
def dkwX4_printText_1 : List UInt8 := [27, 182, 0, 89, 96, 182, 1, 208, 42, 27, 182, 0, 117, 153, 0, 9, 42, 16, 33, 182, 1, 208]
abbrev dktX4_printText_1 : List UInt8 := dkwX4_printText_1 ++ dktX4_printText_2
def dkwX4_printText_0 : List UInt8 := [42, 3, 181, 0, 1, 42, 3, 181, 1, 205, 3, 60, 27, 42, 182, 0, 86, 162, 0, 35, 42, 16, 97, 42]
abbrev dktX4_printText_0 : List UInt8 := dkwX4_printText_0 ++ dktX4_printText_1
theorem dksX4_printText_0 : cX4_printText.data.toList.drop 0 = dktX4_printText_0 := by decide +kernel
theorem dksX4_printText_1 : cX4_printText.data.toList.drop 24 = dktX4_printText_1 := dk_seg dksX4_printText_0 24 rfl rfl
theorem dksX4_printText_2 : cX4_printText.data.toList.drop 46 = dktX4_printText_2 := dk_seg dksX4_printText_1 22 rfl rfl
theorem dX4_printText_0 : decode cX4_printText 0 = .ok (.aload_n 0, 1) := dk_42 (dk_at dksX4_printText_0 0 rfl rfl)
theorem dX4_printText_1 : decode cX4_printText 1 = .ok (.iconst 0, 1) := dk_3 (dk_at dksX4_printText_0 1 rfl rfl)
theorem dX4_printText_2 : decode cX4_printText 2 = .ok (.putfield 1, 3) := dk_181 0 1 (dk_at dksX4_printText_0 2 rfl rfl)
theorem dX4_printText_5 : decode cX4_printText 5 = .ok (.aload_n 0, 1) := dk_42 (dk_at dksX4_printText_0 5 rfl rfl)
theorem dX4_printText_6 : decode cX4_printText 6 = .ok (.iconst 0, 1) := dk_3 (dk_at dksX4_printText_0 6 rfl rfl)
theorem dX4_printText_7 : decode cX4_printText 7 = .ok (.putfield 461, 3) := dk_181 1 205 (dk_at dksX4_printText_0 7 rfl rfl)
theorem dX4_printText_10 : decode cX4_printText 10 = .ok (.iconst 0, 1) := dk_3 (dk_at dksX4_printText_0 10 rfl rfl)
theorem dX4_printText_11 : decode cX4_printText 11 = .ok (.istore_n 1, 1) := dk_60 (dk_at dksX4_printText_0 11 rfl rfl)
theorem dX4_printText_12 : decode cX4_printText 12 = .ok (.iload_n 1, 1) := dk_27 (dk_at dksX4_printText_0 12 rfl rfl)
theorem dX4_printText_13 : decode cX4_printText 13 = .ok (.aload_n 0, 1) := dk_42 (dk_at dksX4_printText_0 13 rfl rfl)
theorem dX4_printText_14 : decode cX4_printText 14 = .ok (.invokevirtual 86, 3) := dk_182 0 86 (dk_at dksX4_printText_0 14 rfl rfl)
theorem dX4_printText_17 : decode cX4_printText 17 = .ok (.if_icmp .ge 35, 3) := dk_162 0 35 (dk_at dksX4_printText_0 17 rfl rfl)
theorem dX4_printText_20 : decode cX4_printText 20 = .ok (.aload_n 0, 1) := dk_42 (dk_at dksX4_printText_0 20 rfl rfl)
theorem dX4_printText_21 : decode cX4_printText 21 = .ok (.bipush 97, 2) := dk_16 97 (dk_at dksX4_printText_0 21 rfl rfl)
theorem dX4_printText_23 : decode cX4_printText 23 = .ok (.aload_n 0, 1) := dk_42 (dk_at dksX4_printText_0 23 rfl rfl)
theorem dX4_printText_24 : decode cX4_printText 24 = .ok (.iload_n 1, 1) := dk_27 (dk_at dksX4_printText_1 0 rfl rfl)
theorem dX4_printText_25 : decode cX4_printText 25 = .ok (.invokevirtual 89, 3) := dk_182 0 89 (dk_at dksX4_printText_1 1 rfl rfl)
theorem dX4_printText_28 : decode cX4_printText 28 = .ok (.iadd, 1) := dk_96 (dk_at dksX4_printText_1 4 rfl rfl)
theorem dX4_printText_29 : decode cX4_printText 29 = .ok (.invokevirtual 464, 3) := dk_182 1 208 (dk_at dksX4_printText_1 5 rfl rfl)
theorem dX4_printText_32 : decode cX4_printText 32 = .ok (.aload_n 0, 1) := dk_42 (dk_at dksX4_printText_1 8 rfl rfl)
theorem dX4_printText_33 : decode cX4_printText 33 = .ok (.iload_n 1, 1) := dk_27 (dk_at dksX4_printText_1 9 rfl rfl)
theorem dX4_printText_34 : decode cX4_printText 34 = .ok (.invokevirtual 117, 3) := dk_182 0 117 (dk_at dksX4_printText_1 10 rfl rfl)
theorem dX4_printText_37 : decode cX4_printText 37 = .ok (.ifCond .eq 9, 3) := dk_153 0 9 (dk_at dksX4_printText_1 13 rfl rfl)
theorem dX4_printText_40 : decode cX4_printText 40 = .ok (.aload_n 0, 1) := dk_42 (dk_at dksX4_printText_1 16 rfl rfl)
theorem dX4_printText_41 : decode cX4_printText 41 = .ok (.bipush 33, 2) := dk_16 33 (dk_at dksX4_printText_1 17 rfl rfl)
theorem dX4_printText_43 : decode cX4_printText 43 = .ok (.invokevirtual 464, 3) := dk_182 1 208 (dk_at dksX4_printText_1 19 rfl rfl)
theorem dX4_printText_46 : decode cX4_printText 46 = .ok (.iinc 1 1, 3) := dk_132 1 1 (dk_at dksX4_printText_2 0 rfl rfl)
theorem dX4_printText_49 : decode cX4_printText 49 = .ok (.goto (-37), 3) := dk_167 255 219 (dk_at dksX4_printText_2 3 rfl rfl)
theorem dX4_printText_52 : decode cX4_printText 52 = .ok (.aload_n 0, 1) := dk_42 (dk_at dksX4_printText_2 6 rfl rfl)
theorem dX4_printText_53 : decode cX4_printText 53 = .ok (.getfield 461, 3) := dk_180 1 205 (dk_at dksX4_printText_2 7 rfl rfl)
theorem dX4_printText_56 : decode cX4_printText 56 = .ok (.ireturn, 1) := dk_172 (dk_at dksX4_printText_2 10 rfl rfl)
abbrev cX4_outputByte : ByteArray := prog_14_method_148_code
def yX4_outputByte : MethodName := ⟨RX4, "outputByte", "(I)I"⟩
def dkwX4_outputByte_1 : List UInt8 := [51, 167, 0, 4, 2, 172]
abbrev dktX4_outputByte_1 : List UInt8 := dkwX4_outputByte_1 ++ []
def dkwX4_outputByte_0 : List UInt8 := [42, 3, 181, 0, 1, 27, 3, 42, 180, 1, 205, 4, 100, 184, 0, 121, 153, 0, 12, 42, 180, 0, 61, 27]
abbrev dktX4_outputByte_0 : List UInt8 := dkwX4_outputByte_0 ++ dktX4_outputByte_1
theorem dksX4_outputByte_0 : cX4_outputByte.data.toList.drop 0 = dktX4_outputByte_0 := by decide +kernel
theorem dksX4_outputByte_1 : cX4_outputByte.data.toList.drop 24 = dktX4_outputByte_1 := dk_seg dksX4_outputByte_0 24 rfl rfl
theorem dX4_outputByte_0 : decode cX4_outputByte 0 = .ok (.aload_n 0, 1) := dk_42 (dk_at dksX4_outputByte_0 0 rfl rfl)
theorem dX4_outputByte_1 : decode cX4_outputByte 1 = .ok (.iconst 0, 1) := dk_3 (dk_at dksX4_outputByte_0 1 rfl rfl)
theorem dX4_outputByte_2 : decode cX4_outputByte 2 = .ok (.putfield 1, 3) := dk_181 0 1 (dk_at dksX4_outputByte_0 2 rfl rfl)
theorem dX4_outputByte_5 : decode cX4_outputByte 5 = .ok (.iload_n 1, 1) := dk_27 (dk_at dksX4_outputByte_0 5 rfl rfl)
theorem dX4_outputByte_6 : decode cX4_outputByte 6 = .ok (.iconst 0, 1) := dk_3 (dk_at dksX4_outputByte_0 6 rfl rfl)
theorem dX4_outputByte_7 : decode cX4_outputByte 7 = .ok (.aload_n 0, 1) := dk_42 (dk_at dksX4_outputByte_0 7 rfl rfl)
theorem dX4_outputByte_8 : decode cX4_outputByte 8 = .ok (.getfield 461, 3) := dk_180 1 205 (dk_at dksX4_outputByte_0 8 rfl rfl)
theorem dX4_outputByte_11 : decode cX4_outputByte 11 = .ok (.iconst 1, 1) := dk_4 (dk_at dksX4_outputByte_0 11 rfl rfl)
theorem dX4_outputByte_12 : decode cX4_outputByte 12 = .ok (.isub, 1) := dk_100 (dk_at dksX4_outputByte_0 12 rfl rfl)
theorem dX4_outputByte_13 : decode cX4_outputByte 13 = .ok (.invokestatic 121, 3) := dk_184 0 121 (dk_at dksX4_outputByte_0 13 rfl rfl)
theorem dX4_outputByte_16 : decode cX4_outputByte 16 = .ok (.ifCond .eq 12, 3) := dk_153 0 12 (dk_at dksX4_outputByte_0 16 rfl rfl)
theorem dX4_outputByte_19 : decode cX4_outputByte 19 = .ok (.aload_n 0, 1) := dk_42 (dk_at dksX4_outputByte_0 19 rfl rfl)
theorem dX4_outputByte_20 : decode cX4_outputByte 20 = .ok (.getfield 61, 3) := dk_180 0 61 (dk_at dksX4_outputByte_0 20 rfl rfl)
theorem dX4_outputByte_23 : decode cX4_outputByte 23 = .ok (.iload_n 1, 1) := dk_27 (dk_at dksX4_outputByte_0 23 rfl rfl)
theorem dX4_outputByte_24 : decode cX4_outputByte 24 = .ok (.baload, 1) := dk_51 (dk_at dksX4_outputByte_1 0 rfl rfl)
theorem dX4_outputByte_25 : decode cX4_outputByte 25 = .ok (.goto 4, 3) := dk_167 0 4 (dk_at dksX4_outputByte_1 1 rfl rfl)
theorem dX4_outputByte_28 : decode cX4_outputByte 28 = .ok (.iconst (-1), 1) := dk_2 (dk_at dksX4_outputByte_1 4 rfl rfl)
theorem dX4_outputByte_29 : decode cX4_outputByte 29 = .ok (.ireturn, 1) := dk_172 (dk_at dksX4_outputByte_1 5 rfl rfl)
abbrev cX4_saveState : ByteArray := prog_14_method_149_code
def yX4_saveState : MethodName := ⟨RX4, "saveState", "()I"⟩
def dkwX4_saveState_1 : List UInt8 := [181, 1, 88, 42, 182, 0, 86, 172]
abbrev dktX4_saveState_1 : List UInt8 := dkwX4_saveState_1 ++ []
def dkwX4_saveState_0 : List UInt8 := [42, 3, 181, 0, 1, 42, 180, 0, 13, 3, 42, 180, 0, 23, 3, 17, 0, 171, 184, 1, 78, 42, 4]
abbrev dktX4_saveState_0 : List UInt8 := dkwX4_saveState_0 ++ dktX4_saveState_1
theorem dksX4_saveState_0 : cX4_saveState.data.toList.drop 0 = dktX4_saveState_0 := by decide +kernel
theorem dksX4_saveState_1 : cX4_saveState.data.toList.drop 23 = dktX4_saveState_1 := dk_seg dksX4_saveState_0 23 rfl rfl
theorem dX4_saveState_0 : decode cX4_saveState 0 = .ok (.aload_n 0, 1) := dk_42 (dk_at dksX4_saveState_0 0 rfl rfl)
theorem dX4_saveState_1 : decode cX4_saveState 1 = .ok (.iconst 0, 1) := dk_3 (dk_at dksX4_saveState_0 1 rfl rfl)
theorem dX4_saveState_2 : decode cX4_saveState 2 = .ok (.putfield 1, 3) := dk_181 0 1 (dk_at dksX4_saveState_0 2 rfl rfl)
theorem dX4_saveState_5 : decode cX4_saveState 5 = .ok (.aload_n 0, 1) := dk_42 (dk_at dksX4_saveState_0 5 rfl rfl)
theorem dX4_saveState_6 : decode cX4_saveState 6 = .ok (.getfield 13, 3) := dk_180 0 13 (dk_at dksX4_saveState_0 6 rfl rfl)
theorem dX4_saveState_9 : decode cX4_saveState 9 = .ok (.iconst 0, 1) := dk_3 (dk_at dksX4_saveState_0 9 rfl rfl)
theorem dX4_saveState_10 : decode cX4_saveState 10 = .ok (.aload_n 0, 1) := dk_42 (dk_at dksX4_saveState_0 10 rfl rfl)
theorem dX4_saveState_11 : decode cX4_saveState 11 = .ok (.getfield 23, 3) := dk_180 0 23 (dk_at dksX4_saveState_0 11 rfl rfl)
theorem dX4_saveState_14 : decode cX4_saveState 14 = .ok (.iconst 0, 1) := dk_3 (dk_at dksX4_saveState_0 14 rfl rfl)
theorem dX4_saveState_15 : decode cX4_saveState 15 = .ok (.sipush 171, 3) := dk_17 0 171 (dk_at dksX4_saveState_0 15 rfl rfl)
theorem dX4_saveState_18 : decode cX4_saveState 18 = .ok (.invokestatic 334, 3) := dk_184 1 78 (dk_at dksX4_saveState_0 18 rfl rfl)
theorem dX4_saveState_21 : decode cX4_saveState 21 = .ok (.aload_n 0, 1) := dk_42 (dk_at dksX4_saveState_0 21 rfl rfl)
theorem dX4_saveState_22 : decode cX4_saveState 22 = .ok (.iconst 1, 1) := dk_4 (dk_at dksX4_saveState_0 22 rfl rfl)
theorem dX4_saveState_23 : decode cX4_saveState 23 = .ok (.putfield 344, 3) := dk_181 1 88 (dk_at dksX4_saveState_1 0 rfl rfl)
theorem dX4_saveState_26 : decode cX4_saveState 26 = .ok (.aload_n 0, 1) := dk_42 (dk_at dksX4_saveState_1 3 rfl rfl)
theorem dX4_saveState_27 : decode cX4_saveState 27 = .ok (.invokevirtual 86, 3) := dk_182 0 86 (dk_at dksX4_saveState_1 4 rfl rfl)
theorem dX4_saveState_30 : decode cX4_saveState 30 = .ok (.ireturn, 1) := dk_172 (dk_at dksX4_saveState_1 7 rfl rfl)
abbrev cX4_restoreState : ByteArray := prog_14_method_150_code
def yX4_restoreState : MethodName := ⟨RX4, "restoreState", "()I"⟩
def dkwX4_restoreState_1 : List UInt8 := [17, 0, 171, 184, 1, 78, 42, 3, 181, 1, 85, 42, 182, 0, 86, 172]
abbrev dktX4_restoreState_1 : List UInt8 := dkwX4_restoreState_1 ++ []
def dkwX4_restoreState_0 : List UInt8 := [42, 42, 180, 1, 88, 182, 1, 102, 154, 0, 5, 3, 172, 42, 180, 0, 23, 3, 42, 180, 0, 13, 3]
abbrev dktX4_restoreState_0 : List UInt8 := dkwX4_restoreState_0 ++ dktX4_restoreState_1
theorem dksX4_restoreState_0 : cX4_restoreState.data.toList.drop 0 = dktX4_restoreState_0 := by decide +kernel
theorem dksX4_restoreState_1 : cX4_restoreState.data.toList.drop 23 = dktX4_restoreState_1 := dk_seg dksX4_restoreState_0 23 rfl rfl
theorem dX4_restoreState_0 : decode cX4_restoreState 0 = .ok (.aload_n 0, 1) := dk_42 (dk_at dksX4_restoreState_0 0 rfl rfl)
theorem dX4_restoreState_1 : decode cX4_restoreState 1 = .ok (.aload_n 0, 1) := dk_42 (dk_at dksX4_restoreState_0 1 rfl rfl)
theorem dX4_restoreState_2 : decode cX4_restoreState 2 = .ok (.getfield 344, 3) := dk_180 1 88 (dk_at dksX4_restoreState_0 2 rfl rfl)
theorem dX4_restoreState_5 : decode cX4_restoreState 5 = .ok (.invokevirtual 358, 3) := dk_182 1 102 (dk_at dksX4_restoreState_0 5 rfl rfl)
theorem dX4_restoreState_8 : decode cX4_restoreState 8 = .ok (.ifCond .ne 5, 3) := dk_154 0 5 (dk_at dksX4_restoreState_0 8 rfl rfl)
theorem dX4_restoreState_11 : decode cX4_restoreState 11 = .ok (.iconst 0, 1) := dk_3 (dk_at dksX4_restoreState_0 11 rfl rfl)
theorem dX4_restoreState_12 : decode cX4_restoreState 12 = .ok (.ireturn, 1) := dk_172 (dk_at dksX4_restoreState_0 12 rfl rfl)
theorem dX4_restoreState_13 : decode cX4_restoreState 13 = .ok (.aload_n 0, 1) := dk_42 (dk_at dksX4_restoreState_0 13 rfl rfl)
theorem dX4_restoreState_14 : decode cX4_restoreState 14 = .ok (.getfield 23, 3) := dk_180 0 23 (dk_at dksX4_restoreState_0 14 rfl rfl)
theorem dX4_restoreState_17 : decode cX4_restoreState 17 = .ok (.iconst 0, 1) := dk_3 (dk_at dksX4_restoreState_0 17 rfl rfl)
theorem dX4_restoreState_18 : decode cX4_restoreState 18 = .ok (.aload_n 0, 1) := dk_42 (dk_at dksX4_restoreState_0 18 rfl rfl)
theorem dX4_restoreState_19 : decode cX4_restoreState 19 = .ok (.getfield 13, 3) := dk_180 0 13 (dk_at dksX4_restoreState_0 19 rfl rfl)
theorem dX4_restoreState_22 : decode cX4_restoreState 22 = .ok (.iconst 0, 1) := dk_3 (dk_at dksX4_restoreState_0 22 rfl rfl)
theorem dX4_restoreState_23 : decode cX4_restoreState 23 = .ok (.sipush 171, 3) := dk_17 0 171 (dk_at dksX4_restoreState_1 0 rfl rfl)
theorem dX4_restoreState_26 : decode cX4_restoreState 26 = .ok (.invokestatic 334, 3) := dk_184 1 78 (dk_at dksX4_restoreState_1 3 rfl rfl)
theorem dX4_restoreState_29 : decode cX4_restoreState 29 = .ok (.aload_n 0, 1) := dk_42 (dk_at dksX4_restoreState_1 6 rfl rfl)
theorem dX4_restoreState_30 : decode cX4_restoreState 30 = .ok (.iconst 0, 1) := dk_3 (dk_at dksX4_restoreState_1 7 rfl rfl)
theorem dX4_restoreState_31 : decode cX4_restoreState 31 = .ok (.putfield 341, 3) := dk_181 1 85 (dk_at dksX4_restoreState_1 8 rfl rfl)
theorem dX4_restoreState_34 : decode cX4_restoreState 34 = .ok (.aload_n 0, 1) := dk_42 (dk_at dksX4_restoreState_1 11 rfl rfl)
theorem dX4_restoreState_35 : decode cX4_restoreState 35 = .ok (.invokevirtual 86, 3) := dk_182 0 86 (dk_at dksX4_restoreState_1 12 rfl rfl)
theorem dX4_restoreState_38 : decode cX4_restoreState 38 = .ok (.ireturn, 1) := dk_172 (dk_at dksX4_restoreState_1 15 rfl rfl)
theorem q161 : (Jvm.Cond.initialized "CopyPricesModel") ∈ lw_all := lw_g (lw_at lw_m1 24 rfl) rfl
theorem q1777 : (Jvm.Cond.selects "CopyPricesModel" ({ cls := "java/lang/Object", name := "getClass", desc := "()Ljava/lang/Class;" } : Jvm.MethodName) ({ cls := "java/lang/Object", name := "getClass", desc := "()Ljava/lang/Class;" } : Jvm.MethodName)) ∈ lw_all := lw_g (lw_at lw_m7 200 rfl) rfl
theorem q1893 : (Jvm.Cond.instanceMethod ({ cls := "CopyPricesModel", name := "thrown", desc := "()I" } : Jvm.MethodName)) ∈ lw_all := lw_g (lw_at lw_m8 76 rfl) rfl
theorem q1894 : (Jvm.Cond.selects "CopyPricesModel" ({ cls := "CopyPricesModel", name := "thrown", desc := "()I" } : Jvm.MethodName) ({ cls := "CopyPricesModel", name := "thrown", desc := "()I" } : Jvm.MethodName)) ∈ lw_all := lw_g (lw_at lw_m8 77 rfl) rfl
theorem q1895 : (Jvm.Cond.code ({ cls := "CopyPricesModel", name := "thrown", desc := "()I" } : Jvm.MethodName) prog_14_method_1_code (1 : Nat) (Option.some Jvm.ClassFile.FieldType.int)) ∈ lw_all := lw_g (lw_at lw_m8 78 rfl) rfl
theorem q1897 : (Jvm.Cond.instantiable "CopyPricesModel" (27 : Nat)) ∈ lw_all := lw_g (lw_at lw_m8 80 rfl) rfl
theorem q1899 : (Jvm.Cond.instanceMethod ({ cls := "CopyPricesModel", name := "<init>", desc := "()V" } : Jvm.MethodName)) ∈ lw_all := lw_g (lw_at lw_m8 82 rfl) rfl
theorem q1900 : (Jvm.Cond.code ({ cls := "CopyPricesModel", name := "<init>", desc := "()V" } : Jvm.MethodName) prog_14_method_7_code (1 : Nat) (Option.none : Option Jvm.ClassFile.FieldType)) ∈ lw_all := lw_g (lw_at lw_m8 83 rfl) rfl
theorem q1901 : (Jvm.Cond.methodLink "CopyPricesModel" (7 : Nat) ({ cls := "java/lang/Object", name := "<init>", desc := "()V" } : Jvm.MethodName)) ∈ lw_all := lw_g (lw_at lw_m8 84 rfl) rfl
theorem q1902 : (Jvm.Cond.methodLink "CopyPricesModel" (64 : Nat) ({ cls := "CopyPricesModel", name := "clears", desc := "()V" } : Jvm.MethodName)) ∈ lw_all := lw_g (lw_at lw_m8 85 rfl) rfl
theorem q1903 : (Jvm.Cond.privateMethod ({ cls := "CopyPricesModel", name := "clears", desc := "()V" } : Jvm.MethodName)) ∈ lw_tbl := lw_at lw_m8 86 rfl
theorem q1904 : (Jvm.Cond.instanceMethod ({ cls := "CopyPricesModel", name := "clears", desc := "()V" } : Jvm.MethodName)) ∈ lw_all := lw_g (lw_at lw_m8 87 rfl) rfl
theorem q1905 : (Jvm.Cond.code ({ cls := "CopyPricesModel", name := "clears", desc := "()V" } : Jvm.MethodName) prog_14_method_9_code (2 : Nat) (Option.none : Option Jvm.ClassFile.FieldType)) ∈ lw_all := lw_g (lw_at lw_m8 88 rfl) rfl
theorem q1906 : (Jvm.Cond.stringRef "CopyPricesModel" (67 : Nat) "abcabcabd") ∈ lw_tbl := lw_at lw_m8 89 rfl
theorem q1907 : (Jvm.Cond.methodLink "CopyPricesModel" (69 : Nat) ({ cls := "CopyPricesModel", name := "adds", desc := "(Ljava/lang/String;)V" } : Jvm.MethodName)) ∈ lw_all := lw_g (lw_at lw_m8 90 rfl) rfl
theorem q1908 : (Jvm.Cond.privateMethod ({ cls := "CopyPricesModel", name := "adds", desc := "(Ljava/lang/String;)V" } : Jvm.MethodName)) ∈ lw_tbl := lw_at lw_m8 91 rfl
theorem q1909 : (Jvm.Cond.instanceMethod ({ cls := "CopyPricesModel", name := "adds", desc := "(Ljava/lang/String;)V" } : Jvm.MethodName)) ∈ lw_all := lw_g (lw_at lw_m8 92 rfl) rfl
theorem q1910 : (Jvm.Cond.code ({ cls := "CopyPricesModel", name := "adds", desc := "(Ljava/lang/String;)V" } : Jvm.MethodName) prog_14_method_8_code (3 : Nat) (Option.none : Option Jvm.ClassFile.FieldType)) ∈ lw_all := lw_g (lw_at lw_m8 93 rfl) rfl
theorem q1911 : (Jvm.Cond.methodLink "CopyPricesModel" (73 : Nat) ({ cls := "java/lang/String", name := "length", desc := "()I" } : Jvm.MethodName)) ∈ lw_all := lw_g (lw_at lw_m8 94 rfl) rfl
theorem q1912 : (Jvm.Cond.methodLink "CopyPricesModel" (78 : Nat) ({ cls := "java/lang/String", name := "charAt", desc := "(I)C" } : Jvm.MethodName)) ∈ lw_all := lw_g (lw_at lw_m8 95 rfl) rfl
theorem q1913 : (Jvm.Cond.methodLink "CopyPricesModel" (82 : Nat) ({ cls := "CopyPricesModel", name := "addsLetter", desc := "(I)V" } : Jvm.MethodName)) ∈ lw_all := lw_g (lw_at lw_m8 96 rfl) rfl
theorem q1914 : (Jvm.Cond.privateMethod ({ cls := "CopyPricesModel", name := "addsLetter", desc := "(I)V" } : Jvm.MethodName)) ∈ lw_tbl := lw_at lw_m8 97 rfl
theorem q1915 : (Jvm.Cond.instanceMethod ({ cls := "CopyPricesModel", name := "addsLetter", desc := "(I)V" } : Jvm.MethodName)) ∈ lw_all := lw_g (lw_at lw_m8 98 rfl) rfl
theorem q1916 : (Jvm.Cond.code ({ cls := "CopyPricesModel", name := "addsLetter", desc := "(I)V" } : Jvm.MethodName) prog_14_method_10_code (2 : Nat) (Option.none : Option Jvm.ClassFile.FieldType)) ∈ lw_all := lw_g (lw_at lw_m8 99 rfl) rfl
theorem q1917 : (Jvm.Cond.fieldLink "CopyPricesModel" (1 : Nat) "CopyPricesModel" "told0" "I") ∈ lw_all := lw_g (lw_at lw_m8 100 rfl) rfl
theorem q1918 : (Jvm.Cond.fieldLink "CopyPricesModel" (13 : Nat) "CopyPricesModel" "s" "[I") ∈ lw_all := lw_g (lw_at lw_m8 101 rfl) rfl
theorem q1919 : (Jvm.Cond.fieldLink "CopyPricesModel" (17 : Nat) "CopyPricesModel" "draft" "[I") ∈ lw_all := lw_g (lw_at lw_m8 102 rfl) rfl
theorem q1920 : (Jvm.Cond.fieldLink "CopyPricesModel" (20 : Nat) "CopyPricesModel" "aside" "[I") ∈ lw_all := lw_g (lw_at lw_m8 103 rfl) rfl
theorem q1921 : (Jvm.Cond.fieldLink "CopyPricesModel" (23 : Nat) "CopyPricesModel" "kept" "[I") ∈ lw_all := lw_g (lw_at lw_m8 104 rfl) rfl
theorem q1922 : (Jvm.Cond.fieldLink "CopyPricesModel" (26 : Nat) "CopyPricesModel" "past" "[I") ∈ lw_all := lw_g (lw_at lw_m8 105 rfl) rfl
theorem q1923 : (Jvm.Cond.fieldLink "CopyPricesModel" (341 : Nat) "CopyPricesModel" "pastMany" "I") ∈ lw_all := lw_g (lw_at lw_m8 106 rfl) rfl
theorem q1924 : (Jvm.Cond.fieldLink "CopyPricesModel" (344 : Nat) "CopyPricesModel" "isKept" "Z") ∈ lw_all := lw_g (lw_at lw_m8 107 rfl) rfl
theorem q1925 : (Jvm.Cond.fieldLink "CopyPricesModel" (29 : Nat) "CopyPricesModel" "longest" "[I") ∈ lw_all := lw_g (lw_at lw_m8 108 rfl) rfl
theorem q1926 : (Jvm.Cond.fieldLink "CopyPricesModel" (32 : Nat) "CopyPricesModel" "rest" "[I") ∈ lw_all := lw_g (lw_at lw_m8 109 rfl) rfl
theorem q1927 : (Jvm.Cond.fieldLink "CopyPricesModel" (35 : Nat) "CopyPricesModel" "fore" "[I") ∈ lw_all := lw_g (lw_at lw_m8 110 rfl) rfl
theorem q1928 : (Jvm.Cond.fieldLink "CopyPricesModel" (38 : Nat) "CopyPricesModel" "from" "[I") ∈ lw_all := lw_g (lw_at lw_m8 111 rfl) rfl
theorem q1929 : (Jvm.Cond.fieldLink "CopyPricesModel" (41 : Nat) "CopyPricesModel" "length" "[I") ∈ lw_all := lw_g (lw_at lw_m8 112 rfl) rfl
theorem q1930 : (Jvm.Cond.fieldLink "CopyPricesModel" (44 : Nat) "CopyPricesModel" "distance" "[I") ∈ lw_all := lw_g (lw_at lw_m8 113 rfl) rfl
theorem q1931 : (Jvm.Cond.fieldLink "CopyPricesModel" (179 : Nat) "CopyPricesModel" "stepMany" "I") ∈ lw_all := lw_g (lw_at lw_m8 114 rfl) rfl
theorem q1932 : (Jvm.Cond.fieldLink "CopyPricesModel" (47 : Nat) "CopyPricesModel" "input" "[B") ∈ lw_all := lw_g (lw_at lw_m8 115 rfl) rfl
theorem q1933 : (Jvm.Cond.fieldLink "CopyPricesModel" (223 : Nat) "CopyPricesModel" "inputLong" "I") ∈ lw_all := lw_g (lw_at lw_m8 116 rfl) rfl
theorem q1934 : (Jvm.Cond.fieldLink "CopyPricesModel" (229 : Nat) "CopyPricesModel" "errorCode" "I") ∈ lw_all := lw_g (lw_at lw_m8 117 rfl) rfl
theorem q1935 : (Jvm.Cond.fieldLink "CopyPricesModel" (51 : Nat) "CopyPricesModel" "errorOffset" "I") ∈ lw_all := lw_g (lw_at lw_m8 118 rfl) rfl
theorem q1936 : (Jvm.Cond.fieldLink "CopyPricesModel" (238 : Nat) "CopyPricesModel" "begin" "I") ∈ lw_all := lw_g (lw_at lw_m8 119 rfl) rfl
theorem q1937 : (Jvm.Cond.fieldLink "CopyPricesModel" (232 : Nat) "CopyPricesModel" "next" "I") ∈ lw_all := lw_g (lw_at lw_m8 120 rfl) rfl
theorem q1938 : (Jvm.Cond.fieldLink "CopyPricesModel" (241 : Nat) "CopyPricesModel" "token" "I") ∈ lw_all := lw_g (lw_at lw_m8 121 rfl) rfl
theorem q1939 : (Jvm.Cond.fieldLink "CopyPricesModel" (244 : Nat) "CopyPricesModel" "value" "I") ∈ lw_all := lw_g (lw_at lw_m8 122 rfl) rfl
theorem q1940 : (Jvm.Cond.fieldLink "CopyPricesModel" (54 : Nat) "CopyPricesModel" "isTold" "[Z") ∈ lw_all := lw_g (lw_at lw_m8 123 rfl) rfl
theorem q1941 : (Jvm.Cond.fieldLink "CopyPricesModel" (58 : Nat) "CopyPricesModel" "done" "[I") ∈ lw_all := lw_g (lw_at lw_m8 124 rfl) rfl
theorem q1942 : (Jvm.Cond.fieldLink "CopyPricesModel" (61 : Nat) "CopyPricesModel" "output" "[B") ∈ lw_all := lw_g (lw_at lw_m8 125 rfl) rfl
theorem q1943 : (Jvm.Cond.fieldLink "CopyPricesModel" (461 : Nat) "CopyPricesModel" "outputLong" "I") ∈ lw_all := lw_g (lw_at lw_m8 126 rfl) rfl
theorem q1944 : (Jvm.Cond.lays "CopyPricesModel" "CopyPricesModel" "told0" "I") ∈ lw_all := lw_g (lw_at lw_m8 127 rfl) rfl
theorem q1945 : (Jvm.Cond.soleField "CopyPricesModel" "told0") ∈ lw_all := lw_g (lw_at lw_m8 128 rfl) rfl
theorem q1946 : (Jvm.Cond.laysFinal "CopyPricesModel" "CopyPricesModel" "s" "[I") ∈ lw_all := lw_g (lw_at lw_m8 129 rfl) rfl
theorem q1947 : (Jvm.Cond.soleField "CopyPricesModel" "s") ∈ lw_all := lw_g (lw_at lw_m8 130 rfl) rfl
theorem q1948 : (Jvm.Cond.laysFinal "CopyPricesModel" "CopyPricesModel" "draft" "[I") ∈ lw_all := lw_g (lw_at lw_m8 131 rfl) rfl
theorem q1949 : (Jvm.Cond.soleField "CopyPricesModel" "draft") ∈ lw_all := lw_g (lw_at lw_m8 132 rfl) rfl
theorem q1950 : (Jvm.Cond.laysFinal "CopyPricesModel" "CopyPricesModel" "aside" "[I") ∈ lw_all := lw_g (lw_at lw_m8 133 rfl) rfl
theorem q1951 : (Jvm.Cond.soleField "CopyPricesModel" "aside") ∈ lw_all := lw_g (lw_at lw_m8 134 rfl) rfl
theorem q1952 : (Jvm.Cond.laysFinal "CopyPricesModel" "CopyPricesModel" "kept" "[I") ∈ lw_all := lw_g (lw_at lw_m8 135 rfl) rfl
theorem q1953 : (Jvm.Cond.soleField "CopyPricesModel" "kept") ∈ lw_all := lw_g (lw_at lw_m8 136 rfl) rfl
theorem q1954 : (Jvm.Cond.laysFinal "CopyPricesModel" "CopyPricesModel" "past" "[I") ∈ lw_all := lw_g (lw_at lw_m8 137 rfl) rfl
theorem q1955 : (Jvm.Cond.soleField "CopyPricesModel" "past") ∈ lw_all := lw_g (lw_at lw_m8 138 rfl) rfl
theorem q1956 : (Jvm.Cond.lays "CopyPricesModel" "CopyPricesModel" "pastMany" "I") ∈ lw_all := lw_g (lw_at lw_m8 139 rfl) rfl
theorem q1957 : (Jvm.Cond.soleField "CopyPricesModel" "pastMany") ∈ lw_all := lw_g (lw_at lw_m8 140 rfl) rfl
theorem q1958 : (Jvm.Cond.lays "CopyPricesModel" "CopyPricesModel" "isKept" "Z") ∈ lw_all := lw_g (lw_at lw_m8 141 rfl) rfl
theorem q1959 : (Jvm.Cond.soleField "CopyPricesModel" "isKept") ∈ lw_all := lw_g (lw_at lw_m8 142 rfl) rfl
theorem q1960 : (Jvm.Cond.laysFinal "CopyPricesModel" "CopyPricesModel" "longest" "[I") ∈ lw_all := lw_g (lw_at lw_m8 143 rfl) rfl
theorem q1961 : (Jvm.Cond.soleField "CopyPricesModel" "longest") ∈ lw_all := lw_g (lw_at lw_m8 144 rfl) rfl
theorem q1962 : (Jvm.Cond.laysFinal "CopyPricesModel" "CopyPricesModel" "rest" "[I") ∈ lw_all := lw_g (lw_at lw_m8 145 rfl) rfl
theorem q1963 : (Jvm.Cond.soleField "CopyPricesModel" "rest") ∈ lw_all := lw_g (lw_at lw_m8 146 rfl) rfl
theorem q1964 : (Jvm.Cond.laysFinal "CopyPricesModel" "CopyPricesModel" "fore" "[I") ∈ lw_all := lw_g (lw_at lw_m8 147 rfl) rfl
theorem q1965 : (Jvm.Cond.soleField "CopyPricesModel" "fore") ∈ lw_all := lw_g (lw_at lw_m8 148 rfl) rfl
theorem q1966 : (Jvm.Cond.laysFinal "CopyPricesModel" "CopyPricesModel" "from" "[I") ∈ lw_all := lw_g (lw_at lw_m8 149 rfl) rfl
theorem q1967 : (Jvm.Cond.soleField "CopyPricesModel" "from") ∈ lw_all := lw_g (lw_at lw_m8 150 rfl) rfl
theorem q1968 : (Jvm.Cond.laysFinal "CopyPricesModel" "CopyPricesModel" "length" "[I") ∈ lw_all := lw_g (lw_at lw_m8 151 rfl) rfl
theorem q1969 : (Jvm.Cond.soleField "CopyPricesModel" "length") ∈ lw_all := lw_g (lw_at lw_m8 152 rfl) rfl
theorem q1970 : (Jvm.Cond.laysFinal "CopyPricesModel" "CopyPricesModel" "distance" "[I") ∈ lw_all := lw_g (lw_at lw_m8 153 rfl) rfl
theorem q1971 : (Jvm.Cond.soleField "CopyPricesModel" "distance") ∈ lw_all := lw_g (lw_at lw_m8 154 rfl) rfl
theorem q1972 : (Jvm.Cond.lays "CopyPricesModel" "CopyPricesModel" "stepMany" "I") ∈ lw_all := lw_g (lw_at lw_m8 155 rfl) rfl
theorem q1973 : (Jvm.Cond.soleField "CopyPricesModel" "stepMany") ∈ lw_all := lw_g (lw_at lw_m8 156 rfl) rfl
theorem q1974 : (Jvm.Cond.laysFinal "CopyPricesModel" "CopyPricesModel" "input" "[B") ∈ lw_all := lw_g (lw_at lw_m8 157 rfl) rfl
theorem q1975 : (Jvm.Cond.soleField "CopyPricesModel" "input") ∈ lw_all := lw_g (lw_at lw_m8 158 rfl) rfl
theorem q1976 : (Jvm.Cond.lays "CopyPricesModel" "CopyPricesModel" "inputLong" "I") ∈ lw_all := lw_g (lw_at lw_m8 159 rfl) rfl
theorem q1977 : (Jvm.Cond.soleField "CopyPricesModel" "inputLong") ∈ lw_all := lw_g (lw_at lw_m8 160 rfl) rfl
theorem q1978 : (Jvm.Cond.lays "CopyPricesModel" "CopyPricesModel" "errorCode" "I") ∈ lw_all := lw_g (lw_at lw_m8 161 rfl) rfl
theorem q1979 : (Jvm.Cond.soleField "CopyPricesModel" "errorCode") ∈ lw_all := lw_g (lw_at lw_m8 162 rfl) rfl
theorem q1980 : (Jvm.Cond.lays "CopyPricesModel" "CopyPricesModel" "errorOffset" "I") ∈ lw_all := lw_g (lw_at lw_m8 163 rfl) rfl
theorem q1981 : (Jvm.Cond.soleField "CopyPricesModel" "errorOffset") ∈ lw_all := lw_g (lw_at lw_m8 164 rfl) rfl
theorem q1982 : (Jvm.Cond.lays "CopyPricesModel" "CopyPricesModel" "begin" "I") ∈ lw_all := lw_g (lw_at lw_m8 165 rfl) rfl
theorem q1983 : (Jvm.Cond.soleField "CopyPricesModel" "begin") ∈ lw_all := lw_g (lw_at lw_m8 166 rfl) rfl
theorem q1984 : (Jvm.Cond.lays "CopyPricesModel" "CopyPricesModel" "next" "I") ∈ lw_all := lw_g (lw_at lw_m8 167 rfl) rfl
theorem q1985 : (Jvm.Cond.soleField "CopyPricesModel" "next") ∈ lw_all := lw_g (lw_at lw_m8 168 rfl) rfl
theorem q1986 : (Jvm.Cond.lays "CopyPricesModel" "CopyPricesModel" "token" "I") ∈ lw_all := lw_g (lw_at lw_m8 169 rfl) rfl
theorem q1987 : (Jvm.Cond.soleField "CopyPricesModel" "token") ∈ lw_all := lw_g (lw_at lw_m8 170 rfl) rfl
theorem q1988 : (Jvm.Cond.lays "CopyPricesModel" "CopyPricesModel" "value" "I") ∈ lw_all := lw_g (lw_at lw_m8 171 rfl) rfl
theorem q1989 : (Jvm.Cond.soleField "CopyPricesModel" "value") ∈ lw_all := lw_g (lw_at lw_m8 172 rfl) rfl
theorem q1990 : (Jvm.Cond.laysFinal "CopyPricesModel" "CopyPricesModel" "isTold" "[Z") ∈ lw_all := lw_g (lw_at lw_m8 173 rfl) rfl
theorem q1991 : (Jvm.Cond.soleField "CopyPricesModel" "isTold") ∈ lw_all := lw_g (lw_at lw_m8 174 rfl) rfl
theorem q1992 : (Jvm.Cond.laysFinal "CopyPricesModel" "CopyPricesModel" "done" "[I") ∈ lw_all := lw_g (lw_at lw_m8 175 rfl) rfl
theorem q1993 : (Jvm.Cond.soleField "CopyPricesModel" "done") ∈ lw_all := lw_g (lw_at lw_m8 176 rfl) rfl
theorem q1994 : (Jvm.Cond.laysFinal "CopyPricesModel" "CopyPricesModel" "output" "[B") ∈ lw_all := lw_g (lw_at lw_m8 177 rfl) rfl
theorem q1995 : (Jvm.Cond.soleField "CopyPricesModel" "output") ∈ lw_all := lw_g (lw_at lw_m8 178 rfl) rfl
theorem q1996 : (Jvm.Cond.lays "CopyPricesModel" "CopyPricesModel" "outputLong" "I") ∈ lw_all := lw_g (lw_at lw_m8 179 rfl) rfl
theorem q1997 : (Jvm.Cond.soleField "CopyPricesModel" "outputLong") ∈ lw_all := lw_g (lw_at lw_m8 180 rfl) rfl
theorem q1998 : (Jvm.Cond.superclass "CopyPricesModel" "java/lang/Object") ∈ lw_all := lw_g (lw_at lw_m8 181 rfl) rfl
theorem q2001 : (Jvm.Cond.instanceMethod ({ cls := "CopyPricesModel", name := "appendInput", desc := "(IIIII)I" } : Jvm.MethodName)) ∈ lw_all := lw_g (lw_at lw_m8 184 rfl) rfl
theorem q2002 : (Jvm.Cond.selects "CopyPricesModel" ({ cls := "CopyPricesModel", name := "appendInput", desc := "(IIIII)I" } : Jvm.MethodName) ({ cls := "CopyPricesModel", name := "appendInput", desc := "(IIIII)I" } : Jvm.MethodName)) ∈ lw_all := lw_g (lw_at lw_m8 185 rfl) rfl
theorem q2003 : (Jvm.Cond.code ({ cls := "CopyPricesModel", name := "appendInput", desc := "(IIIII)I" } : Jvm.MethodName) prog_14_method_56_code (6 : Nat) (Option.some Jvm.ClassFile.FieldType.int)) ∈ lw_all := lw_g (lw_at lw_m8 186 rfl) rfl
theorem q2004 : (Jvm.Cond.methodLink "CopyPricesModel" (226 : Nat) ({ cls := "CopyPricesModel", name := "puts4", desc := "(I)V" } : Jvm.MethodName)) ∈ lw_all := lw_g (lw_at lw_m8 187 rfl) rfl
theorem q2005 : (Jvm.Cond.privateMethod ({ cls := "CopyPricesModel", name := "puts4", desc := "(I)V" } : Jvm.MethodName)) ∈ lw_tbl := lw_at lw_m8 188 rfl
theorem q2006 : (Jvm.Cond.instanceMethod ({ cls := "CopyPricesModel", name := "puts4", desc := "(I)V" } : Jvm.MethodName)) ∈ lw_all := lw_g (lw_at lw_m8 189 rfl) rfl
theorem q2007 : (Jvm.Cond.code ({ cls := "CopyPricesModel", name := "puts4", desc := "(I)V" } : Jvm.MethodName) prog_14_method_55_code (3 : Nat) (Option.none : Option Jvm.ClassFile.FieldType)) ∈ lw_all := lw_g (lw_at lw_m8 190 rfl) rfl
theorem q2009 : (Jvm.Cond.instanceMethod ({ cls := "CopyPricesModel", name := "truncateInput", desc := "(I)Z" } : Jvm.MethodName)) ∈ lw_all := lw_g (lw_at lw_m8 192 rfl) rfl
theorem q2010 : (Jvm.Cond.selects "CopyPricesModel" ({ cls := "CopyPricesModel", name := "truncateInput", desc := "(I)Z" } : Jvm.MethodName) ({ cls := "CopyPricesModel", name := "truncateInput", desc := "(I)Z" } : Jvm.MethodName)) ∈ lw_all := lw_g (lw_at lw_m8 193 rfl) rfl
theorem q2011 : (Jvm.Cond.code ({ cls := "CopyPricesModel", name := "truncateInput", desc := "(I)Z" } : Jvm.MethodName) prog_14_method_57_code (2 : Nat) (Option.some Jvm.ClassFile.FieldType.boolean)) ∈ lw_all := lw_g (lw_at lw_m8 194 rfl) rfl
theorem q2012 : (Jvm.Cond.methodLink "CopyPricesModel" (121 : Nat) ({ cls := "CopyPricesModel", name := "isIn", desc := "(III)Z" } : Jvm.MethodName)) ∈ lw_all := lw_g (lw_at lw_m8 195 rfl) rfl
theorem q2013 : (Jvm.Cond.static ({ cls := "CopyPricesModel", name := "isIn", desc := "(III)Z" } : Jvm.MethodName)) ∈ lw_all := lw_g (lw_at lw_m8 196 rfl) rfl
theorem q2014 : (Jvm.Cond.code ({ cls := "CopyPricesModel", name := "isIn", desc := "(III)Z" } : Jvm.MethodName) prog_14_method_2_code (3 : Nat) (Option.some Jvm.ClassFile.FieldType.boolean)) ∈ lw_all := lw_g (lw_at lw_m8 197 rfl) rfl
theorem q2016 : (Jvm.Cond.instanceMethod ({ cls := "CopyPricesModel", name := "errorCode", desc := "()I" } : Jvm.MethodName)) ∈ lw_all := lw_g (lw_at lw_m8 199 rfl) rfl
theorem q2017 : (Jvm.Cond.selects "CopyPricesModel" ({ cls := "CopyPricesModel", name := "errorCode", desc := "()I" } : Jvm.MethodName) ({ cls := "CopyPricesModel", name := "errorCode", desc := "()I" } : Jvm.MethodName)) ∈ lw_all := lw_g (lw_at lw_m8 200 rfl) rfl
theorem q2018 : (Jvm.Cond.code ({ cls := "CopyPricesModel", name := "errorCode", desc := "()I" } : Jvm.MethodName) prog_14_method_58_code (1 : Nat) (Option.some Jvm.ClassFile.FieldType.int)) ∈ lw_all := lw_g (lw_at lw_m8 201 rfl) rfl
theorem q2020 : (Jvm.Cond.instanceMethod ({ cls := "CopyPricesModel", name := "errorOffset", desc := "()I" } : Jvm.MethodName)) ∈ lw_all := lw_g (lw_at lw_m8 203 rfl) rfl
theorem q2021 : (Jvm.Cond.selects "CopyPricesModel" ({ cls := "CopyPricesModel", name := "errorOffset", desc := "()I" } : Jvm.MethodName) ({ cls := "CopyPricesModel", name := "errorOffset", desc := "()I" } : Jvm.MethodName)) ∈ lw_all := lw_g (lw_at lw_m8 204 rfl) rfl
theorem q2022 : (Jvm.Cond.code ({ cls := "CopyPricesModel", name := "errorOffset", desc := "()I" } : Jvm.MethodName) prog_14_method_59_code (1 : Nat) (Option.some Jvm.ClassFile.FieldType.int)) ∈ lw_all := lw_g (lw_at lw_m8 205 rfl) rfl
theorem q2024 : (Jvm.Cond.instanceMethod ({ cls := "CopyPricesModel", name := "loadText", desc := "()I" } : Jvm.MethodName)) ∈ lw_all := lw_g (lw_at lw_m8 207 rfl) rfl
theorem q2025 : (Jvm.Cond.selects "CopyPricesModel" ({ cls := "CopyPricesModel", name := "loadText", desc := "()I" } : Jvm.MethodName) ({ cls := "CopyPricesModel", name := "loadText", desc := "()I" } : Jvm.MethodName)) ∈ lw_all := lw_g (lw_at lw_m8 208 rfl) rfl
theorem q2026 : (Jvm.Cond.code ({ cls := "CopyPricesModel", name := "loadText", desc := "()I" } : Jvm.MethodName) prog_14_method_81_code (2 : Nat) (Option.some Jvm.ClassFile.FieldType.int)) ∈ lw_all := lw_g (lw_at lw_m8 209 rfl) rfl
theorem q2027 : (Jvm.Cond.methodLink "CopyPricesModel" (334 : Nat) ({ cls := "CopyPricesModel", name := "copies", desc := "([II[III)V" } : Jvm.MethodName)) ∈ lw_all := lw_g (lw_at lw_m8 210 rfl) rfl
theorem q2028 : (Jvm.Cond.static ({ cls := "CopyPricesModel", name := "copies", desc := "([II[III)V" } : Jvm.MethodName)) ∈ lw_all := lw_g (lw_at lw_m8 211 rfl) rfl
theorem q2029 : (Jvm.Cond.code ({ cls := "CopyPricesModel", name := "copies", desc := "([II[III)V" } : Jvm.MethodName) prog_14_method_6_code (6 : Nat) (Option.none : Option Jvm.ClassFile.FieldType)) ∈ lw_all := lw_g (lw_at lw_m8 212 rfl) rfl
theorem q2030 : (Jvm.Cond.methodLink "CopyPricesModel" (251 : Nat) ({ cls := "CopyPricesModel", name := "scans", desc := "()V" } : Jvm.MethodName)) ∈ lw_all := lw_g (lw_at lw_m8 213 rfl) rfl
theorem q2031 : (Jvm.Cond.privateMethod ({ cls := "CopyPricesModel", name := "scans", desc := "()V" } : Jvm.MethodName)) ∈ lw_tbl := lw_at lw_m8 214 rfl
theorem q2032 : (Jvm.Cond.instanceMethod ({ cls := "CopyPricesModel", name := "scans", desc := "()V" } : Jvm.MethodName)) ∈ lw_all := lw_g (lw_at lw_m8 215 rfl) rfl
theorem q2033 : (Jvm.Cond.code ({ cls := "CopyPricesModel", name := "scans", desc := "()V" } : Jvm.MethodName) prog_14_method_61_code (2 : Nat) (Option.none : Option Jvm.ClassFile.FieldType)) ∈ lw_all := lw_g (lw_at lw_m8 216 rfl) rfl
theorem q2034 : (Jvm.Cond.methodLink "CopyPricesModel" (235 : Nat) ({ cls := "CopyPricesModel", name := "byteAt", desc := "(I)I" } : Jvm.MethodName)) ∈ lw_all := lw_g (lw_at lw_m8 217 rfl) rfl
theorem q2035 : (Jvm.Cond.privateMethod ({ cls := "CopyPricesModel", name := "byteAt", desc := "(I)I" } : Jvm.MethodName)) ∈ lw_tbl := lw_at lw_m8 218 rfl
theorem q2036 : (Jvm.Cond.instanceMethod ({ cls := "CopyPricesModel", name := "byteAt", desc := "(I)I" } : Jvm.MethodName)) ∈ lw_all := lw_g (lw_at lw_m8 219 rfl) rfl
theorem q2037 : (Jvm.Cond.code ({ cls := "CopyPricesModel", name := "byteAt", desc := "(I)I" } : Jvm.MethodName) prog_14_method_60_code (2 : Nat) (Option.some Jvm.ClassFile.FieldType.int)) ∈ lw_all := lw_g (lw_at lw_m8 220 rfl) rfl
theorem q2038 : (Jvm.Cond.methodLink "CopyPricesModel" (338 : Nat) ({ cls := "CopyPricesModel", name := "readsStatement", desc := "()V" } : Jvm.MethodName)) ∈ lw_all := lw_g (lw_at lw_m8 221 rfl) rfl
theorem q2039 : (Jvm.Cond.privateMethod ({ cls := "CopyPricesModel", name := "readsStatement", desc := "()V" } : Jvm.MethodName)) ∈ lw_tbl := lw_at lw_m8 222 rfl
theorem q2040 : (Jvm.Cond.instanceMethod ({ cls := "CopyPricesModel", name := "readsStatement", desc := "()V" } : Jvm.MethodName)) ∈ lw_all := lw_g (lw_at lw_m8 223 rfl) rfl
theorem q2041 : (Jvm.Cond.code ({ cls := "CopyPricesModel", name := "readsStatement", desc := "()V" } : Jvm.MethodName) prog_14_method_80_code (1 : Nat) (Option.none : Option Jvm.ClassFile.FieldType)) ∈ lw_all := lw_g (lw_at lw_m8 224 rfl) rfl
theorem q2042 : (Jvm.Cond.methodLink "CopyPricesModel" (86 : Nat) ({ cls := "CopyPricesModel", name := "many", desc := "()I" } : Jvm.MethodName)) ∈ lw_all := lw_g (lw_at lw_m8 225 rfl) rfl
theorem q2043 : (Jvm.Cond.privateMethod ({ cls := "CopyPricesModel", name := "many", desc := "()I" } : Jvm.MethodName)) ∈ lw_tbl := lw_at lw_m8 226 rfl
theorem q2044 : (Jvm.Cond.instanceMethod ({ cls := "CopyPricesModel", name := "many", desc := "()I" } : Jvm.MethodName)) ∈ lw_all := lw_g (lw_at lw_m8 227 rfl) rfl
theorem q2045 : (Jvm.Cond.code ({ cls := "CopyPricesModel", name := "many", desc := "()I" } : Jvm.MethodName) prog_14_method_12_code (1 : Nat) (Option.some Jvm.ClassFile.FieldType.int)) ∈ lw_all := lw_g (lw_at lw_m8 228 rfl) rfl
theorem q2046 : (Jvm.Cond.stringRef "CopyPricesModel" (305 : Nat) "text") ∈ lw_tbl := lw_at lw_m8 229 rfl
theorem q2047 : (Jvm.Cond.methodLink "CopyPricesModel" (265 : Nat) ({ cls := "CopyPricesModel", name := "isWord", desc := "(Ljava/lang/String;)Z" } : Jvm.MethodName)) ∈ lw_all := lw_g (lw_at lw_m8 230 rfl) rfl
theorem q2048 : (Jvm.Cond.privateMethod ({ cls := "CopyPricesModel", name := "isWord", desc := "(Ljava/lang/String;)Z" } : Jvm.MethodName)) ∈ lw_tbl := lw_at lw_m8 231 rfl
theorem q2049 : (Jvm.Cond.instanceMethod ({ cls := "CopyPricesModel", name := "isWord", desc := "(Ljava/lang/String;)Z" } : Jvm.MethodName)) ∈ lw_all := lw_g (lw_at lw_m8 232 rfl) rfl
theorem q2050 : (Jvm.Cond.code ({ cls := "CopyPricesModel", name := "isWord", desc := "(Ljava/lang/String;)Z" } : Jvm.MethodName) prog_14_method_65_code (3 : Nat) (Option.some Jvm.ClassFile.FieldType.boolean)) ∈ lw_all := lw_g (lw_at lw_m8 233 rfl) rfl
theorem q2051 : (Jvm.Cond.methodLink "CopyPricesModel" (247 : Nat) ({ cls := "CopyPricesModel", name := "isGood", desc := "()Z" } : Jvm.MethodName)) ∈ lw_all := lw_g (lw_at lw_m8 234 rfl) rfl
theorem q2052 : (Jvm.Cond.privateMethod ({ cls := "CopyPricesModel", name := "isGood", desc := "()Z" } : Jvm.MethodName)) ∈ lw_tbl := lw_at lw_m8 235 rfl
theorem q2053 : (Jvm.Cond.instanceMethod ({ cls := "CopyPricesModel", name := "isGood", desc := "()Z" } : Jvm.MethodName)) ∈ lw_all := lw_g (lw_at lw_m8 236 rfl) rfl
theorem q2054 : (Jvm.Cond.code ({ cls := "CopyPricesModel", name := "isGood", desc := "()Z" } : Jvm.MethodName) prog_14_method_62_code (1 : Nat) (Option.some Jvm.ClassFile.FieldType.boolean)) ∈ lw_all := lw_g (lw_at lw_m8 237 rfl) rfl
theorem q2055 : (Jvm.Cond.methodLink "CopyPricesModel" (254 : Nat) ({ cls := "CopyPricesModel", name := "errs", desc := "(I)V" } : Jvm.MethodName)) ∈ lw_all := lw_g (lw_at lw_m8 238 rfl) rfl
theorem q2056 : (Jvm.Cond.privateMethod ({ cls := "CopyPricesModel", name := "errs", desc := "(I)V" } : Jvm.MethodName)) ∈ lw_tbl := lw_at lw_m8 239 rfl
theorem q2057 : (Jvm.Cond.instanceMethod ({ cls := "CopyPricesModel", name := "errs", desc := "(I)V" } : Jvm.MethodName)) ∈ lw_all := lw_g (lw_at lw_m9 0 rfl) rfl
theorem q2058 : (Jvm.Cond.code ({ cls := "CopyPricesModel", name := "errs", desc := "(I)V" } : Jvm.MethodName) prog_14_method_63_code (2 : Nat) (Option.none : Option Jvm.ClassFile.FieldType)) ∈ lw_all := lw_g (lw_at lw_m9 1 rfl) rfl
theorem q2059 : (Jvm.Cond.methodLink "CopyPricesModel" (307 : Nat) ({ cls := "CopyPricesModel", name := "readsText", desc := "()V" } : Jvm.MethodName)) ∈ lw_all := lw_g (lw_at lw_m9 2 rfl) rfl
theorem q2060 : (Jvm.Cond.privateMethod ({ cls := "CopyPricesModel", name := "readsText", desc := "()V" } : Jvm.MethodName)) ∈ lw_tbl := lw_at lw_m9 3 rfl
theorem q2061 : (Jvm.Cond.instanceMethod ({ cls := "CopyPricesModel", name := "readsText", desc := "()V" } : Jvm.MethodName)) ∈ lw_all := lw_g (lw_at lw_m9 4 rfl) rfl
theorem q2062 : (Jvm.Cond.code ({ cls := "CopyPricesModel", name := "readsText", desc := "()V" } : Jvm.MethodName) prog_14_method_74_code (1 : Nat) (Option.none : Option Jvm.ClassFile.FieldType)) ∈ lw_all := lw_g (lw_at lw_m9 5 rfl) rfl
theorem q2063 : (Jvm.Cond.methodLink "CopyPricesModel" (257 : Nat) ({ cls := "CopyPricesModel", name := "goesOn", desc := "()V" } : Jvm.MethodName)) ∈ lw_all := lw_g (lw_at lw_m9 6 rfl) rfl
theorem q2064 : (Jvm.Cond.privateMethod ({ cls := "CopyPricesModel", name := "goesOn", desc := "()V" } : Jvm.MethodName)) ∈ lw_tbl := lw_at lw_m9 7 rfl
theorem q2065 : (Jvm.Cond.instanceMethod ({ cls := "CopyPricesModel", name := "goesOn", desc := "()V" } : Jvm.MethodName)) ∈ lw_all := lw_g (lw_at lw_m9 8 rfl) rfl
theorem q2066 : (Jvm.Cond.code ({ cls := "CopyPricesModel", name := "goesOn", desc := "()V" } : Jvm.MethodName) prog_14_method_64_code (1 : Nat) (Option.none : Option Jvm.ClassFile.FieldType)) ∈ lw_all := lw_g (lw_at lw_m9 9 rfl) rfl
theorem q2067 : (Jvm.Cond.methodLink "CopyPricesModel" (287 : Nat) ({ cls := "CopyPricesModel", name := "readsWord", desc := "()V" } : Jvm.MethodName)) ∈ lw_all := lw_g (lw_at lw_m9 10 rfl) rfl
theorem q2068 : (Jvm.Cond.privateMethod ({ cls := "CopyPricesModel", name := "readsWord", desc := "()V" } : Jvm.MethodName)) ∈ lw_tbl := lw_at lw_m9 11 rfl
theorem q2069 : (Jvm.Cond.instanceMethod ({ cls := "CopyPricesModel", name := "readsWord", desc := "()V" } : Jvm.MethodName)) ∈ lw_all := lw_g (lw_at lw_m9 12 rfl) rfl
theorem q2070 : (Jvm.Cond.code ({ cls := "CopyPricesModel", name := "readsWord", desc := "()V" } : Jvm.MethodName) prog_14_method_73_code (2 : Nat) (Option.none : Option Jvm.ClassFile.FieldType)) ∈ lw_all := lw_g (lw_at lw_m9 13 rfl) rfl
theorem q2071 : (Jvm.Cond.stringRef "CopyPricesModel" (310 : Nat) "letter") ∈ lw_tbl := lw_at lw_m9 14 rfl
theorem q2072 : (Jvm.Cond.methodLink "CopyPricesModel" (311 : Nat) ({ cls := "CopyPricesModel", name := "readsLetter", desc := "()V" } : Jvm.MethodName)) ∈ lw_all := lw_g (lw_at lw_m9 15 rfl) rfl
theorem q2073 : (Jvm.Cond.privateMethod ({ cls := "CopyPricesModel", name := "readsLetter", desc := "()V" } : Jvm.MethodName)) ∈ lw_tbl := lw_at lw_m9 16 rfl
theorem q2074 : (Jvm.Cond.instanceMethod ({ cls := "CopyPricesModel", name := "readsLetter", desc := "()V" } : Jvm.MethodName)) ∈ lw_all := lw_g (lw_at lw_m9 17 rfl) rfl
theorem q2075 : (Jvm.Cond.code ({ cls := "CopyPricesModel", name := "readsLetter", desc := "()V" } : Jvm.MethodName) prog_14_method_78_code (2 : Nat) (Option.none : Option Jvm.ClassFile.FieldType)) ∈ lw_all := lw_g (lw_at lw_m9 18 rfl) rfl
theorem q2076 : (Jvm.Cond.methodLink "CopyPricesModel" (290 : Nat) ({ cls := "CopyPricesModel", name := "tells", desc := "(I)V" } : Jvm.MethodName)) ∈ lw_all := lw_g (lw_at lw_m9 19 rfl) rfl
theorem q2077 : (Jvm.Cond.privateMethod ({ cls := "CopyPricesModel", name := "tells", desc := "(I)V" } : Jvm.MethodName)) ∈ lw_tbl := lw_at lw_m9 20 rfl
theorem q2078 : (Jvm.Cond.instanceMethod ({ cls := "CopyPricesModel", name := "tells", desc := "(I)V" } : Jvm.MethodName)) ∈ lw_all := lw_g (lw_at lw_m9 21 rfl) rfl
theorem q2079 : (Jvm.Cond.code ({ cls := "CopyPricesModel", name := "tells", desc := "(I)V" } : Jvm.MethodName) prog_14_method_75_code (2 : Nat) (Option.none : Option Jvm.ClassFile.FieldType)) ∈ lw_all := lw_g (lw_at lw_m9 22 rfl) rfl
theorem q2080 : (Jvm.Cond.methodLink "CopyPricesModel" (299 : Nat) ({ cls := "CopyPricesModel", name := "number", desc := "(II)I" } : Jvm.MethodName)) ∈ lw_all := lw_g (lw_at lw_m9 23 rfl) rfl
theorem q2081 : (Jvm.Cond.privateMethod ({ cls := "CopyPricesModel", name := "number", desc := "(II)I" } : Jvm.MethodName)) ∈ lw_tbl := lw_at lw_m9 24 rfl
theorem q2082 : (Jvm.Cond.instanceMethod ({ cls := "CopyPricesModel", name := "number", desc := "(II)I" } : Jvm.MethodName)) ∈ lw_all := lw_g (lw_at lw_m9 25 rfl) rfl
theorem q2083 : (Jvm.Cond.code ({ cls := "CopyPricesModel", name := "number", desc := "(II)I" } : Jvm.MethodName) prog_14_method_68_code (4 : Nat) (Option.some Jvm.ClassFile.FieldType.int)) ∈ lw_all := lw_g (lw_at lw_m9 26 rfl) rfl
theorem q2084 : (Jvm.Cond.methodLink "CopyPricesModel" (260 : Nat) ({ cls := "CopyPricesModel", name := "numberHere", desc := "(II)I" } : Jvm.MethodName)) ∈ lw_all := lw_g (lw_at lw_m9 27 rfl) rfl
theorem q2085 : (Jvm.Cond.privateMethod ({ cls := "CopyPricesModel", name := "numberHere", desc := "(II)I" } : Jvm.MethodName)) ∈ lw_tbl := lw_at lw_m9 28 rfl
theorem q2086 : (Jvm.Cond.instanceMethod ({ cls := "CopyPricesModel", name := "numberHere", desc := "(II)I" } : Jvm.MethodName)) ∈ lw_all := lw_g (lw_at lw_m9 29 rfl) rfl
theorem q2087 : (Jvm.Cond.code ({ cls := "CopyPricesModel", name := "numberHere", desc := "(II)I" } : Jvm.MethodName) prog_14_method_67_code (3 : Nat) (Option.some Jvm.ClassFile.FieldType.int)) ∈ lw_all := lw_g (lw_at lw_m9 30 rfl) rfl
theorem q2088 : (Jvm.Cond.stringRef "CopyPricesModel" (314 : Nat) "pin") ∈ lw_tbl := lw_at lw_m9 31 rfl
theorem q2089 : (Jvm.Cond.methodLink "CopyPricesModel" (316 : Nat) ({ cls := "CopyPricesModel", name := "readsPin", desc := "()V" } : Jvm.MethodName)) ∈ lw_all := lw_g (lw_at lw_m9 32 rfl) rfl
theorem q2090 : (Jvm.Cond.privateMethod ({ cls := "CopyPricesModel", name := "readsPin", desc := "()V" } : Jvm.MethodName)) ∈ lw_tbl := lw_at lw_m9 33 rfl
theorem q2091 : (Jvm.Cond.instanceMethod ({ cls := "CopyPricesModel", name := "readsPin", desc := "()V" } : Jvm.MethodName)) ∈ lw_all := lw_g (lw_at lw_m9 34 rfl) rfl
theorem q2092 : (Jvm.Cond.code ({ cls := "CopyPricesModel", name := "readsPin", desc := "()V" } : Jvm.MethodName) prog_14_method_79_code (2 : Nat) (Option.none : Option Jvm.ClassFile.FieldType)) ∈ lw_all := lw_g (lw_at lw_m9 35 rfl) rfl
theorem q2093 : (Jvm.Cond.methodLink "CopyPricesModel" (302 : Nat) ({ cls := "CopyPricesModel", name := "pinMany", desc := "()I" } : Jvm.MethodName)) ∈ lw_all := lw_g (lw_at lw_m9 36 rfl) rfl
theorem q2094 : (Jvm.Cond.privateMethod ({ cls := "CopyPricesModel", name := "pinMany", desc := "()I" } : Jvm.MethodName)) ∈ lw_tbl := lw_at lw_m9 37 rfl
theorem q2095 : (Jvm.Cond.instanceMethod ({ cls := "CopyPricesModel", name := "pinMany", desc := "()I" } : Jvm.MethodName)) ∈ lw_all := lw_g (lw_at lw_m9 38 rfl) rfl
theorem q2096 : (Jvm.Cond.code ({ cls := "CopyPricesModel", name := "pinMany", desc := "()I" } : Jvm.MethodName) prog_14_method_84_code (3 : Nat) (Option.some Jvm.ClassFile.FieldType.int)) ∈ lw_all := lw_g (lw_at lw_m9 39 rfl) rfl
theorem q2097 : (Jvm.Cond.methodLink "CopyPricesModel" (117 : Nat) ({ cls := "CopyPricesModel", name := "isPinned", desc := "(I)Z" } : Jvm.MethodName)) ∈ lw_all := lw_g (lw_at lw_m9 40 rfl) rfl
theorem q2098 : (Jvm.Cond.privateMethod ({ cls := "CopyPricesModel", name := "isPinned", desc := "(I)Z" } : Jvm.MethodName)) ∈ lw_tbl := lw_at lw_m9 41 rfl
theorem q2099 : (Jvm.Cond.instanceMethod ({ cls := "CopyPricesModel", name := "isPinned", desc := "(I)Z" } : Jvm.MethodName)) ∈ lw_all := lw_g (lw_at lw_m9 42 rfl) rfl
theorem q2100 : (Jvm.Cond.code ({ cls := "CopyPricesModel", name := "isPinned", desc := "(I)Z" } : Jvm.MethodName) prog_14_method_14_code (2 : Nat) (Option.some Jvm.ClassFile.FieldType.boolean)) ∈ lw_all := lw_g (lw_at lw_m9 43 rfl) rfl
theorem q2101 : (Jvm.Cond.methodLink "CopyPricesModel" (319 : Nat) ({ cls := "CopyPricesModel", name := "settingHere", desc := "()I" } : Jvm.MethodName)) ∈ lw_all := lw_g (lw_at lw_m9 44 rfl) rfl
theorem q2102 : (Jvm.Cond.privateMethod ({ cls := "CopyPricesModel", name := "settingHere", desc := "()I" } : Jvm.MethodName)) ∈ lw_tbl := lw_at lw_m9 45 rfl
theorem q2103 : (Jvm.Cond.instanceMethod ({ cls := "CopyPricesModel", name := "settingHere", desc := "()I" } : Jvm.MethodName)) ∈ lw_all := lw_g (lw_at lw_m9 46 rfl) rfl
theorem q2104 : (Jvm.Cond.code ({ cls := "CopyPricesModel", name := "settingHere", desc := "()I" } : Jvm.MethodName) prog_14_method_71_code (1 : Nat) (Option.some Jvm.ClassFile.FieldType.int)) ∈ lw_all := lw_g (lw_at lw_m9 47 rfl) rfl
theorem q2105 : (Jvm.Cond.stringRef "CopyPricesModel" (263 : Nat) "window") ∈ lw_tbl := lw_at lw_m9 48 rfl
theorem q2106 : (Jvm.Cond.stringRef "CopyPricesModel" (269 : Nat) "depth") ∈ lw_tbl := lw_at lw_m9 49 rfl
theorem q2107 : (Jvm.Cond.stringRef "CopyPricesModel" (271 : Nat) "least") ∈ lw_tbl := lw_at lw_m9 50 rfl
theorem q2108 : (Jvm.Cond.stringRef "CopyPricesModel" (273 : Nat) "most") ∈ lw_tbl := lw_at lw_m9 51 rfl
theorem q2109 : (Jvm.Cond.stringRef "CopyPricesModel" (275 : Nat) "wait") ∈ lw_tbl := lw_at lw_m9 52 rfl
theorem q2110 : (Jvm.Cond.methodLink "CopyPricesModel" (322 : Nat) ({ cls := "CopyPricesModel", name := "readsSetting", desc := "(I)V" } : Jvm.MethodName)) ∈ lw_all := lw_g (lw_at lw_m9 53 rfl) rfl
theorem q2111 : (Jvm.Cond.privateMethod ({ cls := "CopyPricesModel", name := "readsSetting", desc := "(I)V" } : Jvm.MethodName)) ∈ lw_tbl := lw_at lw_m9 54 rfl
theorem q2112 : (Jvm.Cond.instanceMethod ({ cls := "CopyPricesModel", name := "readsSetting", desc := "(I)V" } : Jvm.MethodName)) ∈ lw_all := lw_g (lw_at lw_m9 55 rfl) rfl
theorem q2113 : (Jvm.Cond.code ({ cls := "CopyPricesModel", name := "readsSetting", desc := "(I)V" } : Jvm.MethodName) prog_14_method_76_code (2 : Nat) (Option.none : Option Jvm.ClassFile.FieldType)) ∈ lw_all := lw_g (lw_at lw_m9 56 rfl) rfl
theorem q2114 : (Jvm.Cond.methodLink "CopyPricesModel" (293 : Nat) ({ cls := "CopyPricesModel", name := "leastOf", desc := "(I)I" } : Jvm.MethodName)) ∈ lw_all := lw_g (lw_at lw_m9 57 rfl) rfl
theorem q2115 : (Jvm.Cond.static ({ cls := "CopyPricesModel", name := "leastOf", desc := "(I)I" } : Jvm.MethodName)) ∈ lw_all := lw_g (lw_at lw_m9 58 rfl) rfl
theorem q2116 : (Jvm.Cond.code ({ cls := "CopyPricesModel", name := "leastOf", desc := "(I)I" } : Jvm.MethodName) prog_14_method_69_code (1 : Nat) (Option.some Jvm.ClassFile.FieldType.int)) ∈ lw_all := lw_g (lw_at lw_m9 59 rfl) rfl
theorem q2117 : (Jvm.Cond.methodLink "CopyPricesModel" (296 : Nat) ({ cls := "CopyPricesModel", name := "mostOf", desc := "(I)I" } : Jvm.MethodName)) ∈ lw_all := lw_g (lw_at lw_m9 60 rfl) rfl
theorem q2118 : (Jvm.Cond.static ({ cls := "CopyPricesModel", name := "mostOf", desc := "(I)I" } : Jvm.MethodName)) ∈ lw_all := lw_g (lw_at lw_m9 61 rfl) rfl
theorem q2119 : (Jvm.Cond.code ({ cls := "CopyPricesModel", name := "mostOf", desc := "(I)I" } : Jvm.MethodName) prog_14_method_70_code (1 : Nat) (Option.some Jvm.ClassFile.FieldType.int)) ∈ lw_all := lw_g (lw_at lw_m9 62 rfl) rfl
theorem q2120 : (Jvm.Cond.methodLink "CopyPricesModel" (325 : Nat) ({ cls := "CopyPricesModel", name := "priceHere", desc := "()I" } : Jvm.MethodName)) ∈ lw_all := lw_g (lw_at lw_m9 63 rfl) rfl
theorem q2121 : (Jvm.Cond.privateMethod ({ cls := "CopyPricesModel", name := "priceHere", desc := "()I" } : Jvm.MethodName)) ∈ lw_tbl := lw_at lw_m9 64 rfl
theorem q2122 : (Jvm.Cond.instanceMethod ({ cls := "CopyPricesModel", name := "priceHere", desc := "()I" } : Jvm.MethodName)) ∈ lw_all := lw_g (lw_at lw_m9 65 rfl) rfl
theorem q2123 : (Jvm.Cond.code ({ cls := "CopyPricesModel", name := "priceHere", desc := "()I" } : Jvm.MethodName) prog_14_method_72_code (1 : Nat) (Option.some Jvm.ClassFile.FieldType.int)) ∈ lw_all := lw_g (lw_at lw_m9 66 rfl) rfl
theorem q2124 : (Jvm.Cond.stringRef "CopyPricesModel" (277 : Nat) "run") ∈ lw_tbl := lw_at lw_m9 67 rfl
theorem q2125 : (Jvm.Cond.stringRef "CopyPricesModel" (279 : Nat) "copy") ∈ lw_tbl := lw_at lw_m9 68 rfl
theorem q2126 : (Jvm.Cond.stringRef "CopyPricesModel" (281 : Nat) "far") ∈ lw_tbl := lw_at lw_m9 69 rfl
theorem q2127 : (Jvm.Cond.stringRef "CopyPricesModel" (283 : Nat) "long") ∈ lw_tbl := lw_at lw_m9 70 rfl
theorem q2128 : (Jvm.Cond.stringRef "CopyPricesModel" (285 : Nat) "again") ∈ lw_tbl := lw_at lw_m9 71 rfl
theorem q2129 : (Jvm.Cond.methodLink "CopyPricesModel" (328 : Nat) ({ cls := "CopyPricesModel", name := "readsPrice", desc := "(I)V" } : Jvm.MethodName)) ∈ lw_all := lw_g (lw_at lw_m9 72 rfl) rfl
theorem q2130 : (Jvm.Cond.privateMethod ({ cls := "CopyPricesModel", name := "readsPrice", desc := "(I)V" } : Jvm.MethodName)) ∈ lw_tbl := lw_at lw_m9 73 rfl
theorem q2131 : (Jvm.Cond.instanceMethod ({ cls := "CopyPricesModel", name := "readsPrice", desc := "(I)V" } : Jvm.MethodName)) ∈ lw_all := lw_g (lw_at lw_m9 74 rfl) rfl
theorem q2132 : (Jvm.Cond.code ({ cls := "CopyPricesModel", name := "readsPrice", desc := "(I)V" } : Jvm.MethodName) prog_14_method_77_code (2 : Nat) (Option.none : Option Jvm.ClassFile.FieldType)) ∈ lw_all := lw_g (lw_at lw_m9 75 rfl) rfl
theorem q2133 : (Jvm.Cond.methodLink "CopyPricesModel" (331 : Nat) ({ cls := "CopyPricesModel", name := "endsStatement", desc := "()V" } : Jvm.MethodName)) ∈ lw_all := lw_g (lw_at lw_m9 76 rfl) rfl
theorem q2134 : (Jvm.Cond.privateMethod ({ cls := "CopyPricesModel", name := "endsStatement", desc := "()V" } : Jvm.MethodName)) ∈ lw_tbl := lw_at lw_m9 77 rfl
theorem q2135 : (Jvm.Cond.instanceMethod ({ cls := "CopyPricesModel", name := "endsStatement", desc := "()V" } : Jvm.MethodName)) ∈ lw_all := lw_g (lw_at lw_m9 78 rfl) rfl
theorem q2136 : (Jvm.Cond.code ({ cls := "CopyPricesModel", name := "endsStatement", desc := "()V" } : Jvm.MethodName) prog_14_method_66_code (1 : Nat) (Option.none : Option Jvm.ClassFile.FieldType)) ∈ lw_all := lw_g (lw_at lw_m9 79 rfl) rfl
theorem q2138 : (Jvm.Cond.instanceMethod ({ cls := "CopyPricesModel", name := "count", desc := "(I)I" } : Jvm.MethodName)) ∈ lw_all := lw_g (lw_at lw_m9 81 rfl) rfl
theorem q2139 : (Jvm.Cond.selects "CopyPricesModel" ({ cls := "CopyPricesModel", name := "count", desc := "(I)I" } : Jvm.MethodName) ({ cls := "CopyPricesModel", name := "count", desc := "(I)I" } : Jvm.MethodName)) ∈ lw_all := lw_g (lw_at lw_m9 82 rfl) rfl
theorem q2140 : (Jvm.Cond.code ({ cls := "CopyPricesModel", name := "count", desc := "(I)I" } : Jvm.MethodName) prog_14_method_90_code (2 : Nat) (Option.some Jvm.ClassFile.FieldType.int)) ∈ lw_all := lw_g (lw_at lw_m9 83 rfl) rfl
theorem q2141 : (Jvm.Cond.methodLink "CopyPricesModel" (358 : Nat) ({ cls := "CopyPricesModel", name := "mayOne", desc := "(Z)Z" } : Jvm.MethodName)) ∈ lw_all := lw_g (lw_at lw_m9 84 rfl) rfl
theorem q2142 : (Jvm.Cond.privateMethod ({ cls := "CopyPricesModel", name := "mayOne", desc := "(Z)Z" } : Jvm.MethodName)) ∈ lw_tbl := lw_at lw_m9 85 rfl
theorem q2143 : (Jvm.Cond.instanceMethod ({ cls := "CopyPricesModel", name := "mayOne", desc := "(Z)Z" } : Jvm.MethodName)) ∈ lw_all := lw_g (lw_at lw_m9 86 rfl) rfl
theorem q2144 : (Jvm.Cond.code ({ cls := "CopyPricesModel", name := "mayOne", desc := "(Z)Z" } : Jvm.MethodName) prog_14_method_83_code (2 : Nat) (Option.some Jvm.ClassFile.FieldType.boolean)) ∈ lw_all := lw_g (lw_at lw_m9 87 rfl) rfl
theorem q2145 : (Jvm.Cond.methodLink "CopyPricesModel" (348 : Nat) ({ cls := "CopyPricesModel", name := "mayTwo", desc := "(ZZ)Z" } : Jvm.MethodName)) ∈ lw_all := lw_g (lw_at lw_m9 88 rfl) rfl
theorem q2146 : (Jvm.Cond.privateMethod ({ cls := "CopyPricesModel", name := "mayTwo", desc := "(ZZ)Z" } : Jvm.MethodName)) ∈ lw_tbl := lw_at lw_m9 89 rfl
theorem q2147 : (Jvm.Cond.instanceMethod ({ cls := "CopyPricesModel", name := "mayTwo", desc := "(ZZ)Z" } : Jvm.MethodName)) ∈ lw_all := lw_g (lw_at lw_m9 90 rfl) rfl
theorem q2148 : (Jvm.Cond.code ({ cls := "CopyPricesModel", name := "mayTwo", desc := "(ZZ)Z" } : Jvm.MethodName) prog_14_method_82_code (3 : Nat) (Option.some Jvm.ClassFile.FieldType.boolean)) ∈ lw_all := lw_g (lw_at lw_m9 91 rfl) rfl
theorem q2149 : (Jvm.Cond.methodLink "CopyPricesModel" (362 : Nat) ({ cls := "CopyPricesModel", name := "withCandidates", desc := "()I" } : Jvm.MethodName)) ∈ lw_all := lw_g (lw_at lw_m9 92 rfl) rfl
theorem q2150 : (Jvm.Cond.privateMethod ({ cls := "CopyPricesModel", name := "withCandidates", desc := "()I" } : Jvm.MethodName)) ∈ lw_tbl := lw_at lw_m9 93 rfl
theorem q2151 : (Jvm.Cond.instanceMethod ({ cls := "CopyPricesModel", name := "withCandidates", desc := "()I" } : Jvm.MethodName)) ∈ lw_all := lw_g (lw_at lw_m9 94 rfl) rfl
theorem q2152 : (Jvm.Cond.code ({ cls := "CopyPricesModel", name := "withCandidates", desc := "()I" } : Jvm.MethodName) prog_14_method_85_code (3 : Nat) (Option.some Jvm.ClassFile.FieldType.int)) ∈ lw_all := lw_g (lw_at lw_m9 95 rfl) rfl
theorem q2153 : (Jvm.Cond.methodLink "CopyPricesModel" (352 : Nat) ({ cls := "CopyPricesModel", name := "candidateMany", desc := "(I)I" } : Jvm.MethodName)) ∈ lw_all := lw_g (lw_at lw_m9 96 rfl) rfl
theorem q2154 : (Jvm.Cond.privateMethod ({ cls := "CopyPricesModel", name := "candidateMany", desc := "(I)I" } : Jvm.MethodName)) ∈ lw_tbl := lw_at lw_m9 97 rfl
theorem q2155 : (Jvm.Cond.instanceMethod ({ cls := "CopyPricesModel", name := "candidateMany", desc := "(I)I" } : Jvm.MethodName)) ∈ lw_all := lw_g (lw_at lw_m9 98 rfl) rfl
theorem q2156 : (Jvm.Cond.code ({ cls := "CopyPricesModel", name := "candidateMany", desc := "(I)I" } : Jvm.MethodName) prog_14_method_20_code (2 : Nat) (Option.some Jvm.ClassFile.FieldType.int)) ∈ lw_all := lw_g (lw_at lw_m9 99 rfl) rfl
theorem q2157 : (Jvm.Cond.methodLink "CopyPricesModel" (93 : Nat) ({ cls := "CopyPricesModel", name := "set", desc := "(I)I" } : Jvm.MethodName)) ∈ lw_all := lw_g (lw_at lw_m9 100 rfl) rfl
theorem q2158 : (Jvm.Cond.privateMethod ({ cls := "CopyPricesModel", name := "set", desc := "(I)I" } : Jvm.MethodName)) ∈ lw_tbl := lw_at lw_m9 101 rfl
theorem q2159 : (Jvm.Cond.instanceMethod ({ cls := "CopyPricesModel", name := "set", desc := "(I)I" } : Jvm.MethodName)) ∈ lw_all := lw_g (lw_at lw_m9 102 rfl) rfl
theorem q2160 : (Jvm.Cond.code ({ cls := "CopyPricesModel", name := "set", desc := "(I)I" } : Jvm.MethodName) prog_14_method_15_code (2 : Nat) (Option.some Jvm.ClassFile.FieldType.int)) ∈ lw_all := lw_g (lw_at lw_m9 103 rfl) rfl
theorem q2161 : (Jvm.Cond.methodLink "CopyPricesModel" (111 : Nat) ({ cls := "CopyPricesModel", name := "chainMany", desc := "(I)I" } : Jvm.MethodName)) ∈ lw_all := lw_g (lw_at lw_m9 104 rfl) rfl
theorem q2162 : (Jvm.Cond.privateMethod ({ cls := "CopyPricesModel", name := "chainMany", desc := "(I)I" } : Jvm.MethodName)) ∈ lw_tbl := lw_at lw_m9 105 rfl
theorem q2163 : (Jvm.Cond.instanceMethod ({ cls := "CopyPricesModel", name := "chainMany", desc := "(I)I" } : Jvm.MethodName)) ∈ lw_all := lw_g (lw_at lw_m9 106 rfl) rfl
theorem q2164 : (Jvm.Cond.code ({ cls := "CopyPricesModel", name := "chainMany", desc := "(I)I" } : Jvm.MethodName) prog_14_method_19_code (4 : Nat) (Option.some Jvm.ClassFile.FieldType.int)) ∈ lw_all := lw_g (lw_at lw_m9 107 rfl) rfl
theorem q2165 : (Jvm.Cond.methodLink "CopyPricesModel" (100 : Nat) ({ cls := "CopyPricesModel", name := "earliest", desc := "(I)I" } : Jvm.MethodName)) ∈ lw_all := lw_g (lw_at lw_m9 108 rfl) rfl
theorem q2166 : (Jvm.Cond.privateMethod ({ cls := "CopyPricesModel", name := "earliest", desc := "(I)I" } : Jvm.MethodName)) ∈ lw_tbl := lw_at lw_m9 109 rfl
theorem q2167 : (Jvm.Cond.instanceMethod ({ cls := "CopyPricesModel", name := "earliest", desc := "(I)I" } : Jvm.MethodName)) ∈ lw_all := lw_g (lw_at lw_m9 110 rfl) rfl
theorem q2168 : (Jvm.Cond.code ({ cls := "CopyPricesModel", name := "earliest", desc := "(I)I" } : Jvm.MethodName) prog_14_method_18_code (2 : Nat) (Option.some Jvm.ClassFile.FieldType.int)) ∈ lw_all := lw_g (lw_at lw_m9 111 rfl) rfl
theorem q2169 : (Jvm.Cond.methodLink "CopyPricesModel" (96 : Nat) ({ cls := "CopyPricesModel", name := "larger", desc := "(II)I" } : Jvm.MethodName)) ∈ lw_all := lw_g (lw_at lw_m9 112 rfl) rfl
theorem q2170 : (Jvm.Cond.static ({ cls := "CopyPricesModel", name := "larger", desc := "(II)I" } : Jvm.MethodName)) ∈ lw_all := lw_g (lw_at lw_m9 113 rfl) rfl
theorem q2171 : (Jvm.Cond.code ({ cls := "CopyPricesModel", name := "larger", desc := "(II)I" } : Jvm.MethodName) prog_14_method_5_code (2 : Nat) (Option.some Jvm.ClassFile.FieldType.int)) ∈ lw_all := lw_g (lw_at lw_m9 114 rfl) rfl
theorem q2172 : (Jvm.Cond.methodLink "CopyPricesModel" (103 : Nat) ({ cls := "CopyPricesModel", name := "isLink", desc := "(II)Z" } : Jvm.MethodName)) ∈ lw_all := lw_g (lw_at lw_m9 115 rfl) rfl
theorem q2173 : (Jvm.Cond.privateMethod ({ cls := "CopyPricesModel", name := "isLink", desc := "(II)Z" } : Jvm.MethodName)) ∈ lw_tbl := lw_at lw_m9 116 rfl
theorem q2174 : (Jvm.Cond.instanceMethod ({ cls := "CopyPricesModel", name := "isLink", desc := "(II)Z" } : Jvm.MethodName)) ∈ lw_all := lw_g (lw_at lw_m9 117 rfl) rfl
theorem q2175 : (Jvm.Cond.code ({ cls := "CopyPricesModel", name := "isLink", desc := "(II)Z" } : Jvm.MethodName) prog_14_method_17_code (3 : Nat) (Option.some Jvm.ClassFile.FieldType.boolean)) ∈ lw_all := lw_g (lw_at lw_m9 118 rfl) rfl
theorem q2176 : (Jvm.Cond.methodLink "CopyPricesModel" (89 : Nat) ({ cls := "CopyPricesModel", name := "letter", desc := "(I)I" } : Jvm.MethodName)) ∈ lw_all := lw_g (lw_at lw_m9 119 rfl) rfl
theorem q2177 : (Jvm.Cond.privateMethod ({ cls := "CopyPricesModel", name := "letter", desc := "(I)I" } : Jvm.MethodName)) ∈ lw_tbl := lw_at lw_m9 120 rfl
theorem q2178 : (Jvm.Cond.instanceMethod ({ cls := "CopyPricesModel", name := "letter", desc := "(I)I" } : Jvm.MethodName)) ∈ lw_all := lw_g (lw_at lw_m9 121 rfl) rfl
theorem q2179 : (Jvm.Cond.code ({ cls := "CopyPricesModel", name := "letter", desc := "(I)I" } : Jvm.MethodName) prog_14_method_13_code (2 : Nat) (Option.some Jvm.ClassFile.FieldType.int)) ∈ lw_all := lw_g (lw_at lw_m9 122 rfl) rfl
theorem q2180 : (Jvm.Cond.methodLink "CopyPricesModel" (107 : Nat) ({ cls := "CopyPricesModel", name := "bit", desc := "(Z)I" } : Jvm.MethodName)) ∈ lw_all := lw_g (lw_at lw_m9 123 rfl) rfl
theorem q2181 : (Jvm.Cond.static ({ cls := "CopyPricesModel", name := "bit", desc := "(Z)I" } : Jvm.MethodName)) ∈ lw_all := lw_g (lw_at lw_m9 124 rfl) rfl
theorem q2182 : (Jvm.Cond.code ({ cls := "CopyPricesModel", name := "bit", desc := "(Z)I" } : Jvm.MethodName) prog_14_method_3_code (1 : Nat) (Option.some Jvm.ClassFile.FieldType.int)) ∈ lw_all := lw_g (lw_at lw_m9 125 rfl) rfl
theorem q2183 : (Jvm.Cond.methodLink "CopyPricesModel" (114 : Nat) ({ cls := "CopyPricesModel", name := "lesser", desc := "(II)I" } : Jvm.MethodName)) ∈ lw_all := lw_g (lw_at lw_m9 126 rfl) rfl
theorem q2184 : (Jvm.Cond.static ({ cls := "CopyPricesModel", name := "lesser", desc := "(II)I" } : Jvm.MethodName)) ∈ lw_all := lw_g (lw_at lw_m9 127 rfl) rfl
theorem q2185 : (Jvm.Cond.code ({ cls := "CopyPricesModel", name := "lesser", desc := "(II)I" } : Jvm.MethodName) prog_14_method_4_code (2 : Nat) (Option.some Jvm.ClassFile.FieldType.int)) ∈ lw_all := lw_g (lw_at lw_m9 128 rfl) rfl
theorem q2186 : (Jvm.Cond.methodLink "CopyPricesModel" (365 : Nat) ({ cls := "CopyPricesModel", name := "withCopies", desc := "()I" } : Jvm.MethodName)) ∈ lw_all := lw_g (lw_at lw_m9 129 rfl) rfl
theorem q2187 : (Jvm.Cond.privateMethod ({ cls := "CopyPricesModel", name := "withCopies", desc := "()I" } : Jvm.MethodName)) ∈ lw_tbl := lw_at lw_m9 130 rfl
theorem q2188 : (Jvm.Cond.instanceMethod ({ cls := "CopyPricesModel", name := "withCopies", desc := "()I" } : Jvm.MethodName)) ∈ lw_all := lw_g (lw_at lw_m9 131 rfl) rfl
theorem q2189 : (Jvm.Cond.code ({ cls := "CopyPricesModel", name := "withCopies", desc := "()I" } : Jvm.MethodName) prog_14_method_86_code (3 : Nat) (Option.some Jvm.ClassFile.FieldType.int)) ∈ lw_all := lw_g (lw_at lw_m9 132 rfl) rfl
theorem q2190 : (Jvm.Cond.methodLink "CopyPricesModel" (165 : Nat) ({ cls := "CopyPricesModel", name := "laysCopies", desc := "()V" } : Jvm.MethodName)) ∈ lw_all := lw_g (lw_at lw_m9 133 rfl) rfl
theorem q2191 : (Jvm.Cond.privateMethod ({ cls := "CopyPricesModel", name := "laysCopies", desc := "()V" } : Jvm.MethodName)) ∈ lw_tbl := lw_at lw_m9 134 rfl
theorem q2192 : (Jvm.Cond.instanceMethod ({ cls := "CopyPricesModel", name := "laysCopies", desc := "()V" } : Jvm.MethodName)) ∈ lw_all := lw_g (lw_at lw_m9 135 rfl) rfl
theorem q2193 : (Jvm.Cond.code ({ cls := "CopyPricesModel", name := "laysCopies", desc := "()V" } : Jvm.MethodName) prog_14_method_28_code (3 : Nat) (Option.none : Option Jvm.ClassFile.FieldType)) ∈ lw_all := lw_g (lw_at lw_m9 136 rfl) rfl
theorem q2194 : (Jvm.Cond.methodLink "CopyPricesModel" (134 : Nat) ({ cls := "CopyPricesModel", name := "worksLongest", desc := "(II)I" } : Jvm.MethodName)) ∈ lw_all := lw_g (lw_at lw_m9 137 rfl) rfl
theorem q2195 : (Jvm.Cond.privateMethod ({ cls := "CopyPricesModel", name := "worksLongest", desc := "(II)I" } : Jvm.MethodName)) ∈ lw_tbl := lw_at lw_m9 138 rfl
theorem q2196 : (Jvm.Cond.instanceMethod ({ cls := "CopyPricesModel", name := "worksLongest", desc := "(II)I" } : Jvm.MethodName)) ∈ lw_all := lw_g (lw_at lw_m9 139 rfl) rfl
theorem q2197 : (Jvm.Cond.code ({ cls := "CopyPricesModel", name := "worksLongest", desc := "(II)I" } : Jvm.MethodName) prog_14_method_27_code (5 : Nat) (Option.some Jvm.ClassFile.FieldType.int)) ∈ lw_all := lw_g (lw_at lw_m9 140 rfl) rfl
theorem q2198 : (Jvm.Cond.methodLink "CopyPricesModel" (128 : Nat) ({ cls := "CopyPricesModel", name := "isCandidate", desc := "(II)Z" } : Jvm.MethodName)) ∈ lw_all := lw_g (lw_at lw_m9 141 rfl) rfl
theorem q2199 : (Jvm.Cond.privateMethod ({ cls := "CopyPricesModel", name := "isCandidate", desc := "(II)Z" } : Jvm.MethodName)) ∈ lw_tbl := lw_at lw_m9 142 rfl
theorem q2200 : (Jvm.Cond.instanceMethod ({ cls := "CopyPricesModel", name := "isCandidate", desc := "(II)Z" } : Jvm.MethodName)) ∈ lw_all := lw_g (lw_at lw_m9 143 rfl) rfl
theorem q2201 : (Jvm.Cond.code ({ cls := "CopyPricesModel", name := "isCandidate", desc := "(II)Z" } : Jvm.MethodName) prog_14_method_22_code (5 : Nat) (Option.some Jvm.ClassFile.FieldType.boolean)) ∈ lw_all := lw_g (lw_at lw_m9 144 rfl) rfl
theorem q2202 : (Jvm.Cond.methodLink "CopyPricesModel" (125 : Nat) ({ cls := "CopyPricesModel", name := "sameMany", desc := "(II)I" } : Jvm.MethodName)) ∈ lw_all := lw_g (lw_at lw_m9 145 rfl) rfl
theorem q2203 : (Jvm.Cond.privateMethod ({ cls := "CopyPricesModel", name := "sameMany", desc := "(II)I" } : Jvm.MethodName)) ∈ lw_tbl := lw_at lw_m9 146 rfl
theorem q2204 : (Jvm.Cond.instanceMethod ({ cls := "CopyPricesModel", name := "sameMany", desc := "(II)I" } : Jvm.MethodName)) ∈ lw_all := lw_g (lw_at lw_m9 147 rfl) rfl
theorem q2205 : (Jvm.Cond.code ({ cls := "CopyPricesModel", name := "sameMany", desc := "(II)I" } : Jvm.MethodName) prog_14_method_23_code (4 : Nat) (Option.some Jvm.ClassFile.FieldType.int)) ∈ lw_all := lw_g (lw_at lw_m9 148 rfl) rfl
theorem q2206 : (Jvm.Cond.methodLink "CopyPricesModel" (140 : Nat) ({ cls := "CopyPricesModel", name := "longestOf", desc := "(I)I" } : Jvm.MethodName)) ∈ lw_all := lw_g (lw_at lw_m9 149 rfl) rfl
theorem q2207 : (Jvm.Cond.privateMethod ({ cls := "CopyPricesModel", name := "longestOf", desc := "(I)I" } : Jvm.MethodName)) ∈ lw_tbl := lw_at lw_m9 150 rfl
theorem q2208 : (Jvm.Cond.instanceMethod ({ cls := "CopyPricesModel", name := "longestOf", desc := "(I)I" } : Jvm.MethodName)) ∈ lw_all := lw_g (lw_at lw_m9 151 rfl) rfl
theorem q2209 : (Jvm.Cond.code ({ cls := "CopyPricesModel", name := "longestOf", desc := "(I)I" } : Jvm.MethodName) prog_14_method_30_code (4 : Nat) (Option.some Jvm.ClassFile.FieldType.int)) ∈ lw_all := lw_g (lw_at lw_m9 152 rfl) rfl
theorem q2210 : (Jvm.Cond.methodLink "CopyPricesModel" (137 : Nat) ({ cls := "CopyPricesModel", name := "longestAt", desc := "(II)I" } : Jvm.MethodName)) ∈ lw_all := lw_g (lw_at lw_m9 153 rfl) rfl
theorem q2211 : (Jvm.Cond.privateMethod ({ cls := "CopyPricesModel", name := "longestAt", desc := "(II)I" } : Jvm.MethodName)) ∈ lw_tbl := lw_at lw_m9 154 rfl
theorem q2212 : (Jvm.Cond.instanceMethod ({ cls := "CopyPricesModel", name := "longestAt", desc := "(II)I" } : Jvm.MethodName)) ∈ lw_all := lw_g (lw_at lw_m9 155 rfl) rfl
theorem q2213 : (Jvm.Cond.code ({ cls := "CopyPricesModel", name := "longestAt", desc := "(II)I" } : Jvm.MethodName) prog_14_method_26_code (3 : Nat) (Option.some Jvm.ClassFile.FieldType.int)) ∈ lw_all := lw_g (lw_at lw_m9 156 rfl) rfl
theorem q2214 : (Jvm.Cond.methodLink "CopyPricesModel" (368 : Nat) ({ cls := "CopyPricesModel", name := "copiesAll", desc := "()I" } : Jvm.MethodName)) ∈ lw_all := lw_g (lw_at lw_m9 157 rfl) rfl
theorem q2215 : (Jvm.Cond.privateMethod ({ cls := "CopyPricesModel", name := "copiesAll", desc := "()I" } : Jvm.MethodName)) ∈ lw_tbl := lw_at lw_m9 158 rfl
theorem q2216 : (Jvm.Cond.instanceMethod ({ cls := "CopyPricesModel", name := "copiesAll", desc := "()I" } : Jvm.MethodName)) ∈ lw_all := lw_g (lw_at lw_m9 159 rfl) rfl
theorem q2217 : (Jvm.Cond.code ({ cls := "CopyPricesModel", name := "copiesAll", desc := "()I" } : Jvm.MethodName) prog_14_method_87_code (3 : Nat) (Option.some Jvm.ClassFile.FieldType.int)) ∈ lw_all := lw_g (lw_at lw_m9 160 rfl) rfl
theorem q2218 : (Jvm.Cond.methodLink "CopyPricesModel" (355 : Nat) ({ cls := "CopyPricesModel", name := "copiesAt", desc := "(I)I" } : Jvm.MethodName)) ∈ lw_all := lw_g (lw_at lw_m9 161 rfl) rfl
theorem q2219 : (Jvm.Cond.privateMethod ({ cls := "CopyPricesModel", name := "copiesAt", desc := "(I)I" } : Jvm.MethodName)) ∈ lw_tbl := lw_at lw_m9 162 rfl
theorem q2220 : (Jvm.Cond.instanceMethod ({ cls := "CopyPricesModel", name := "copiesAt", desc := "(I)I" } : Jvm.MethodName)) ∈ lw_all := lw_g (lw_at lw_m9 163 rfl) rfl
theorem q2221 : (Jvm.Cond.code ({ cls := "CopyPricesModel", name := "copiesAt", desc := "(I)I" } : Jvm.MethodName) prog_14_method_29_code (5 : Nat) (Option.some Jvm.ClassFile.FieldType.int)) ∈ lw_all := lw_g (lw_at lw_m9 164 rfl) rfl
theorem q2222 : (Jvm.Cond.methodLink "CopyPricesModel" (371 : Nat) ({ cls := "CopyPricesModel", name := "longestAll", desc := "()I" } : Jvm.MethodName)) ∈ lw_all := lw_g (lw_at lw_m9 165 rfl) rfl
theorem q2223 : (Jvm.Cond.privateMethod ({ cls := "CopyPricesModel", name := "longestAll", desc := "()I" } : Jvm.MethodName)) ∈ lw_tbl := lw_at lw_m9 166 rfl
theorem q2224 : (Jvm.Cond.instanceMethod ({ cls := "CopyPricesModel", name := "longestAll", desc := "()I" } : Jvm.MethodName)) ∈ lw_all := lw_g (lw_at lw_m9 167 rfl) rfl
theorem q2225 : (Jvm.Cond.code ({ cls := "CopyPricesModel", name := "longestAll", desc := "()I" } : Jvm.MethodName) prog_14_method_88_code (3 : Nat) (Option.some Jvm.ClassFile.FieldType.int)) ∈ lw_all := lw_g (lw_at lw_m9 168 rfl) rfl
theorem q2226 : (Jvm.Cond.methodLink "CopyPricesModel" (374 : Nat) ({ cls := "CopyPricesModel", name := "letterMany", desc := "()I" } : Jvm.MethodName)) ∈ lw_all := lw_g (lw_at lw_m9 169 rfl) rfl
theorem q2227 : (Jvm.Cond.privateMethod ({ cls := "CopyPricesModel", name := "letterMany", desc := "()I" } : Jvm.MethodName)) ∈ lw_tbl := lw_at lw_m9 170 rfl
theorem q2228 : (Jvm.Cond.instanceMethod ({ cls := "CopyPricesModel", name := "letterMany", desc := "()I" } : Jvm.MethodName)) ∈ lw_all := lw_g (lw_at lw_m9 171 rfl) rfl
theorem q2229 : (Jvm.Cond.code ({ cls := "CopyPricesModel", name := "letterMany", desc := "()I" } : Jvm.MethodName) prog_14_method_89_code (4 : Nat) (Option.some Jvm.ClassFile.FieldType.int)) ∈ lw_all := lw_g (lw_at lw_m9 172 rfl) rfl
theorem q2231 : (Jvm.Cond.instanceMethod ({ cls := "CopyPricesModel", name := "account", desc := "(I)I" } : Jvm.MethodName)) ∈ lw_all := lw_g (lw_at lw_m9 174 rfl) rfl
theorem q2232 : (Jvm.Cond.selects "CopyPricesModel" ({ cls := "CopyPricesModel", name := "account", desc := "(I)I" } : Jvm.MethodName) ({ cls := "CopyPricesModel", name := "account", desc := "(I)I" } : Jvm.MethodName)) ∈ lw_all := lw_g (lw_at lw_m9 175 rfl) rfl
theorem q2233 : (Jvm.Cond.code ({ cls := "CopyPricesModel", name := "account", desc := "(I)I" } : Jvm.MethodName) prog_14_method_91_code (2 : Nat) (Option.some Jvm.ClassFile.FieldType.int)) ∈ lw_all := lw_g (lw_at lw_m9 176 rfl) rfl
theorem q2235 : (Jvm.Cond.instanceMethod ({ cls := "CopyPricesModel", name := "setting", desc := "(I)I" } : Jvm.MethodName)) ∈ lw_all := lw_g (lw_at lw_m9 178 rfl) rfl
theorem q2236 : (Jvm.Cond.selects "CopyPricesModel" ({ cls := "CopyPricesModel", name := "setting", desc := "(I)I" } : Jvm.MethodName) ({ cls := "CopyPricesModel", name := "setting", desc := "(I)I" } : Jvm.MethodName)) ∈ lw_all := lw_g (lw_at lw_m9 179 rfl) rfl
theorem q2237 : (Jvm.Cond.code ({ cls := "CopyPricesModel", name := "setting", desc := "(I)I" } : Jvm.MethodName) prog_14_method_96_code (2 : Nat) (Option.some Jvm.ClassFile.FieldType.int)) ∈ lw_all := lw_g (lw_at lw_m9 180 rfl) rfl
theorem q2238 : (Jvm.Cond.methodLink "CopyPricesModel" (377 : Nat) ({ cls := "CopyPricesModel", name := "isSetting", desc := "(I)Z" } : Jvm.MethodName)) ∈ lw_all := lw_g (lw_at lw_m9 181 rfl) rfl
theorem q2239 : (Jvm.Cond.static ({ cls := "CopyPricesModel", name := "isSetting", desc := "(I)Z" } : Jvm.MethodName)) ∈ lw_all := lw_g (lw_at lw_m9 182 rfl) rfl
theorem q2240 : (Jvm.Cond.code ({ cls := "CopyPricesModel", name := "isSetting", desc := "(I)Z" } : Jvm.MethodName) prog_14_method_92_code (1 : Nat) (Option.some Jvm.ClassFile.FieldType.boolean)) ∈ lw_all := lw_g (lw_at lw_m9 183 rfl) rfl
theorem q2242 : (Jvm.Cond.instanceMethod ({ cls := "CopyPricesModel", name := "price", desc := "(I)I" } : Jvm.MethodName)) ∈ lw_all := lw_g (lw_at lw_m9 185 rfl) rfl
theorem q2243 : (Jvm.Cond.selects "CopyPricesModel" ({ cls := "CopyPricesModel", name := "price", desc := "(I)I" } : Jvm.MethodName) ({ cls := "CopyPricesModel", name := "price", desc := "(I)I" } : Jvm.MethodName)) ∈ lw_all := lw_g (lw_at lw_m9 186 rfl) rfl
theorem q2244 : (Jvm.Cond.code ({ cls := "CopyPricesModel", name := "price", desc := "(I)I" } : Jvm.MethodName) prog_14_method_97_code (2 : Nat) (Option.some Jvm.ClassFile.FieldType.int)) ∈ lw_all := lw_g (lw_at lw_m9 187 rfl) rfl
theorem q2245 : (Jvm.Cond.methodLink "CopyPricesModel" (380 : Nat) ({ cls := "CopyPricesModel", name := "isPrice", desc := "(I)Z" } : Jvm.MethodName)) ∈ lw_all := lw_g (lw_at lw_m9 188 rfl) rfl
theorem q2246 : (Jvm.Cond.static ({ cls := "CopyPricesModel", name := "isPrice", desc := "(I)Z" } : Jvm.MethodName)) ∈ lw_all := lw_g (lw_at lw_m9 189 rfl) rfl
theorem q2247 : (Jvm.Cond.code ({ cls := "CopyPricesModel", name := "isPrice", desc := "(I)Z" } : Jvm.MethodName) prog_14_method_93_code (1 : Nat) (Option.some Jvm.ClassFile.FieldType.boolean)) ∈ lw_all := lw_g (lw_at lw_m9 190 rfl) rfl
theorem q2248 : (Jvm.Cond.methodLink "CopyPricesModel" (143 : Nat) ({ cls := "CopyPricesModel", name := "cost", desc := "(I)I" } : Jvm.MethodName)) ∈ lw_all := lw_g (lw_at lw_m9 191 rfl) rfl
theorem q2249 : (Jvm.Cond.privateMethod ({ cls := "CopyPricesModel", name := "cost", desc := "(I)I" } : Jvm.MethodName)) ∈ lw_tbl := lw_at lw_m9 192 rfl
theorem q2250 : (Jvm.Cond.instanceMethod ({ cls := "CopyPricesModel", name := "cost", desc := "(I)I" } : Jvm.MethodName)) ∈ lw_all := lw_g (lw_at lw_m9 193 rfl) rfl
theorem q2251 : (Jvm.Cond.code ({ cls := "CopyPricesModel", name := "cost", desc := "(I)I" } : Jvm.MethodName) prog_14_method_16_code (2 : Nat) (Option.some Jvm.ClassFile.FieldType.int)) ∈ lw_all := lw_g (lw_at lw_m9 194 rfl) rfl
theorem q2253 : (Jvm.Cond.instanceMethod ({ cls := "CopyPricesModel", name := "place", desc := "(II)I" } : Jvm.MethodName)) ∈ lw_all := lw_g (lw_at lw_m9 196 rfl) rfl
theorem q2254 : (Jvm.Cond.selects "CopyPricesModel" ({ cls := "CopyPricesModel", name := "place", desc := "(II)I" } : Jvm.MethodName) ({ cls := "CopyPricesModel", name := "place", desc := "(II)I" } : Jvm.MethodName)) ∈ lw_all := lw_g (lw_at lw_m9 197 rfl) rfl
theorem q2255 : (Jvm.Cond.code ({ cls := "CopyPricesModel", name := "place", desc := "(II)I" } : Jvm.MethodName) prog_14_method_99_code (3 : Nat) (Option.some Jvm.ClassFile.FieldType.int)) ∈ lw_all := lw_g (lw_at lw_m9 198 rfl) rfl
theorem q2256 : (Jvm.Cond.methodLink "CopyPricesModel" (383 : Nat) ({ cls := "CopyPricesModel", name := "isPlace", desc := "(I)Z" } : Jvm.MethodName)) ∈ lw_all := lw_g (lw_at lw_m9 199 rfl) rfl
theorem q2257 : (Jvm.Cond.privateMethod ({ cls := "CopyPricesModel", name := "isPlace", desc := "(I)Z" } : Jvm.MethodName)) ∈ lw_tbl := lw_at lw_m9 200 rfl
theorem q2258 : (Jvm.Cond.instanceMethod ({ cls := "CopyPricesModel", name := "isPlace", desc := "(I)Z" } : Jvm.MethodName)) ∈ lw_all := lw_g (lw_at lw_m9 201 rfl) rfl
theorem q2259 : (Jvm.Cond.code ({ cls := "CopyPricesModel", name := "isPlace", desc := "(I)Z" } : Jvm.MethodName) prog_14_method_95_code (2 : Nat) (Option.some Jvm.ClassFile.FieldType.boolean)) ∈ lw_all := lw_g (lw_at lw_m9 202 rfl) rfl
theorem q2260 : (Jvm.Cond.methodLink "CopyPricesModel" (386 : Nat) ({ cls := "CopyPricesModel", name := "ofPlace", desc := "(II)I" } : Jvm.MethodName)) ∈ lw_all := lw_g (lw_at lw_m9 203 rfl) rfl
theorem q2261 : (Jvm.Cond.privateMethod ({ cls := "CopyPricesModel", name := "ofPlace", desc := "(II)I" } : Jvm.MethodName)) ∈ lw_tbl := lw_at lw_m9 204 rfl
theorem q2262 : (Jvm.Cond.instanceMethod ({ cls := "CopyPricesModel", name := "ofPlace", desc := "(II)I" } : Jvm.MethodName)) ∈ lw_all := lw_g (lw_at lw_m9 205 rfl) rfl
theorem q2263 : (Jvm.Cond.code ({ cls := "CopyPricesModel", name := "ofPlace", desc := "(II)I" } : Jvm.MethodName) prog_14_method_98_code (3 : Nat) (Option.some Jvm.ClassFile.FieldType.int)) ∈ lw_all := lw_g (lw_at lw_m9 206 rfl) rfl
theorem q2264 : (Jvm.Cond.methodLink "CopyPricesModel" (197 : Nat) ({ cls := "CopyPricesModel", name := "nearestOf", desc := "(I)I" } : Jvm.MethodName)) ∈ lw_all := lw_g (lw_at lw_m9 207 rfl) rfl
theorem q2265 : (Jvm.Cond.privateMethod ({ cls := "CopyPricesModel", name := "nearestOf", desc := "(I)I" } : Jvm.MethodName)) ∈ lw_tbl := lw_at lw_m9 208 rfl
theorem q2266 : (Jvm.Cond.instanceMethod ({ cls := "CopyPricesModel", name := "nearestOf", desc := "(I)I" } : Jvm.MethodName)) ∈ lw_all := lw_g (lw_at lw_m9 209 rfl) rfl
theorem q2267 : (Jvm.Cond.code ({ cls := "CopyPricesModel", name := "nearestOf", desc := "(I)I" } : Jvm.MethodName) prog_14_method_31_code (4 : Nat) (Option.some Jvm.ClassFile.FieldType.int)) ∈ lw_all := lw_g (lw_at lw_m9 210 rfl) rfl
theorem q2269 : (Jvm.Cond.instanceMethod ({ cls := "CopyPricesModel", name := "candidate", desc := "(II)I" } : Jvm.MethodName)) ∈ lw_all := lw_g (lw_at lw_m9 212 rfl) rfl
theorem q2270 : (Jvm.Cond.selects "CopyPricesModel" ({ cls := "CopyPricesModel", name := "candidate", desc := "(II)I" } : Jvm.MethodName) ({ cls := "CopyPricesModel", name := "candidate", desc := "(II)I" } : Jvm.MethodName)) ∈ lw_all := lw_g (lw_at lw_m9 213 rfl) rfl
theorem q2271 : (Jvm.Cond.code ({ cls := "CopyPricesModel", name := "candidate", desc := "(II)I" } : Jvm.MethodName) prog_14_method_100_code (4 : Nat) (Option.some Jvm.ClassFile.FieldType.int)) ∈ lw_all := lw_g (lw_at lw_m9 214 rfl) rfl
theorem q2272 : (Jvm.Cond.methodLink "CopyPricesModel" (389 : Nat) ({ cls := "CopyPricesModel", name := "chainAt", desc := "(II)I" } : Jvm.MethodName)) ∈ lw_all := lw_g (lw_at lw_m9 215 rfl) rfl
theorem q2273 : (Jvm.Cond.privateMethod ({ cls := "CopyPricesModel", name := "chainAt", desc := "(II)I" } : Jvm.MethodName)) ∈ lw_tbl := lw_at lw_m9 216 rfl
theorem q2274 : (Jvm.Cond.instanceMethod ({ cls := "CopyPricesModel", name := "chainAt", desc := "(II)I" } : Jvm.MethodName)) ∈ lw_all := lw_g (lw_at lw_m9 217 rfl) rfl
theorem q2275 : (Jvm.Cond.code ({ cls := "CopyPricesModel", name := "chainAt", desc := "(II)I" } : Jvm.MethodName) prog_14_method_21_code (5 : Nat) (Option.some Jvm.ClassFile.FieldType.int)) ∈ lw_all := lw_g (lw_at lw_m9 218 rfl) rfl
theorem q2277 : (Jvm.Cond.instanceMethod ({ cls := "CopyPricesModel", name := "why", desc := "(III)I" } : Jvm.MethodName)) ∈ lw_all := lw_g (lw_at lw_m9 220 rfl) rfl
theorem q2278 : (Jvm.Cond.selects "CopyPricesModel" ({ cls := "CopyPricesModel", name := "why", desc := "(III)I" } : Jvm.MethodName) ({ cls := "CopyPricesModel", name := "why", desc := "(III)I" } : Jvm.MethodName)) ∈ lw_all := lw_g (lw_at lw_m9 221 rfl) rfl
theorem q2279 : (Jvm.Cond.code ({ cls := "CopyPricesModel", name := "why", desc := "(III)I" } : Jvm.MethodName) prog_14_method_102_code (4 : Nat) (Option.some Jvm.ClassFile.FieldType.int)) ∈ lw_all := lw_g (lw_at lw_m9 222 rfl) rfl
theorem q2280 : (Jvm.Cond.methodLink "CopyPricesModel" (392 : Nat) ({ cls := "CopyPricesModel", name := "isCopyNumber", desc := "(II)Z" } : Jvm.MethodName)) ∈ lw_all := lw_g (lw_at lw_m9 223 rfl) rfl
theorem q2281 : (Jvm.Cond.static ({ cls := "CopyPricesModel", name := "isCopyNumber", desc := "(II)Z" } : Jvm.MethodName)) ∈ lw_all := lw_g (lw_at lw_m9 224 rfl) rfl
theorem q2282 : (Jvm.Cond.code ({ cls := "CopyPricesModel", name := "isCopyNumber", desc := "(II)Z" } : Jvm.MethodName) prog_14_method_101_code (2 : Nat) (Option.some Jvm.ClassFile.FieldType.boolean)) ∈ lw_all := lw_g (lw_at lw_m9 225 rfl) rfl
theorem q2283 : (Jvm.Cond.methodLink "CopyPricesModel" (395 : Nat) ({ cls := "CopyPricesModel", name := "reason", desc := "(III)I" } : Jvm.MethodName)) ∈ lw_all := lw_g (lw_at lw_m9 226 rfl) rfl
theorem q2284 : (Jvm.Cond.privateMethod ({ cls := "CopyPricesModel", name := "reason", desc := "(III)I" } : Jvm.MethodName)) ∈ lw_tbl := lw_at lw_m9 227 rfl
theorem q2285 : (Jvm.Cond.instanceMethod ({ cls := "CopyPricesModel", name := "reason", desc := "(III)I" } : Jvm.MethodName)) ∈ lw_all := lw_g (lw_at lw_m9 228 rfl) rfl
theorem q2286 : (Jvm.Cond.code ({ cls := "CopyPricesModel", name := "reason", desc := "(III)I" } : Jvm.MethodName) prog_14_method_25_code (4 : Nat) (Option.some Jvm.ClassFile.FieldType.int)) ∈ lw_all := lw_g (lw_at lw_m9 229 rfl) rfl
theorem q2287 : (Jvm.Cond.methodLink "CopyPricesModel" (131 : Nat) ({ cls := "CopyPricesModel", name := "isPinnedFrom", desc := "(II)Z" } : Jvm.MethodName)) ∈ lw_all := lw_g (lw_at lw_m9 230 rfl) rfl
theorem q2288 : (Jvm.Cond.privateMethod ({ cls := "CopyPricesModel", name := "isPinnedFrom", desc := "(II)Z" } : Jvm.MethodName)) ∈ lw_tbl := lw_at lw_m9 231 rfl
theorem q2289 : (Jvm.Cond.instanceMethod ({ cls := "CopyPricesModel", name := "isPinnedFrom", desc := "(II)Z" } : Jvm.MethodName)) ∈ lw_all := lw_g (lw_at lw_m9 232 rfl) rfl
theorem q2290 : (Jvm.Cond.code ({ cls := "CopyPricesModel", name := "isPinnedFrom", desc := "(II)Z" } : Jvm.MethodName) prog_14_method_24_code (4 : Nat) (Option.some Jvm.ClassFile.FieldType.boolean)) ∈ lw_all := lw_g (lw_at lw_m9 233 rfl) rfl
theorem q2292 : (Jvm.Cond.instanceMethod ({ cls := "CopyPricesModel", name := "same", desc := "(II)I" } : Jvm.MethodName)) ∈ lw_all := lw_g (lw_at lw_m9 235 rfl) rfl
theorem q2293 : (Jvm.Cond.selects "CopyPricesModel" ({ cls := "CopyPricesModel", name := "same", desc := "(II)I" } : Jvm.MethodName) ({ cls := "CopyPricesModel", name := "same", desc := "(II)I" } : Jvm.MethodName)) ∈ lw_all := lw_g (lw_at lw_m9 236 rfl) rfl
theorem q2294 : (Jvm.Cond.code ({ cls := "CopyPricesModel", name := "same", desc := "(II)I" } : Jvm.MethodName) prog_14_method_103_code (3 : Nat) (Option.some Jvm.ClassFile.FieldType.int)) ∈ lw_all := lw_g (lw_at lw_m9 237 rfl) rfl
theorem q2296 : (Jvm.Cond.instanceMethod ({ cls := "CopyPricesModel", name := "copyPrice", desc := "(III)I" } : Jvm.MethodName)) ∈ lw_all := lw_g (lw_at lw_m9 239 rfl) rfl
theorem q2297 : (Jvm.Cond.selects "CopyPricesModel" ({ cls := "CopyPricesModel", name := "copyPrice", desc := "(III)I" } : Jvm.MethodName) ({ cls := "CopyPricesModel", name := "copyPrice", desc := "(III)I" } : Jvm.MethodName)) ∈ lw_all := lw_g (lw_at lw_m10 0 rfl) rfl
theorem q2298 : (Jvm.Cond.code ({ cls := "CopyPricesModel", name := "copyPrice", desc := "(III)I" } : Jvm.MethodName) prog_14_method_104_code (4 : Nat) (Option.some Jvm.ClassFile.FieldType.int)) ∈ lw_all := lw_g (lw_at lw_m10 1 rfl) rfl
theorem q2299 : (Jvm.Cond.methodLink "CopyPricesModel" (150 : Nat) ({ cls := "CopyPricesModel", name := "copyCost", desc := "(III)I" } : Jvm.MethodName)) ∈ lw_all := lw_g (lw_at lw_m10 2 rfl) rfl
theorem q2300 : (Jvm.Cond.privateMethod ({ cls := "CopyPricesModel", name := "copyCost", desc := "(III)I" } : Jvm.MethodName)) ∈ lw_tbl := lw_at lw_m10 3 rfl
theorem q2301 : (Jvm.Cond.instanceMethod ({ cls := "CopyPricesModel", name := "copyCost", desc := "(III)I" } : Jvm.MethodName)) ∈ lw_all := lw_g (lw_at lw_m10 4 rfl) rfl
theorem q2302 : (Jvm.Cond.code ({ cls := "CopyPricesModel", name := "copyCost", desc := "(III)I" } : Jvm.MethodName) prog_14_method_33_code (5 : Nat) (Option.some Jvm.ClassFile.FieldType.int)) ∈ lw_all := lw_g (lw_at lw_m10 5 rfl) rfl
theorem q2303 : (Jvm.Cond.methodLink "CopyPricesModel" (146 : Nat) ({ cls := "CopyPricesModel", name := "bitsOf", desc := "(I)I" } : Jvm.MethodName)) ∈ lw_all := lw_g (lw_at lw_m10 6 rfl) rfl
theorem q2304 : (Jvm.Cond.static ({ cls := "CopyPricesModel", name := "bitsOf", desc := "(I)I" } : Jvm.MethodName)) ∈ lw_all := lw_g (lw_at lw_m10 7 rfl) rfl
theorem q2305 : (Jvm.Cond.code ({ cls := "CopyPricesModel", name := "bitsOf", desc := "(I)I" } : Jvm.MethodName) prog_14_method_32_code (3 : Nat) (Option.some Jvm.ClassFile.FieldType.int)) ∈ lw_all := lw_g (lw_at lw_m10 8 rfl) rfl
theorem q2307 : (Jvm.Cond.instanceMethod ({ cls := "CopyPricesModel", name := "steps", desc := "(I)I" } : Jvm.MethodName)) ∈ lw_all := lw_g (lw_at lw_m10 10 rfl) rfl
theorem q2308 : (Jvm.Cond.selects "CopyPricesModel" ({ cls := "CopyPricesModel", name := "steps", desc := "(I)I" } : Jvm.MethodName) ({ cls := "CopyPricesModel", name := "steps", desc := "(I)I" } : Jvm.MethodName)) ∈ lw_all := lw_g (lw_at lw_m10 11 rfl) rfl
theorem q2309 : (Jvm.Cond.code ({ cls := "CopyPricesModel", name := "steps", desc := "(I)I" } : Jvm.MethodName) prog_14_method_105_code (2 : Nat) (Option.some Jvm.ClassFile.FieldType.int)) ∈ lw_all := lw_g (lw_at lw_m10 12 rfl) rfl
theorem q2310 : (Jvm.Cond.methodLink "CopyPricesModel" (398 : Nat) ({ cls := "CopyPricesModel", name := "isKind", desc := "(I)Z" } : Jvm.MethodName)) ∈ lw_all := lw_g (lw_at lw_m10 13 rfl) rfl
theorem q2311 : (Jvm.Cond.static ({ cls := "CopyPricesModel", name := "isKind", desc := "(I)Z" } : Jvm.MethodName)) ∈ lw_all := lw_g (lw_at lw_m10 14 rfl) rfl
theorem q2312 : (Jvm.Cond.code ({ cls := "CopyPricesModel", name := "isKind", desc := "(I)Z" } : Jvm.MethodName) prog_14_method_94_code (1 : Nat) (Option.some Jvm.ClassFile.FieldType.boolean)) ∈ lw_all := lw_g (lw_at lw_m10 15 rfl) rfl
theorem q2313 : (Jvm.Cond.methodLink "CopyPricesModel" (217 : Nat) ({ cls := "CopyPricesModel", name := "laysParse", desc := "(I)V" } : Jvm.MethodName)) ∈ lw_all := lw_g (lw_at lw_m10 16 rfl) rfl
theorem q2314 : (Jvm.Cond.privateMethod ({ cls := "CopyPricesModel", name := "laysParse", desc := "(I)V" } : Jvm.MethodName)) ∈ lw_tbl := lw_at lw_m10 17 rfl
theorem q2315 : (Jvm.Cond.instanceMethod ({ cls := "CopyPricesModel", name := "laysParse", desc := "(I)V" } : Jvm.MethodName)) ∈ lw_all := lw_g (lw_at lw_m10 18 rfl) rfl
theorem q2316 : (Jvm.Cond.code ({ cls := "CopyPricesModel", name := "laysParse", desc := "(I)V" } : Jvm.MethodName) prog_14_method_53_code (3 : Nat) (Option.none : Option Jvm.ClassFile.FieldType)) ∈ lw_all := lw_g (lw_at lw_m10 19 rfl) rfl
theorem q2317 : (Jvm.Cond.methodLink "CopyPricesModel" (207 : Nat) ({ cls := "CopyPricesModel", name := "laysRest", desc := "()I" } : Jvm.MethodName)) ∈ lw_all := lw_g (lw_at lw_m10 20 rfl) rfl
theorem q2318 : (Jvm.Cond.privateMethod ({ cls := "CopyPricesModel", name := "laysRest", desc := "()I" } : Jvm.MethodName)) ∈ lw_tbl := lw_at lw_m10 21 rfl
theorem q2319 : (Jvm.Cond.instanceMethod ({ cls := "CopyPricesModel", name := "laysRest", desc := "()I" } : Jvm.MethodName)) ∈ lw_all := lw_g (lw_at lw_m10 22 rfl) rfl
theorem q2320 : (Jvm.Cond.code ({ cls := "CopyPricesModel", name := "laysRest", desc := "()I" } : Jvm.MethodName) prog_14_method_38_code (2 : Nat) (Option.some Jvm.ClassFile.FieldType.int)) ∈ lw_all := lw_g (lw_at lw_m10 23 rfl) rfl
theorem q2321 : (Jvm.Cond.methodLink "CopyPricesModel" (154 : Nat) ({ cls := "CopyPricesModel", name := "state", desc := "(IIZ)I" } : Jvm.MethodName)) ∈ lw_all := lw_g (lw_at lw_m10 24 rfl) rfl
theorem q2322 : (Jvm.Cond.static ({ cls := "CopyPricesModel", name := "state", desc := "(IIZ)I" } : Jvm.MethodName)) ∈ lw_all := lw_g (lw_at lw_m10 25 rfl) rfl
theorem q2323 : (Jvm.Cond.code ({ cls := "CopyPricesModel", name := "state", desc := "(IIZ)I" } : Jvm.MethodName) prog_14_method_35_code (3 : Nat) (Option.some Jvm.ClassFile.FieldType.int)) ∈ lw_all := lw_g (lw_at lw_m10 26 rfl) rfl
theorem q2324 : (Jvm.Cond.methodLink "CopyPricesModel" (168 : Nat) ({ cls := "CopyPricesModel", name := "laysRestAt", desc := "(I)V" } : Jvm.MethodName)) ∈ lw_all := lw_g (lw_at lw_m10 27 rfl) rfl
theorem q2325 : (Jvm.Cond.privateMethod ({ cls := "CopyPricesModel", name := "laysRestAt", desc := "(I)V" } : Jvm.MethodName)) ∈ lw_tbl := lw_at lw_m10 28 rfl
theorem q2326 : (Jvm.Cond.instanceMethod ({ cls := "CopyPricesModel", name := "laysRestAt", desc := "(I)V" } : Jvm.MethodName)) ∈ lw_all := lw_g (lw_at lw_m10 29 rfl) rfl
theorem q2327 : (Jvm.Cond.code ({ cls := "CopyPricesModel", name := "laysRestAt", desc := "(I)V" } : Jvm.MethodName) prog_14_method_37_code (5 : Nat) (Option.none : Option Jvm.ClassFile.FieldType)) ∈ lw_all := lw_g (lw_at lw_m10 30 rfl) rfl
theorem q2328 : (Jvm.Cond.methodLink "CopyPricesModel" (158 : Nat) ({ cls := "CopyPricesModel", name := "cheapestCopy", desc := "(II)I" } : Jvm.MethodName)) ∈ lw_all := lw_g (lw_at lw_m10 31 rfl) rfl
theorem q2329 : (Jvm.Cond.privateMethod ({ cls := "CopyPricesModel", name := "cheapestCopy", desc := "(II)I" } : Jvm.MethodName)) ∈ lw_tbl := lw_at lw_m10 32 rfl
theorem q2330 : (Jvm.Cond.instanceMethod ({ cls := "CopyPricesModel", name := "cheapestCopy", desc := "(II)I" } : Jvm.MethodName)) ∈ lw_all := lw_g (lw_at lw_m10 33 rfl) rfl
theorem q2331 : (Jvm.Cond.code ({ cls := "CopyPricesModel", name := "cheapestCopy", desc := "(II)I" } : Jvm.MethodName) prog_14_method_36_code (6 : Nat) (Option.some Jvm.ClassFile.FieldType.int)) ∈ lw_all := lw_g (lw_at lw_m10 34 rfl) rfl
theorem q2332 : (Jvm.Cond.constant "CopyPricesModel" (149 : Nat) (1000000 : Int32)) ∈ lw_all := lw_g (lw_at lw_m10 35 rfl) rfl
theorem q2333 : (Jvm.Cond.methodLink "CopyPricesModel" (161 : Nat) ({ cls := "CopyPricesModel", name := "literalCost", desc := "(IZ)I" } : Jvm.MethodName)) ∈ lw_all := lw_g (lw_at lw_m10 36 rfl) rfl
theorem q2334 : (Jvm.Cond.privateMethod ({ cls := "CopyPricesModel", name := "literalCost", desc := "(IZ)I" } : Jvm.MethodName)) ∈ lw_tbl := lw_at lw_m10 37 rfl
theorem q2335 : (Jvm.Cond.instanceMethod ({ cls := "CopyPricesModel", name := "literalCost", desc := "(IZ)I" } : Jvm.MethodName)) ∈ lw_all := lw_g (lw_at lw_m10 38 rfl) rfl
theorem q2336 : (Jvm.Cond.code ({ cls := "CopyPricesModel", name := "literalCost", desc := "(IZ)I" } : Jvm.MethodName) prog_14_method_34_code (3 : Nat) (Option.some Jvm.ClassFile.FieldType.int)) ∈ lw_all := lw_g (lw_at lw_m10 39 rfl) rfl
theorem q2337 : (Jvm.Cond.methodLink "CopyPricesModel" (182 : Nat) ({ cls := "CopyPricesModel", name := "ends", desc := "()I" } : Jvm.MethodName)) ∈ lw_all := lw_g (lw_at lw_m10 40 rfl) rfl
theorem q2338 : (Jvm.Cond.privateMethod ({ cls := "CopyPricesModel", name := "ends", desc := "()I" } : Jvm.MethodName)) ∈ lw_tbl := lw_at lw_m10 41 rfl
theorem q2339 : (Jvm.Cond.instanceMethod ({ cls := "CopyPricesModel", name := "ends", desc := "()I" } : Jvm.MethodName)) ∈ lw_all := lw_g (lw_at lw_m10 42 rfl) rfl
theorem q2340 : (Jvm.Cond.code ({ cls := "CopyPricesModel", name := "ends", desc := "()I" } : Jvm.MethodName) prog_14_method_43_code (1 : Nat) (Option.some Jvm.ClassFile.FieldType.int)) ∈ lw_all := lw_g (lw_at lw_m10 43 rfl) rfl
theorem q2341 : (Jvm.Cond.methodLink "CopyPricesModel" (200 : Nat) ({ cls := "CopyPricesModel", name := "steps0", desc := "(II)V" } : Jvm.MethodName)) ∈ lw_all := lw_g (lw_at lw_m10 44 rfl) rfl
theorem q2342 : (Jvm.Cond.privateMethod ({ cls := "CopyPricesModel", name := "steps0", desc := "(II)V" } : Jvm.MethodName)) ∈ lw_tbl := lw_at lw_m10 45 rfl
theorem q2343 : (Jvm.Cond.instanceMethod ({ cls := "CopyPricesModel", name := "steps0", desc := "(II)V" } : Jvm.MethodName)) ∈ lw_all := lw_g (lw_at lw_m10 46 rfl) rfl
theorem q2344 : (Jvm.Cond.code ({ cls := "CopyPricesModel", name := "steps0", desc := "(II)V" } : Jvm.MethodName) prog_14_method_44_code (4 : Nat) (Option.none : Option Jvm.ClassFile.FieldType)) ∈ lw_all := lw_g (lw_at lw_m10 47 rfl) rfl
theorem q2345 : (Jvm.Cond.methodLink "CopyPricesModel" (210 : Nat) ({ cls := "CopyPricesModel", name := "bestStep", desc := "()V" } : Jvm.MethodName)) ∈ lw_all := lw_g (lw_at lw_m10 48 rfl) rfl
theorem q2346 : (Jvm.Cond.privateMethod ({ cls := "CopyPricesModel", name := "bestStep", desc := "()V" } : Jvm.MethodName)) ∈ lw_tbl := lw_at lw_m10 49 rfl
theorem q2347 : (Jvm.Cond.instanceMethod ({ cls := "CopyPricesModel", name := "bestStep", desc := "()V" } : Jvm.MethodName)) ∈ lw_all := lw_g (lw_at lw_m10 50 rfl) rfl
theorem q2348 : (Jvm.Cond.code ({ cls := "CopyPricesModel", name := "bestStep", desc := "()V" } : Jvm.MethodName) prog_14_method_52_code (7 : Nat) (Option.none : Option Jvm.ClassFile.FieldType)) ∈ lw_all := lw_g (lw_at lw_m10 51 rfl) rfl
theorem q2349 : (Jvm.Cond.methodLink "CopyPricesModel" (204 : Nat) ({ cls := "CopyPricesModel", name := "lastNow", desc := "()I" } : Jvm.MethodName)) ∈ lw_all := lw_g (lw_at lw_m10 52 rfl) rfl
theorem q2350 : (Jvm.Cond.privateMethod ({ cls := "CopyPricesModel", name := "lastNow", desc := "()I" } : Jvm.MethodName)) ∈ lw_tbl := lw_at lw_m10 53 rfl
theorem q2351 : (Jvm.Cond.instanceMethod ({ cls := "CopyPricesModel", name := "lastNow", desc := "()I" } : Jvm.MethodName)) ∈ lw_all := lw_g (lw_at lw_m10 54 rfl) rfl
theorem q2352 : (Jvm.Cond.code ({ cls := "CopyPricesModel", name := "lastNow", desc := "()I" } : Jvm.MethodName) prog_14_method_51_code (1 : Nat) (Option.some Jvm.ClassFile.FieldType.int)) ∈ lw_all := lw_g (lw_at lw_m10 55 rfl) rfl
theorem q2353 : (Jvm.Cond.methodLink "CopyPricesModel" (188 : Nat) ({ cls := "CopyPricesModel", name := "lastOf", desc := "(I)I" } : Jvm.MethodName)) ∈ lw_all := lw_g (lw_at lw_m10 56 rfl) rfl
theorem q2354 : (Jvm.Cond.privateMethod ({ cls := "CopyPricesModel", name := "lastOf", desc := "(I)I" } : Jvm.MethodName)) ∈ lw_tbl := lw_at lw_m10 57 rfl
theorem q2355 : (Jvm.Cond.instanceMethod ({ cls := "CopyPricesModel", name := "lastOf", desc := "(I)I" } : Jvm.MethodName)) ∈ lw_all := lw_g (lw_at lw_m10 58 rfl) rfl
theorem q2356 : (Jvm.Cond.code ({ cls := "CopyPricesModel", name := "lastOf", desc := "(I)I" } : Jvm.MethodName) prog_14_method_45_code (3 : Nat) (Option.some Jvm.ClassFile.FieldType.int)) ∈ lw_all := lw_g (lw_at lw_m10 59 rfl) rfl
theorem q2357 : (Jvm.Cond.methodLink "CopyPricesModel" (185 : Nat) ({ cls := "CopyPricesModel", name := "isInRun", desc := "(I)Z" } : Jvm.MethodName)) ∈ lw_all := lw_g (lw_at lw_m10 60 rfl) rfl
theorem q2358 : (Jvm.Cond.privateMethod ({ cls := "CopyPricesModel", name := "isInRun", desc := "(I)Z" } : Jvm.MethodName)) ∈ lw_tbl := lw_at lw_m10 61 rfl
theorem q2359 : (Jvm.Cond.instanceMethod ({ cls := "CopyPricesModel", name := "isInRun", desc := "(I)Z" } : Jvm.MethodName)) ∈ lw_all := lw_g (lw_at lw_m10 62 rfl) rfl
theorem q2360 : (Jvm.Cond.code ({ cls := "CopyPricesModel", name := "isInRun", desc := "(I)Z" } : Jvm.MethodName) prog_14_method_46_code (2 : Nat) (Option.some Jvm.ClassFile.FieldType.boolean)) ∈ lw_all := lw_g (lw_at lw_m10 63 rfl) rfl
theorem q2361 : (Jvm.Cond.methodLink "CopyPricesModel" (213 : Nat) ({ cls := "CopyPricesModel", name := "greedyStep", desc := "(Z)V" } : Jvm.MethodName)) ∈ lw_all := lw_g (lw_at lw_m10 64 rfl) rfl
theorem q2362 : (Jvm.Cond.privateMethod ({ cls := "CopyPricesModel", name := "greedyStep", desc := "(Z)V" } : Jvm.MethodName)) ∈ lw_tbl := lw_at lw_m10 65 rfl
theorem q2363 : (Jvm.Cond.instanceMethod ({ cls := "CopyPricesModel", name := "greedyStep", desc := "(Z)V" } : Jvm.MethodName)) ∈ lw_all := lw_g (lw_at lw_m10 66 rfl) rfl
theorem q2364 : (Jvm.Cond.code ({ cls := "CopyPricesModel", name := "greedyStep", desc := "(Z)V" } : Jvm.MethodName) prog_14_method_50_code (4 : Nat) (Option.none : Option Jvm.ClassFile.FieldType)) ∈ lw_all := lw_g (lw_at lw_m10 67 rfl) rfl
theorem q2365 : (Jvm.Cond.methodLink "CopyPricesModel" (194 : Nat) ({ cls := "CopyPricesModel", name := "waits", desc := "(I)Z" } : Jvm.MethodName)) ∈ lw_all := lw_g (lw_at lw_m10 68 rfl) rfl
theorem q2366 : (Jvm.Cond.privateMethod ({ cls := "CopyPricesModel", name := "waits", desc := "(I)Z" } : Jvm.MethodName)) ∈ lw_tbl := lw_at lw_m10 69 rfl
theorem q2367 : (Jvm.Cond.instanceMethod ({ cls := "CopyPricesModel", name := "waits", desc := "(I)Z" } : Jvm.MethodName)) ∈ lw_all := lw_g (lw_at lw_m10 70 rfl) rfl
theorem q2368 : (Jvm.Cond.code ({ cls := "CopyPricesModel", name := "waits", desc := "(I)Z" } : Jvm.MethodName) prog_14_method_49_code (2 : Nat) (Option.some Jvm.ClassFile.FieldType.boolean)) ∈ lw_all := lw_g (lw_at lw_m10 71 rfl) rfl
theorem q2370 : (Jvm.Cond.instanceMethod ({ cls := "CopyPricesModel", name := "step", desc := "(III)I" } : Jvm.MethodName)) ∈ lw_all := lw_g (lw_at lw_m10 73 rfl) rfl
theorem q2371 : (Jvm.Cond.selects "CopyPricesModel" ({ cls := "CopyPricesModel", name := "step", desc := "(III)I" } : Jvm.MethodName) ({ cls := "CopyPricesModel", name := "step", desc := "(III)I" } : Jvm.MethodName)) ∈ lw_all := lw_g (lw_at lw_m10 74 rfl) rfl
theorem q2372 : (Jvm.Cond.code ({ cls := "CopyPricesModel", name := "step", desc := "(III)I" } : Jvm.MethodName) prog_14_method_107_code (5 : Nat) (Option.some Jvm.ClassFile.FieldType.int)) ∈ lw_all := lw_g (lw_at lw_m10 75 rfl) rfl
theorem q2373 : (Jvm.Cond.methodLink "CopyPricesModel" (401 : Nat) ({ cls := "CopyPricesModel", name := "laidSteps", desc := "(I)I" } : Jvm.MethodName)) ∈ lw_all := lw_g (lw_at lw_m10 76 rfl) rfl
theorem q2374 : (Jvm.Cond.privateMethod ({ cls := "CopyPricesModel", name := "laidSteps", desc := "(I)I" } : Jvm.MethodName)) ∈ lw_tbl := lw_at lw_m10 77 rfl
theorem q2375 : (Jvm.Cond.instanceMethod ({ cls := "CopyPricesModel", name := "laidSteps", desc := "(I)I" } : Jvm.MethodName)) ∈ lw_all := lw_g (lw_at lw_m10 78 rfl) rfl
theorem q2376 : (Jvm.Cond.code ({ cls := "CopyPricesModel", name := "laidSteps", desc := "(I)I" } : Jvm.MethodName) prog_14_method_106_code (2 : Nat) (Option.some Jvm.ClassFile.FieldType.int)) ∈ lw_all := lw_g (lw_at lw_m10 79 rfl) rfl
theorem q2377 : (Jvm.Cond.methodLink "CopyPricesModel" (191 : Nat) ({ cls := "CopyPricesModel", name := "stepCost", desc := "(I)I" } : Jvm.MethodName)) ∈ lw_all := lw_g (lw_at lw_m10 80 rfl) rfl
theorem q2378 : (Jvm.Cond.privateMethod ({ cls := "CopyPricesModel", name := "stepCost", desc := "(I)I" } : Jvm.MethodName)) ∈ lw_tbl := lw_at lw_m10 81 rfl
theorem q2379 : (Jvm.Cond.instanceMethod ({ cls := "CopyPricesModel", name := "stepCost", desc := "(I)I" } : Jvm.MethodName)) ∈ lw_all := lw_g (lw_at lw_m10 82 rfl) rfl
theorem q2380 : (Jvm.Cond.code ({ cls := "CopyPricesModel", name := "stepCost", desc := "(I)I" } : Jvm.MethodName) prog_14_method_47_code (2 : Nat) (Option.some Jvm.ClassFile.FieldType.int)) ∈ lw_all := lw_g (lw_at lw_m10 83 rfl) rfl
theorem q2382 : (Jvm.Cond.instanceMethod ({ cls := "CopyPricesModel", name := "stepAt", desc := "(II)I" } : Jvm.MethodName)) ∈ lw_all := lw_g (lw_at lw_m10 85 rfl) rfl
theorem q2383 : (Jvm.Cond.selects "CopyPricesModel" ({ cls := "CopyPricesModel", name := "stepAt", desc := "(II)I" } : Jvm.MethodName) ({ cls := "CopyPricesModel", name := "stepAt", desc := "(II)I" } : Jvm.MethodName)) ∈ lw_all := lw_g (lw_at lw_m10 86 rfl) rfl
theorem q2384 : (Jvm.Cond.code ({ cls := "CopyPricesModel", name := "stepAt", desc := "(II)I" } : Jvm.MethodName) prog_14_method_108_code (4 : Nat) (Option.some Jvm.ClassFile.FieldType.int)) ∈ lw_all := lw_g (lw_at lw_m10 87 rfl) rfl
theorem q2386 : (Jvm.Cond.instanceMethod ({ cls := "CopyPricesModel", name := "parse", desc := "(II)I" } : Jvm.MethodName)) ∈ lw_all := lw_g (lw_at lw_m10 89 rfl) rfl
theorem q2387 : (Jvm.Cond.selects "CopyPricesModel" ({ cls := "CopyPricesModel", name := "parse", desc := "(II)I" } : Jvm.MethodName) ({ cls := "CopyPricesModel", name := "parse", desc := "(II)I" } : Jvm.MethodName)) ∈ lw_all := lw_g (lw_at lw_m10 90 rfl) rfl
theorem q2388 : (Jvm.Cond.code ({ cls := "CopyPricesModel", name := "parse", desc := "(II)I" } : Jvm.MethodName) prog_14_method_114_code (3 : Nat) (Option.some Jvm.ClassFile.FieldType.int)) ∈ lw_all := lw_g (lw_at lw_m10 91 rfl) rfl
theorem q2389 : (Jvm.Cond.methodLink "CopyPricesModel" (220 : Nat) ({ cls := "CopyPricesModel", name := "parseCost", desc := "()I" } : Jvm.MethodName)) ∈ lw_all := lw_g (lw_at lw_m10 92 rfl) rfl
theorem q2390 : (Jvm.Cond.privateMethod ({ cls := "CopyPricesModel", name := "parseCost", desc := "()I" } : Jvm.MethodName)) ∈ lw_tbl := lw_at lw_m10 93 rfl
theorem q2391 : (Jvm.Cond.instanceMethod ({ cls := "CopyPricesModel", name := "parseCost", desc := "()I" } : Jvm.MethodName)) ∈ lw_all := lw_g (lw_at lw_m10 94 rfl) rfl
theorem q2392 : (Jvm.Cond.code ({ cls := "CopyPricesModel", name := "parseCost", desc := "()I" } : Jvm.MethodName) prog_14_method_48_code (3 : Nat) (Option.some Jvm.ClassFile.FieldType.int)) ∈ lw_all := lw_g (lw_at lw_m10 95 rfl) rfl
theorem q2393 : (Jvm.Cond.methodLink "CopyPricesModel" (404 : Nat) ({ cls := "CopyPricesModel", name := "copySteps", desc := "()I" } : Jvm.MethodName)) ∈ lw_all := lw_g (lw_at lw_m10 96 rfl) rfl
theorem q2394 : (Jvm.Cond.privateMethod ({ cls := "CopyPricesModel", name := "copySteps", desc := "()I" } : Jvm.MethodName)) ∈ lw_tbl := lw_at lw_m10 97 rfl
theorem q2395 : (Jvm.Cond.instanceMethod ({ cls := "CopyPricesModel", name := "copySteps", desc := "()I" } : Jvm.MethodName)) ∈ lw_all := lw_g (lw_at lw_m10 98 rfl) rfl
theorem q2396 : (Jvm.Cond.code ({ cls := "CopyPricesModel", name := "copySteps", desc := "()I" } : Jvm.MethodName) prog_14_method_109_code (3 : Nat) (Option.some Jvm.ClassFile.FieldType.int)) ∈ lw_all := lw_g (lw_at lw_m10 99 rfl) rfl
theorem q2397 : (Jvm.Cond.methodLink "CopyPricesModel" (407 : Nat) ({ cls := "CopyPricesModel", name := "runMany", desc := "()I" } : Jvm.MethodName)) ∈ lw_all := lw_g (lw_at lw_m10 100 rfl) rfl
theorem q2398 : (Jvm.Cond.privateMethod ({ cls := "CopyPricesModel", name := "runMany", desc := "()I" } : Jvm.MethodName)) ∈ lw_tbl := lw_at lw_m10 101 rfl
theorem q2399 : (Jvm.Cond.instanceMethod ({ cls := "CopyPricesModel", name := "runMany", desc := "()I" } : Jvm.MethodName)) ∈ lw_all := lw_g (lw_at lw_m10 102 rfl) rfl
theorem q2400 : (Jvm.Cond.code ({ cls := "CopyPricesModel", name := "runMany", desc := "()I" } : Jvm.MethodName) prog_14_method_110_code (3 : Nat) (Option.some Jvm.ClassFile.FieldType.int)) ∈ lw_all := lw_g (lw_at lw_m10 103 rfl) rfl
theorem q2401 : (Jvm.Cond.methodLink "CopyPricesModel" (410 : Nat) ({ cls := "CopyPricesModel", name := "againMany", desc := "()I" } : Jvm.MethodName)) ∈ lw_all := lw_g (lw_at lw_m10 104 rfl) rfl
theorem q2402 : (Jvm.Cond.privateMethod ({ cls := "CopyPricesModel", name := "againMany", desc := "()I" } : Jvm.MethodName)) ∈ lw_tbl := lw_at lw_m10 105 rfl
theorem q2403 : (Jvm.Cond.instanceMethod ({ cls := "CopyPricesModel", name := "againMany", desc := "()I" } : Jvm.MethodName)) ∈ lw_all := lw_g (lw_at lw_m10 106 rfl) rfl
theorem q2404 : (Jvm.Cond.code ({ cls := "CopyPricesModel", name := "againMany", desc := "()I" } : Jvm.MethodName) prog_14_method_111_code (3 : Nat) (Option.some Jvm.ClassFile.FieldType.int)) ∈ lw_all := lw_g (lw_at lw_m10 107 rfl) rfl
theorem q2405 : (Jvm.Cond.methodLink "CopyPricesModel" (413 : Nat) ({ cls := "CopyPricesModel", name := "dearest", desc := "()I" } : Jvm.MethodName)) ∈ lw_all := lw_g (lw_at lw_m10 108 rfl) rfl
theorem q2406 : (Jvm.Cond.privateMethod ({ cls := "CopyPricesModel", name := "dearest", desc := "()I" } : Jvm.MethodName)) ∈ lw_tbl := lw_at lw_m10 109 rfl
theorem q2407 : (Jvm.Cond.instanceMethod ({ cls := "CopyPricesModel", name := "dearest", desc := "()I" } : Jvm.MethodName)) ∈ lw_all := lw_g (lw_at lw_m10 110 rfl) rfl
theorem q2408 : (Jvm.Cond.code ({ cls := "CopyPricesModel", name := "dearest", desc := "()I" } : Jvm.MethodName) prog_14_method_112_code (3 : Nat) (Option.some Jvm.ClassFile.FieldType.int)) ∈ lw_all := lw_g (lw_at lw_m10 111 rfl) rfl
theorem q2409 : (Jvm.Cond.methodLink "CopyPricesModel" (416 : Nat) ({ cls := "CopyPricesModel", name := "copiedPlaces", desc := "()I" } : Jvm.MethodName)) ∈ lw_all := lw_g (lw_at lw_m10 112 rfl) rfl
theorem q2410 : (Jvm.Cond.privateMethod ({ cls := "CopyPricesModel", name := "copiedPlaces", desc := "()I" } : Jvm.MethodName)) ∈ lw_tbl := lw_at lw_m10 113 rfl
theorem q2411 : (Jvm.Cond.instanceMethod ({ cls := "CopyPricesModel", name := "copiedPlaces", desc := "()I" } : Jvm.MethodName)) ∈ lw_all := lw_g (lw_at lw_m10 114 rfl) rfl
theorem q2412 : (Jvm.Cond.code ({ cls := "CopyPricesModel", name := "copiedPlaces", desc := "()I" } : Jvm.MethodName) prog_14_method_113_code (3 : Nat) (Option.some Jvm.ClassFile.FieldType.int)) ∈ lw_all := lw_g (lw_at lw_m10 115 rfl) rfl
theorem q2414 : (Jvm.Cond.instanceMethod ({ cls := "CopyPricesModel", name := "restPrice", desc := "(IIZ)I" } : Jvm.MethodName)) ∈ lw_all := lw_g (lw_at lw_m10 117 rfl) rfl
theorem q2415 : (Jvm.Cond.selects "CopyPricesModel" ({ cls := "CopyPricesModel", name := "restPrice", desc := "(IIZ)I" } : Jvm.MethodName) ({ cls := "CopyPricesModel", name := "restPrice", desc := "(IIZ)I" } : Jvm.MethodName)) ∈ lw_all := lw_g (lw_at lw_m10 118 rfl) rfl
theorem q2416 : (Jvm.Cond.code ({ cls := "CopyPricesModel", name := "restPrice", desc := "(IIZ)I" } : Jvm.MethodName) prog_14_method_115_code (5 : Nat) (Option.some Jvm.ClassFile.FieldType.int)) ∈ lw_all := lw_g (lw_at lw_m10 119 rfl) rfl
theorem q2418 : (Jvm.Cond.instanceMethod ({ cls := "CopyPricesModel", name := "through", desc := "(I)I" } : Jvm.MethodName)) ∈ lw_all := lw_g (lw_at lw_m10 121 rfl) rfl
theorem q2419 : (Jvm.Cond.selects "CopyPricesModel" ({ cls := "CopyPricesModel", name := "through", desc := "(I)I" } : Jvm.MethodName) ({ cls := "CopyPricesModel", name := "through", desc := "(I)I" } : Jvm.MethodName)) ∈ lw_all := lw_g (lw_at lw_m10 122 rfl) rfl
theorem q2420 : (Jvm.Cond.code ({ cls := "CopyPricesModel", name := "through", desc := "(I)I" } : Jvm.MethodName) prog_14_method_117_code (3 : Nat) (Option.some Jvm.ClassFile.FieldType.int)) ∈ lw_all := lw_g (lw_at lw_m10 123 rfl) rfl
theorem q2421 : (Jvm.Cond.methodLink "CopyPricesModel" (419 : Nat) ({ cls := "CopyPricesModel", name := "laysFore", desc := "()V" } : Jvm.MethodName)) ∈ lw_all := lw_g (lw_at lw_m10 124 rfl) rfl
theorem q2422 : (Jvm.Cond.privateMethod ({ cls := "CopyPricesModel", name := "laysFore", desc := "()V" } : Jvm.MethodName)) ∈ lw_tbl := lw_at lw_m10 125 rfl
theorem q2423 : (Jvm.Cond.instanceMethod ({ cls := "CopyPricesModel", name := "laysFore", desc := "()V" } : Jvm.MethodName)) ∈ lw_all := lw_g (lw_at lw_m10 126 rfl) rfl
theorem q2424 : (Jvm.Cond.code ({ cls := "CopyPricesModel", name := "laysFore", desc := "()V" } : Jvm.MethodName) prog_14_method_41_code (3 : Nat) (Option.none : Option Jvm.ClassFile.FieldType)) ∈ lw_all := lw_g (lw_at lw_m10 127 rfl) rfl
theorem q2425 : (Jvm.Cond.methodLink "CopyPricesModel" (175 : Nat) ({ cls := "CopyPricesModel", name := "goesOnFrom", desc := "(IIZ)V" } : Jvm.MethodName)) ∈ lw_all := lw_g (lw_at lw_m10 128 rfl) rfl
theorem q2426 : (Jvm.Cond.privateMethod ({ cls := "CopyPricesModel", name := "goesOnFrom", desc := "(IIZ)V" } : Jvm.MethodName)) ∈ lw_tbl := lw_at lw_m10 129 rfl
theorem q2427 : (Jvm.Cond.instanceMethod ({ cls := "CopyPricesModel", name := "goesOnFrom", desc := "(IIZ)V" } : Jvm.MethodName)) ∈ lw_all := lw_g (lw_at lw_m10 130 rfl) rfl
theorem q2428 : (Jvm.Cond.code ({ cls := "CopyPricesModel", name := "goesOnFrom", desc := "(IIZ)V" } : Jvm.MethodName) prog_14_method_40_code (7 : Nat) (Option.none : Option Jvm.ClassFile.FieldType)) ∈ lw_all := lw_g (lw_at lw_m10 131 rfl) rfl
theorem q2429 : (Jvm.Cond.methodLink "CopyPricesModel" (171 : Nat) ({ cls := "CopyPricesModel", name := "betters", desc := "(IIZI)V" } : Jvm.MethodName)) ∈ lw_all := lw_g (lw_at lw_m10 132 rfl) rfl
theorem q2430 : (Jvm.Cond.privateMethod ({ cls := "CopyPricesModel", name := "betters", desc := "(IIZI)V" } : Jvm.MethodName)) ∈ lw_tbl := lw_at lw_m10 133 rfl
theorem q2431 : (Jvm.Cond.instanceMethod ({ cls := "CopyPricesModel", name := "betters", desc := "(IIZI)V" } : Jvm.MethodName)) ∈ lw_all := lw_g (lw_at lw_m10 134 rfl) rfl
theorem q2432 : (Jvm.Cond.code ({ cls := "CopyPricesModel", name := "betters", desc := "(IIZI)V" } : Jvm.MethodName) prog_14_method_39_code (6 : Nat) (Option.none : Option Jvm.ClassFile.FieldType)) ∈ lw_all := lw_g (lw_at lw_m10 135 rfl) rfl
theorem q2433 : (Jvm.Cond.methodLink "CopyPricesModel" (422 : Nat) ({ cls := "CopyPricesModel", name := "throughNow", desc := "(I)I" } : Jvm.MethodName)) ∈ lw_all := lw_g (lw_at lw_m10 136 rfl) rfl
theorem q2434 : (Jvm.Cond.privateMethod ({ cls := "CopyPricesModel", name := "throughNow", desc := "(I)I" } : Jvm.MethodName)) ∈ lw_tbl := lw_at lw_m10 137 rfl
theorem q2435 : (Jvm.Cond.instanceMethod ({ cls := "CopyPricesModel", name := "throughNow", desc := "(I)I" } : Jvm.MethodName)) ∈ lw_all := lw_g (lw_at lw_m10 138 rfl) rfl
theorem q2436 : (Jvm.Cond.code ({ cls := "CopyPricesModel", name := "throughNow", desc := "(I)I" } : Jvm.MethodName) prog_14_method_116_code (5 : Nat) (Option.some Jvm.ClassFile.FieldType.int)) ∈ lw_all := lw_g (lw_at lw_m10 139 rfl) rfl
theorem q2438 : (Jvm.Cond.instanceMethod ({ cls := "CopyPricesModel", name := "worth", desc := "(III)I" } : Jvm.MethodName)) ∈ lw_all := lw_g (lw_at lw_m10 141 rfl) rfl
theorem q2439 : (Jvm.Cond.selects "CopyPricesModel" ({ cls := "CopyPricesModel", name := "worth", desc := "(III)I" } : Jvm.MethodName) ({ cls := "CopyPricesModel", name := "worth", desc := "(III)I" } : Jvm.MethodName)) ∈ lw_all := lw_g (lw_at lw_m10 142 rfl) rfl
theorem q2440 : (Jvm.Cond.code ({ cls := "CopyPricesModel", name := "worth", desc := "(III)I" } : Jvm.MethodName) prog_14_method_119_code (5 : Nat) (Option.some Jvm.ClassFile.FieldType.int)) ∈ lw_all := lw_g (lw_at lw_m10 143 rfl) rfl
theorem q2441 : (Jvm.Cond.methodLink "CopyPricesModel" (425 : Nat) ({ cls := "CopyPricesModel", name := "cheapestWith", desc := "(III)I" } : Jvm.MethodName)) ∈ lw_all := lw_g (lw_at lw_m10 144 rfl) rfl
theorem q2442 : (Jvm.Cond.privateMethod ({ cls := "CopyPricesModel", name := "cheapestWith", desc := "(III)I" } : Jvm.MethodName)) ∈ lw_tbl := lw_at lw_m10 145 rfl
theorem q2443 : (Jvm.Cond.instanceMethod ({ cls := "CopyPricesModel", name := "cheapestWith", desc := "(III)I" } : Jvm.MethodName)) ∈ lw_all := lw_g (lw_at lw_m10 146 rfl) rfl
theorem q2444 : (Jvm.Cond.code ({ cls := "CopyPricesModel", name := "cheapestWith", desc := "(III)I" } : Jvm.MethodName) prog_14_method_118_code (7 : Nat) (Option.some Jvm.ClassFile.FieldType.int)) ∈ lw_all := lw_g (lw_at lw_m10 147 rfl) rfl
theorem q2446 : (Jvm.Cond.instanceMethod ({ cls := "CopyPricesModel", name := "agree", desc := "()Z" } : Jvm.MethodName)) ∈ lw_all := lw_g (lw_at lw_m10 149 rfl) rfl
theorem q2447 : (Jvm.Cond.selects "CopyPricesModel" ({ cls := "CopyPricesModel", name := "agree", desc := "()Z" } : Jvm.MethodName) ({ cls := "CopyPricesModel", name := "agree", desc := "()Z" } : Jvm.MethodName)) ∈ lw_all := lw_g (lw_at lw_m10 150 rfl) rfl
theorem q2448 : (Jvm.Cond.code ({ cls := "CopyPricesModel", name := "agree", desc := "()Z" } : Jvm.MethodName) prog_14_method_121_code (4 : Nat) (Option.some Jvm.ClassFile.FieldType.boolean)) ∈ lw_all := lw_g (lw_at lw_m10 151 rfl) rfl
theorem q2449 : (Jvm.Cond.methodLink "CopyPricesModel" (428 : Nat) ({ cls := "CopyPricesModel", name := "leastFore", desc := "(I)I" } : Jvm.MethodName)) ∈ lw_all := lw_g (lw_at lw_m10 152 rfl) rfl
theorem q2450 : (Jvm.Cond.privateMethod ({ cls := "CopyPricesModel", name := "leastFore", desc := "(I)I" } : Jvm.MethodName)) ∈ lw_tbl := lw_at lw_m10 153 rfl
theorem q2451 : (Jvm.Cond.instanceMethod ({ cls := "CopyPricesModel", name := "leastFore", desc := "(I)I" } : Jvm.MethodName)) ∈ lw_all := lw_g (lw_at lw_m10 154 rfl) rfl
theorem q2452 : (Jvm.Cond.code ({ cls := "CopyPricesModel", name := "leastFore", desc := "(I)I" } : Jvm.MethodName) prog_14_method_42_code (4 : Nat) (Option.some Jvm.ClassFile.FieldType.int)) ∈ lw_all := lw_g (lw_at lw_m10 155 rfl) rfl
theorem q2453 : (Jvm.Cond.methodLink "CopyPricesModel" (431 : Nat) ({ cls := "CopyPricesModel", name := "costOf", desc := "(I)I" } : Jvm.MethodName)) ∈ lw_all := lw_g (lw_at lw_m10 156 rfl) rfl
theorem q2454 : (Jvm.Cond.privateMethod ({ cls := "CopyPricesModel", name := "costOf", desc := "(I)I" } : Jvm.MethodName)) ∈ lw_tbl := lw_at lw_m10 157 rfl
theorem q2455 : (Jvm.Cond.instanceMethod ({ cls := "CopyPricesModel", name := "costOf", desc := "(I)I" } : Jvm.MethodName)) ∈ lw_all := lw_g (lw_at lw_m10 158 rfl) rfl
theorem q2456 : (Jvm.Cond.code ({ cls := "CopyPricesModel", name := "costOf", desc := "(I)I" } : Jvm.MethodName) prog_14_method_54_code (2 : Nat) (Option.some Jvm.ClassFile.FieldType.int)) ∈ lw_all := lw_g (lw_at lw_m10 159 rfl) rfl
theorem q2457 : (Jvm.Cond.methodLink "CopyPricesModel" (434 : Nat) ({ cls := "CopyPricesModel", name := "givesText", desc := "()Z" } : Jvm.MethodName)) ∈ lw_all := lw_g (lw_at lw_m10 160 rfl) rfl
theorem q2458 : (Jvm.Cond.privateMethod ({ cls := "CopyPricesModel", name := "givesText", desc := "()Z" } : Jvm.MethodName)) ∈ lw_tbl := lw_at lw_m10 161 rfl
theorem q2459 : (Jvm.Cond.instanceMethod ({ cls := "CopyPricesModel", name := "givesText", desc := "()Z" } : Jvm.MethodName)) ∈ lw_all := lw_g (lw_at lw_m10 162 rfl) rfl
theorem q2460 : (Jvm.Cond.code ({ cls := "CopyPricesModel", name := "givesText", desc := "()Z" } : Jvm.MethodName) prog_14_method_120_code (3 : Nat) (Option.some Jvm.ClassFile.FieldType.boolean)) ∈ lw_all := lw_g (lw_at lw_m10 163 rfl) rfl
theorem q2462 : (Jvm.Cond.instanceMethod ({ cls := "CopyPricesModel", name := "ifLetter", desc := "(II)I" } : Jvm.MethodName)) ∈ lw_all := lw_g (lw_at lw_m10 165 rfl) rfl
theorem q2463 : (Jvm.Cond.selects "CopyPricesModel" ({ cls := "CopyPricesModel", name := "ifLetter", desc := "(II)I" } : Jvm.MethodName) ({ cls := "CopyPricesModel", name := "ifLetter", desc := "(II)I" } : Jvm.MethodName)) ∈ lw_all := lw_g (lw_at lw_m10 166 rfl) rfl
theorem q2464 : (Jvm.Cond.code ({ cls := "CopyPricesModel", name := "ifLetter", desc := "(II)I" } : Jvm.MethodName) prog_14_method_125_code (3 : Nat) (Option.some Jvm.ClassFile.FieldType.int)) ∈ lw_all := lw_g (lw_at lw_m10 167 rfl) rfl
theorem q2465 : (Jvm.Cond.methodLink "CopyPricesModel" (443 : Nat) ({ cls := "CopyPricesModel", name := "bestWith", desc := "(II)I" } : Jvm.MethodName)) ∈ lw_all := lw_g (lw_at lw_m10 168 rfl) rfl
theorem q2466 : (Jvm.Cond.privateMethod ({ cls := "CopyPricesModel", name := "bestWith", desc := "(II)I" } : Jvm.MethodName)) ∈ lw_tbl := lw_at lw_m10 169 rfl
theorem q2467 : (Jvm.Cond.instanceMethod ({ cls := "CopyPricesModel", name := "bestWith", desc := "(II)I" } : Jvm.MethodName)) ∈ lw_all := lw_g (lw_at lw_m10 170 rfl) rfl
theorem q2468 : (Jvm.Cond.code ({ cls := "CopyPricesModel", name := "bestWith", desc := "(II)I" } : Jvm.MethodName) prog_14_method_124_code (3 : Nat) (Option.some Jvm.ClassFile.FieldType.int)) ∈ lw_all := lw_g (lw_at lw_m10 171 rfl) rfl
theorem q2469 : (Jvm.Cond.methodLink "CopyPricesModel" (437 : Nat) ({ cls := "CopyPricesModel", name := "trial", desc := "()V" } : Jvm.MethodName)) ∈ lw_all := lw_g (lw_at lw_m10 172 rfl) rfl
theorem q2470 : (Jvm.Cond.privateMethod ({ cls := "CopyPricesModel", name := "trial", desc := "()V" } : Jvm.MethodName)) ∈ lw_tbl := lw_at lw_m10 173 rfl
theorem q2471 : (Jvm.Cond.instanceMethod ({ cls := "CopyPricesModel", name := "trial", desc := "()V" } : Jvm.MethodName)) ∈ lw_all := lw_g (lw_at lw_m10 174 rfl) rfl
theorem q2472 : (Jvm.Cond.code ({ cls := "CopyPricesModel", name := "trial", desc := "()V" } : Jvm.MethodName) prog_14_method_122_code (1 : Nat) (Option.none : Option Jvm.ClassFile.FieldType)) ∈ lw_all := lw_g (lw_at lw_m10 175 rfl) rfl
theorem q2473 : (Jvm.Cond.methodLink "CopyPricesModel" (440 : Nat) ({ cls := "CopyPricesModel", name := "back", desc := "(I)I" } : Jvm.MethodName)) ∈ lw_all := lw_g (lw_at lw_m10 176 rfl) rfl
theorem q2474 : (Jvm.Cond.privateMethod ({ cls := "CopyPricesModel", name := "back", desc := "(I)I" } : Jvm.MethodName)) ∈ lw_tbl := lw_at lw_m10 177 rfl
theorem q2475 : (Jvm.Cond.instanceMethod ({ cls := "CopyPricesModel", name := "back", desc := "(I)I" } : Jvm.MethodName)) ∈ lw_all := lw_g (lw_at lw_m10 178 rfl) rfl
theorem q2476 : (Jvm.Cond.code ({ cls := "CopyPricesModel", name := "back", desc := "(I)I" } : Jvm.MethodName) prog_14_method_123_code (2 : Nat) (Option.some Jvm.ClassFile.FieldType.int)) ∈ lw_all := lw_g (lw_at lw_m10 179 rfl) rfl
theorem q2478 : (Jvm.Cond.instanceMethod ({ cls := "CopyPricesModel", name := "pinCost", desc := "(I)I" } : Jvm.MethodName)) ∈ lw_all := lw_g (lw_at lw_m10 181 rfl) rfl
theorem q2479 : (Jvm.Cond.selects "CopyPricesModel" ({ cls := "CopyPricesModel", name := "pinCost", desc := "(I)I" } : Jvm.MethodName) ({ cls := "CopyPricesModel", name := "pinCost", desc := "(I)I" } : Jvm.MethodName)) ∈ lw_all := lw_g (lw_at lw_m10 182 rfl) rfl
theorem q2480 : (Jvm.Cond.code ({ cls := "CopyPricesModel", name := "pinCost", desc := "(I)I" } : Jvm.MethodName) prog_14_method_127_code (2 : Nat) (Option.some Jvm.ClassFile.FieldType.int)) ∈ lw_all := lw_g (lw_at lw_m10 183 rfl) rfl
theorem q2481 : (Jvm.Cond.methodLink "CopyPricesModel" (446 : Nat) ({ cls := "CopyPricesModel", name := "pinCostNow", desc := "(II)I" } : Jvm.MethodName)) ∈ lw_all := lw_g (lw_at lw_m10 184 rfl) rfl
theorem q2482 : (Jvm.Cond.privateMethod ({ cls := "CopyPricesModel", name := "pinCostNow", desc := "(II)I" } : Jvm.MethodName)) ∈ lw_tbl := lw_at lw_m10 185 rfl
theorem q2483 : (Jvm.Cond.instanceMethod ({ cls := "CopyPricesModel", name := "pinCostNow", desc := "(II)I" } : Jvm.MethodName)) ∈ lw_all := lw_g (lw_at lw_m10 186 rfl) rfl
theorem q2484 : (Jvm.Cond.code ({ cls := "CopyPricesModel", name := "pinCostNow", desc := "(II)I" } : Jvm.MethodName) prog_14_method_126_code (3 : Nat) (Option.some Jvm.ClassFile.FieldType.int)) ∈ lw_all := lw_g (lw_at lw_m10 187 rfl) rfl
theorem q2486 : (Jvm.Cond.instanceMethod ({ cls := "CopyPricesModel", name := "costliestPin", desc := "()I" } : Jvm.MethodName)) ∈ lw_all := lw_g (lw_at lw_m10 189 rfl) rfl
theorem q2487 : (Jvm.Cond.selects "CopyPricesModel" ({ cls := "CopyPricesModel", name := "costliestPin", desc := "()I" } : Jvm.MethodName) ({ cls := "CopyPricesModel", name := "costliestPin", desc := "()I" } : Jvm.MethodName)) ∈ lw_all := lw_g (lw_at lw_m10 190 rfl) rfl
theorem q2488 : (Jvm.Cond.code ({ cls := "CopyPricesModel", name := "costliestPin", desc := "()I" } : Jvm.MethodName) prog_14_method_128_code (6 : Nat) (Option.some Jvm.ClassFile.FieldType.int)) ∈ lw_all := lw_g (lw_at lw_m10 191 rfl) rfl
theorem q2490 : (Jvm.Cond.instanceMethod ({ cls := "CopyPricesModel", name := "enough", desc := "(I)I" } : Jvm.MethodName)) ∈ lw_all := lw_g (lw_at lw_m10 193 rfl) rfl
theorem q2491 : (Jvm.Cond.selects "CopyPricesModel" ({ cls := "CopyPricesModel", name := "enough", desc := "(I)I" } : Jvm.MethodName) ({ cls := "CopyPricesModel", name := "enough", desc := "(I)I" } : Jvm.MethodName)) ∈ lw_all := lw_g (lw_at lw_m10 194 rfl) rfl
theorem q2492 : (Jvm.Cond.code ({ cls := "CopyPricesModel", name := "enough", desc := "(I)I" } : Jvm.MethodName) prog_14_method_129_code (6 : Nat) (Option.some Jvm.ClassFile.FieldType.int)) ∈ lw_all := lw_g (lw_at lw_m10 195 rfl) rfl
theorem q2494 : (Jvm.Cond.instanceMethod ({ cls := "CopyPricesModel", name := "bestWait", desc := "()I" } : Jvm.MethodName)) ∈ lw_all := lw_g (lw_at lw_m10 197 rfl) rfl
theorem q2495 : (Jvm.Cond.selects "CopyPricesModel" ({ cls := "CopyPricesModel", name := "bestWait", desc := "()I" } : Jvm.MethodName) ({ cls := "CopyPricesModel", name := "bestWait", desc := "()I" } : Jvm.MethodName)) ∈ lw_all := lw_g (lw_at lw_m10 198 rfl) rfl
theorem q2496 : (Jvm.Cond.code ({ cls := "CopyPricesModel", name := "bestWait", desc := "()I" } : Jvm.MethodName) prog_14_method_131_code (5 : Nat) (Option.some Jvm.ClassFile.FieldType.int)) ∈ lw_all := lw_g (lw_at lw_m10 199 rfl) rfl
theorem q2497 : (Jvm.Cond.methodLink "CopyPricesModel" (449 : Nat) ({ cls := "CopyPricesModel", name := "waitingWith", desc := "(I)I" } : Jvm.MethodName)) ∈ lw_all := lw_g (lw_at lw_m10 200 rfl) rfl
theorem q2498 : (Jvm.Cond.privateMethod ({ cls := "CopyPricesModel", name := "waitingWith", desc := "(I)I" } : Jvm.MethodName)) ∈ lw_tbl := lw_at lw_m10 201 rfl
theorem q2499 : (Jvm.Cond.instanceMethod ({ cls := "CopyPricesModel", name := "waitingWith", desc := "(I)I" } : Jvm.MethodName)) ∈ lw_all := lw_g (lw_at lw_m10 202 rfl) rfl
theorem q2500 : (Jvm.Cond.code ({ cls := "CopyPricesModel", name := "waitingWith", desc := "(I)I" } : Jvm.MethodName) prog_14_method_130_code (2 : Nat) (Option.some Jvm.ClassFile.FieldType.int)) ∈ lw_all := lw_g (lw_at lw_m10 203 rfl) rfl
theorem q2502 : (Jvm.Cond.instanceMethod ({ cls := "CopyPricesModel", name := "bestShare", desc := "()F" } : Jvm.MethodName)) ∈ lw_all := lw_g (lw_at lw_m10 205 rfl) rfl
theorem q2503 : (Jvm.Cond.selects "CopyPricesModel" ({ cls := "CopyPricesModel", name := "bestShare", desc := "()F" } : Jvm.MethodName) ({ cls := "CopyPricesModel", name := "bestShare", desc := "()F" } : Jvm.MethodName)) ∈ lw_all := lw_g (lw_at lw_m10 206 rfl) rfl
theorem q2504 : (Jvm.Cond.code ({ cls := "CopyPricesModel", name := "bestShare", desc := "()F" } : Jvm.MethodName) prog_14_method_132_code (2 : Nat) (Option.some Jvm.ClassFile.FieldType.float)) ∈ lw_all := lw_g (lw_at lw_m10 207 rfl) rfl
theorem q2506 : (Jvm.Cond.instanceMethod ({ cls := "CopyPricesModel", name := "meanLength", desc := "(I)D" } : Jvm.MethodName)) ∈ lw_all := lw_g (lw_at lw_m10 209 rfl) rfl
theorem q2507 : (Jvm.Cond.selects "CopyPricesModel" ({ cls := "CopyPricesModel", name := "meanLength", desc := "(I)D" } : Jvm.MethodName) ({ cls := "CopyPricesModel", name := "meanLength", desc := "(I)D" } : Jvm.MethodName)) ∈ lw_all := lw_g (lw_at lw_m10 210 rfl) rfl
theorem q2508 : (Jvm.Cond.code ({ cls := "CopyPricesModel", name := "meanLength", desc := "(I)D" } : Jvm.MethodName) prog_14_method_133_code (3 : Nat) (Option.some Jvm.ClassFile.FieldType.double)) ∈ lw_all := lw_g (lw_at lw_m10 211 rfl) rfl
theorem q2510 : (Jvm.Cond.instanceMethod ({ cls := "CopyPricesModel", name := "put", desc := "(II)I" } : Jvm.MethodName)) ∈ lw_all := lw_g (lw_at lw_m10 213 rfl) rfl
theorem q2511 : (Jvm.Cond.selects "CopyPricesModel" ({ cls := "CopyPricesModel", name := "put", desc := "(II)I" } : Jvm.MethodName) ({ cls := "CopyPricesModel", name := "put", desc := "(II)I" } : Jvm.MethodName)) ∈ lw_all := lw_g (lw_at lw_m10 214 rfl) rfl
theorem q2512 : (Jvm.Cond.code ({ cls := "CopyPricesModel", name := "put", desc := "(II)I" } : Jvm.MethodName) prog_14_method_136_code (3 : Nat) (Option.some Jvm.ClassFile.FieldType.int)) ∈ lw_all := lw_g (lw_at lw_m10 215 rfl) rfl
theorem q2513 : (Jvm.Cond.methodLink "CopyPricesModel" (458 : Nat) ({ cls := "CopyPricesModel", name := "changes", desc := "(III)I" } : Jvm.MethodName)) ∈ lw_all := lw_g (lw_at lw_m10 216 rfl) rfl
theorem q2514 : (Jvm.Cond.privateMethod ({ cls := "CopyPricesModel", name := "changes", desc := "(III)I" } : Jvm.MethodName)) ∈ lw_tbl := lw_at lw_m10 217 rfl
theorem q2515 : (Jvm.Cond.instanceMethod ({ cls := "CopyPricesModel", name := "changes", desc := "(III)I" } : Jvm.MethodName)) ∈ lw_all := lw_g (lw_at lw_m10 218 rfl) rfl
theorem q2516 : (Jvm.Cond.code ({ cls := "CopyPricesModel", name := "changes", desc := "(III)I" } : Jvm.MethodName) prog_14_method_135_code (5 : Nat) (Option.some Jvm.ClassFile.FieldType.int)) ∈ lw_all := lw_g (lw_at lw_m10 219 rfl) rfl
theorem q2517 : (Jvm.Cond.methodLink "CopyPricesModel" (455 : Nat) ({ cls := "CopyPricesModel", name := "keeps", desc := "(II)V" } : Jvm.MethodName)) ∈ lw_all := lw_g (lw_at lw_m10 220 rfl) rfl
theorem q2518 : (Jvm.Cond.privateMethod ({ cls := "CopyPricesModel", name := "keeps", desc := "(II)V" } : Jvm.MethodName)) ∈ lw_tbl := lw_at lw_m10 221 rfl
theorem q2519 : (Jvm.Cond.instanceMethod ({ cls := "CopyPricesModel", name := "keeps", desc := "(II)V" } : Jvm.MethodName)) ∈ lw_all := lw_g (lw_at lw_m10 222 rfl) rfl
theorem q2520 : (Jvm.Cond.code ({ cls := "CopyPricesModel", name := "keeps", desc := "(II)V" } : Jvm.MethodName) prog_14_method_134_code (3 : Nat) (Option.none : Option Jvm.ClassFile.FieldType)) ∈ lw_all := lw_g (lw_at lw_m10 223 rfl) rfl
theorem q2521 : (Jvm.Cond.methodLink "CopyPricesModel" (452 : Nat) ({ cls := "CopyPricesModel", name := "counts", desc := "(II)V" } : Jvm.MethodName)) ∈ lw_all := lw_g (lw_at lw_m10 224 rfl) rfl
theorem q2522 : (Jvm.Cond.privateMethod ({ cls := "CopyPricesModel", name := "counts", desc := "(II)V" } : Jvm.MethodName)) ∈ lw_tbl := lw_at lw_m10 225 rfl
theorem q2523 : (Jvm.Cond.instanceMethod ({ cls := "CopyPricesModel", name := "counts", desc := "(II)V" } : Jvm.MethodName)) ∈ lw_all := lw_g (lw_at lw_m10 226 rfl) rfl
theorem q2524 : (Jvm.Cond.code ({ cls := "CopyPricesModel", name := "counts", desc := "(II)V" } : Jvm.MethodName) prog_14_method_11_code (3 : Nat) (Option.none : Option Jvm.ClassFile.FieldType)) ∈ lw_all := lw_g (lw_at lw_m10 227 rfl) rfl
theorem q2526 : (Jvm.Cond.instanceMethod ({ cls := "CopyPricesModel", name := "add", desc := "(I)I" } : Jvm.MethodName)) ∈ lw_all := lw_g (lw_at lw_m10 229 rfl) rfl
theorem q2527 : (Jvm.Cond.selects "CopyPricesModel" ({ cls := "CopyPricesModel", name := "add", desc := "(I)I" } : Jvm.MethodName) ({ cls := "CopyPricesModel", name := "add", desc := "(I)I" } : Jvm.MethodName)) ∈ lw_all := lw_g (lw_at lw_m10 230 rfl) rfl
theorem q2528 : (Jvm.Cond.code ({ cls := "CopyPricesModel", name := "add", desc := "(I)I" } : Jvm.MethodName) prog_14_method_137_code (2 : Nat) (Option.some Jvm.ClassFile.FieldType.int)) ∈ lw_all := lw_g (lw_at lw_m10 231 rfl) rfl
theorem q2530 : (Jvm.Cond.instanceMethod ({ cls := "CopyPricesModel", name := "cut", desc := "(I)I" } : Jvm.MethodName)) ∈ lw_all := lw_g (lw_at lw_m10 233 rfl) rfl
theorem q2531 : (Jvm.Cond.selects "CopyPricesModel" ({ cls := "CopyPricesModel", name := "cut", desc := "(I)I" } : Jvm.MethodName) ({ cls := "CopyPricesModel", name := "cut", desc := "(I)I" } : Jvm.MethodName)) ∈ lw_all := lw_g (lw_at lw_m10 234 rfl) rfl
theorem q2532 : (Jvm.Cond.code ({ cls := "CopyPricesModel", name := "cut", desc := "(I)I" } : Jvm.MethodName) prog_14_method_138_code (3 : Nat) (Option.some Jvm.ClassFile.FieldType.int)) ∈ lw_all := lw_g (lw_at lw_m10 235 rfl) rfl
theorem q2534 : (Jvm.Cond.instanceMethod ({ cls := "CopyPricesModel", name := "pin", desc := "(IZ)I" } : Jvm.MethodName)) ∈ lw_all := lw_g (lw_at lw_m10 237 rfl) rfl
theorem q2535 : (Jvm.Cond.selects "CopyPricesModel" ({ cls := "CopyPricesModel", name := "pin", desc := "(IZ)I" } : Jvm.MethodName) ({ cls := "CopyPricesModel", name := "pin", desc := "(IZ)I" } : Jvm.MethodName)) ∈ lw_all := lw_g (lw_at lw_m10 238 rfl) rfl
theorem q2536 : (Jvm.Cond.code ({ cls := "CopyPricesModel", name := "pin", desc := "(IZ)I" } : Jvm.MethodName) prog_14_method_139_code (5 : Nat) (Option.some Jvm.ClassFile.FieldType.int)) ∈ lw_all := lw_g (lw_at lw_m10 239 rfl) rfl
theorem q2538 : (Jvm.Cond.instanceMethod ({ cls := "CopyPricesModel", name := "set", desc := "(II)I" } : Jvm.MethodName)) ∈ lw_all := lw_g (lw_at lw_m11 1 rfl) rfl
theorem q2539 : (Jvm.Cond.selects "CopyPricesModel" ({ cls := "CopyPricesModel", name := "set", desc := "(II)I" } : Jvm.MethodName) ({ cls := "CopyPricesModel", name := "set", desc := "(II)I" } : Jvm.MethodName)) ∈ lw_all := lw_g (lw_at lw_m11 2 rfl) rfl
theorem q2540 : (Jvm.Cond.code ({ cls := "CopyPricesModel", name := "set", desc := "(II)I" } : Jvm.MethodName) prog_14_method_140_code (3 : Nat) (Option.some Jvm.ClassFile.FieldType.int)) ∈ lw_all := lw_g (lw_at lw_m11 3 rfl) rfl
theorem q2542 : (Jvm.Cond.instanceMethod ({ cls := "CopyPricesModel", name := "setPrice", desc := "(II)I" } : Jvm.MethodName)) ∈ lw_all := lw_g (lw_at lw_m11 5 rfl) rfl
theorem q2543 : (Jvm.Cond.selects "CopyPricesModel" ({ cls := "CopyPricesModel", name := "setPrice", desc := "(II)I" } : Jvm.MethodName) ({ cls := "CopyPricesModel", name := "setPrice", desc := "(II)I" } : Jvm.MethodName)) ∈ lw_all := lw_g (lw_at lw_m11 6 rfl) rfl
theorem q2544 : (Jvm.Cond.code ({ cls := "CopyPricesModel", name := "setPrice", desc := "(II)I" } : Jvm.MethodName) prog_14_method_141_code (3 : Nat) (Option.some Jvm.ClassFile.FieldType.int)) ∈ lw_all := lw_g (lw_at lw_m11 7 rfl) rfl
theorem q2546 : (Jvm.Cond.instanceMethod ({ cls := "CopyPricesModel", name := "undo", desc := "()I" } : Jvm.MethodName)) ∈ lw_all := lw_g (lw_at lw_m11 9 rfl) rfl
theorem q2547 : (Jvm.Cond.selects "CopyPricesModel" ({ cls := "CopyPricesModel", name := "undo", desc := "()I" } : Jvm.MethodName) ({ cls := "CopyPricesModel", name := "undo", desc := "()I" } : Jvm.MethodName)) ∈ lw_all := lw_g (lw_at lw_m11 10 rfl) rfl
theorem q2548 : (Jvm.Cond.code ({ cls := "CopyPricesModel", name := "undo", desc := "()I" } : Jvm.MethodName) prog_14_method_142_code (1 : Nat) (Option.some Jvm.ClassFile.FieldType.int)) ∈ lw_all := lw_g (lw_at lw_m11 11 rfl) rfl
theorem q2550 : (Jvm.Cond.instanceMethod ({ cls := "CopyPricesModel", name := "printParse", desc := "(I)I" } : Jvm.MethodName)) ∈ lw_all := lw_g (lw_at lw_m11 13 rfl) rfl
theorem q2551 : (Jvm.Cond.selects "CopyPricesModel" ({ cls := "CopyPricesModel", name := "printParse", desc := "(I)I" } : Jvm.MethodName) ({ cls := "CopyPricesModel", name := "printParse", desc := "(I)I" } : Jvm.MethodName)) ∈ lw_all := lw_g (lw_at lw_m11 14 rfl) rfl
theorem q2552 : (Jvm.Cond.code ({ cls := "CopyPricesModel", name := "printParse", desc := "(I)I" } : Jvm.MethodName) prog_14_method_146_code (3 : Nat) (Option.some Jvm.ClassFile.FieldType.int)) ∈ lw_all := lw_g (lw_at lw_m11 15 rfl) rfl
theorem q2553 : (Jvm.Cond.methodLink "CopyPricesModel" (470 : Nat) ({ cls := "CopyPricesModel", name := "writesStep", desc := "(I)V" } : Jvm.MethodName)) ∈ lw_all := lw_g (lw_at lw_m11 16 rfl) rfl
theorem q2554 : (Jvm.Cond.privateMethod ({ cls := "CopyPricesModel", name := "writesStep", desc := "(I)V" } : Jvm.MethodName)) ∈ lw_tbl := lw_at lw_m11 17 rfl
theorem q2555 : (Jvm.Cond.instanceMethod ({ cls := "CopyPricesModel", name := "writesStep", desc := "(I)V" } : Jvm.MethodName)) ∈ lw_all := lw_g (lw_at lw_m11 18 rfl) rfl
theorem q2556 : (Jvm.Cond.code ({ cls := "CopyPricesModel", name := "writesStep", desc := "(I)V" } : Jvm.MethodName) prog_14_method_145_code (2 : Nat) (Option.none : Option Jvm.ClassFile.FieldType)) ∈ lw_all := lw_g (lw_at lw_m11 19 rfl) rfl
theorem q2557 : (Jvm.Cond.methodLink "CopyPricesModel" (464 : Nat) ({ cls := "CopyPricesModel", name := "writes", desc := "(I)V" } : Jvm.MethodName)) ∈ lw_all := lw_g (lw_at lw_m11 20 rfl) rfl
theorem q2558 : (Jvm.Cond.privateMethod ({ cls := "CopyPricesModel", name := "writes", desc := "(I)V" } : Jvm.MethodName)) ∈ lw_tbl := lw_at lw_m11 21 rfl
theorem q2559 : (Jvm.Cond.instanceMethod ({ cls := "CopyPricesModel", name := "writes", desc := "(I)V" } : Jvm.MethodName)) ∈ lw_all := lw_g (lw_at lw_m11 22 rfl) rfl
theorem q2560 : (Jvm.Cond.code ({ cls := "CopyPricesModel", name := "writes", desc := "(I)V" } : Jvm.MethodName) prog_14_method_143_code (2 : Nat) (Option.none : Option Jvm.ClassFile.FieldType)) ∈ lw_all := lw_g (lw_at lw_m11 23 rfl) rfl
theorem q2561 : (Jvm.Cond.methodLink "CopyPricesModel" (467 : Nat) ({ cls := "CopyPricesModel", name := "writesNumber", desc := "(I)V" } : Jvm.MethodName)) ∈ lw_all := lw_g (lw_at lw_m11 24 rfl) rfl
theorem q2562 : (Jvm.Cond.privateMethod ({ cls := "CopyPricesModel", name := "writesNumber", desc := "(I)V" } : Jvm.MethodName)) ∈ lw_tbl := lw_at lw_m11 25 rfl
theorem q2563 : (Jvm.Cond.instanceMethod ({ cls := "CopyPricesModel", name := "writesNumber", desc := "(I)V" } : Jvm.MethodName)) ∈ lw_all := lw_g (lw_at lw_m11 26 rfl) rfl
theorem q2564 : (Jvm.Cond.code ({ cls := "CopyPricesModel", name := "writesNumber", desc := "(I)V" } : Jvm.MethodName) prog_14_method_144_code (2 : Nat) (Option.none : Option Jvm.ClassFile.FieldType)) ∈ lw_all := lw_g (lw_at lw_m11 27 rfl) rfl
theorem q2566 : (Jvm.Cond.instanceMethod ({ cls := "CopyPricesModel", name := "printText", desc := "()I" } : Jvm.MethodName)) ∈ lw_all := lw_g (lw_at lw_m11 29 rfl) rfl
theorem q2567 : (Jvm.Cond.selects "CopyPricesModel" ({ cls := "CopyPricesModel", name := "printText", desc := "()I" } : Jvm.MethodName) ({ cls := "CopyPricesModel", name := "printText", desc := "()I" } : Jvm.MethodName)) ∈ lw_all := lw_g (lw_at lw_m11 30 rfl) rfl
theorem q2568 : (Jvm.Cond.code ({ cls := "CopyPricesModel", name := "printText", desc := "()I" } : Jvm.MethodName) prog_14_method_147_code (2 : Nat) (Option.some Jvm.ClassFile.FieldType.int)) ∈ lw_all := lw_g (lw_at lw_m11 31 rfl) rfl
theorem q2570 : (Jvm.Cond.instanceMethod ({ cls := "CopyPricesModel", name := "outputByte", desc := "(I)I" } : Jvm.MethodName)) ∈ lw_all := lw_g (lw_at lw_m11 33 rfl) rfl
theorem q2571 : (Jvm.Cond.selects "CopyPricesModel" ({ cls := "CopyPricesModel", name := "outputByte", desc := "(I)I" } : Jvm.MethodName) ({ cls := "CopyPricesModel", name := "outputByte", desc := "(I)I" } : Jvm.MethodName)) ∈ lw_all := lw_g (lw_at lw_m11 34 rfl) rfl
theorem q2572 : (Jvm.Cond.code ({ cls := "CopyPricesModel", name := "outputByte", desc := "(I)I" } : Jvm.MethodName) prog_14_method_148_code (2 : Nat) (Option.some Jvm.ClassFile.FieldType.int)) ∈ lw_all := lw_g (lw_at lw_m11 35 rfl) rfl
theorem q2574 : (Jvm.Cond.instanceMethod ({ cls := "CopyPricesModel", name := "saveState", desc := "()I" } : Jvm.MethodName)) ∈ lw_all := lw_g (lw_at lw_m11 37 rfl) rfl
theorem q2575 : (Jvm.Cond.selects "CopyPricesModel" ({ cls := "CopyPricesModel", name := "saveState", desc := "()I" } : Jvm.MethodName) ({ cls := "CopyPricesModel", name := "saveState", desc := "()I" } : Jvm.MethodName)) ∈ lw_all := lw_g (lw_at lw_m11 38 rfl) rfl
theorem q2576 : (Jvm.Cond.code ({ cls := "CopyPricesModel", name := "saveState", desc := "()I" } : Jvm.MethodName) prog_14_method_149_code (1 : Nat) (Option.some Jvm.ClassFile.FieldType.int)) ∈ lw_all := lw_g (lw_at lw_m11 39 rfl) rfl
theorem q2578 : (Jvm.Cond.instanceMethod ({ cls := "CopyPricesModel", name := "restoreState", desc := "()I" } : Jvm.MethodName)) ∈ lw_all := lw_g (lw_at lw_m11 41 rfl) rfl
theorem q2579 : (Jvm.Cond.selects "CopyPricesModel" ({ cls := "CopyPricesModel", name := "restoreState", desc := "()I" } : Jvm.MethodName) ({ cls := "CopyPricesModel", name := "restoreState", desc := "()I" } : Jvm.MethodName)) ∈ lw_all := lw_g (lw_at lw_m11 42 rfl) rfl
theorem q2580 : (Jvm.Cond.code ({ cls := "CopyPricesModel", name := "restoreState", desc := "()I" } : Jvm.MethodName) prog_14_method_150_code (1 : Nat) (Option.some Jvm.ClassFile.FieldType.int)) ∈ lw_all := lw_g (lw_at lw_m11 43 rfl) rfl
theorem q2604 : (Jvm.Cond.castable "CopyPricesModel" "java/lang/Object") ∈ lw_tbl := lw_at lw_m11 67 rfl
theorem in_X4 : ∀ w ∈ wsX40, w ∈ lw_all := lw_in wsX40 [1944, 1946, 1948, 1950, 1952, 1954, 1956, 1958, 1960, 1962, 1964, 1966, 1968, 1970, 1972, 1974, 1976, 1978, 1980, 1982, 1984, 1986, 1988, 1990, 1992, 1994, 1996] (by decide +kernel) (by decide +kernel)
