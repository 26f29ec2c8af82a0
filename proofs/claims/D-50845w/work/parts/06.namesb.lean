/-! CopyPrices$Table -/
set_option maxRecDepth 100000
def RX3 : String := "CopyPrices$Table"
def TX3 : u_T := fun k => match k with
  | 0 => ("CopyPrices$Table", "world", "LCopyPrices$World;", false)
  | 1 => ("CopyPrices$Table", "rest", "[I", true)
  | 2 => ("CopyPrices$Table", "fore", "[I", true)
  | 3 => ("CopyPrices$Table", "far", "[I", true)
  | 4 => ("CopyPrices$Table", "longest", "[I", true)
  | _ => ("CopyPrices$Table", "many", "[I", true)
def tyX3 : Nat → FieldType := fun k => match k with
  | 0 => .object "CopyPrices$World"
  | 1 => .array .int
  | 2 => .array .int
  | 3 => .array .int
  | 4 => .array .int
  | _ => .array .int
abbrev wsX30 : List Cond := u_ws RX3 TX3 6
theorem nmX3 : ∀ a, a < 6 → ∀ b, b < 6 → a ≠ b → (TX3 a).2.1 ≠ (TX3 b).2.1 := by decide +kernel
theorem tyX3_ok : ∀ k, k < 6 → parseFieldDescriptor (TX3 k).2.2.1 = some (tyX3 k) := by decide +kernel
abbrev cX3_init : ByteArray := prog_10_method_1_code
def yX3_init : MethodName := ⟨RX3, "<init>", "()V"⟩
def dkwX3_init_2 : List UInt8 := [181, 0, 24, 177]
abbrev dktX3_init_2 : List UInt8 := dkwX3_init_2 ++ []
def dkwX3_init_1 : List UInt8 := [17, 4, 0, 188, 10, 181, 0, 18, 42, 17, 4, 0, 188, 10, 181, 0, 21, 42, 16, 64, 188, 10]
abbrev dktX3_init_1 : List UInt8 := dkwX3_init_1 ++ dktX3_init_2
def dkwX3_init_0 : List UInt8 := [42, 183, 0, 3, 42, 17, 16, 194, 188, 10, 181, 0, 11, 42, 17, 16, 194, 188, 10, 181, 0, 15, 42]
abbrev dktX3_init_0 : List UInt8 := dkwX3_init_0 ++ dktX3_init_1
theorem dksX3_init_0 : cX3_init.data.toList.drop 0 = dktX3_init_0 := by decide +kernel
theorem dksX3_init_1 : cX3_init.data.toList.drop 23 = dktX3_init_1 := dk_seg dksX3_init_0 23 rfl rfl
theorem dksX3_init_2 : cX3_init.data.toList.drop 45 = dktX3_init_2 := dk_seg dksX3_init_1 22 rfl rfl
theorem dX3_init_0 : decode cX3_init 0 = .ok (.aload_n 0, 1) := dk_42 (dk_at dksX3_init_0 0 rfl rfl)
theorem dX3_init_1 : decode cX3_init 1 = .ok (.invokespecial 3, 3) := dk_183 0 3 (dk_at dksX3_init_0 1 rfl rfl)
theorem dX3_init_4 : decode cX3_init 4 = .ok (.aload_n 0, 1) := dk_42 (dk_at dksX3_init_0 4 rfl rfl)
theorem dX3_init_5 : decode cX3_init 5 = .ok (.sipush 4290, 3) := dk_17 16 194 (dk_at dksX3_init_0 5 rfl rfl)
theorem dX3_init_8 : decode cX3_init 8 = .ok (.newarray .int, 2) := dk_188_10 (dk_at dksX3_init_0 8 rfl rfl)
theorem dX3_init_10 : decode cX3_init 10 = .ok (.putfield 11, 3) := dk_181 0 11 (dk_at dksX3_init_0 10 rfl rfl)
theorem dX3_init_13 : decode cX3_init 13 = .ok (.aload_n 0, 1) := dk_42 (dk_at dksX3_init_0 13 rfl rfl)
theorem dX3_init_14 : decode cX3_init 14 = .ok (.sipush 4290, 3) := dk_17 16 194 (dk_at dksX3_init_0 14 rfl rfl)
theorem dX3_init_17 : decode cX3_init 17 = .ok (.newarray .int, 2) := dk_188_10 (dk_at dksX3_init_0 17 rfl rfl)
theorem dX3_init_19 : decode cX3_init 19 = .ok (.putfield 15, 3) := dk_181 0 15 (dk_at dksX3_init_0 19 rfl rfl)
theorem dX3_init_22 : decode cX3_init 22 = .ok (.aload_n 0, 1) := dk_42 (dk_at dksX3_init_0 22 rfl rfl)
theorem dX3_init_23 : decode cX3_init 23 = .ok (.sipush 1024, 3) := dk_17 4 0 (dk_at dksX3_init_1 0 rfl rfl)
theorem dX3_init_26 : decode cX3_init 26 = .ok (.newarray .int, 2) := dk_188_10 (dk_at dksX3_init_1 3 rfl rfl)
theorem dX3_init_28 : decode cX3_init 28 = .ok (.putfield 18, 3) := dk_181 0 18 (dk_at dksX3_init_1 5 rfl rfl)
theorem dX3_init_31 : decode cX3_init 31 = .ok (.aload_n 0, 1) := dk_42 (dk_at dksX3_init_1 8 rfl rfl)
theorem dX3_init_32 : decode cX3_init 32 = .ok (.sipush 1024, 3) := dk_17 4 0 (dk_at dksX3_init_1 9 rfl rfl)
theorem dX3_init_35 : decode cX3_init 35 = .ok (.newarray .int, 2) := dk_188_10 (dk_at dksX3_init_1 12 rfl rfl)
theorem dX3_init_37 : decode cX3_init 37 = .ok (.putfield 21, 3) := dk_181 0 21 (dk_at dksX3_init_1 14 rfl rfl)
theorem dX3_init_40 : decode cX3_init 40 = .ok (.aload_n 0, 1) := dk_42 (dk_at dksX3_init_1 17 rfl rfl)
theorem dX3_init_41 : decode cX3_init 41 = .ok (.bipush 64, 2) := dk_16 64 (dk_at dksX3_init_1 18 rfl rfl)
theorem dX3_init_43 : decode cX3_init 43 = .ok (.newarray .int, 2) := dk_188_10 (dk_at dksX3_init_1 20 rfl rfl)
theorem dX3_init_45 : decode cX3_init 45 = .ok (.putfield 24, 3) := dk_181 0 24 (dk_at dksX3_init_2 0 rfl rfl)
theorem dX3_init_48 : decode cX3_init 48 = .ok (.return_, 1) := dk_177 (dk_at dksX3_init_2 3 rfl rfl)
abbrev cX3_over : ByteArray := prog_10_method_2_code
def yX3_over : MethodName := ⟨RX3, "over", "(LCopyPrices$World;)LCopyPrices$Table;"⟩
def dkwX3_over_3 : List UInt8 := [163, 0, 15, 42, 28, 29, 182, 0, 50, 132, 3, 1, 167, 255, 241, 132, 2, 255, 167, 255, 229, 42, 176]
abbrev dktX3_over_3 : List UInt8 := dkwX3_over_3 ++ []
def dkwX3_over_2 : List UInt8 := [132, 2, 1, 167, 255, 240, 43, 180, 0, 31, 4, 100, 61, 28, 155, 0, 29, 3, 62, 29, 16, 32]
abbrev dktX3_over_2 : List UInt8 := dkwX3_over_2 ++ dktX3_over_3
def dkwX3_over_1 : List UInt8 := [3, 3, 184, 0, 36, 3, 184, 0, 40, 3, 61, 28, 43, 180, 0, 31, 162, 0, 14, 42, 28, 182, 0, 46]
abbrev dktX3_over_1 : List UInt8 := dkwX3_over_1 ++ dktX3_over_2
def dkwX3_over_0 : List UInt8 := [42, 43, 181, 0, 27, 42, 180, 0, 11, 43, 180, 0, 31, 3, 3, 184, 0, 36, 43, 180, 0, 31, 4, 96]
abbrev dktX3_over_0 : List UInt8 := dkwX3_over_0 ++ dktX3_over_1
theorem dksX3_over_0 : cX3_over.data.toList.drop 0 = dktX3_over_0 := by decide +kernel
theorem dksX3_over_1 : cX3_over.data.toList.drop 24 = dktX3_over_1 := dk_seg dksX3_over_0 24 rfl rfl
theorem dksX3_over_2 : cX3_over.data.toList.drop 48 = dktX3_over_2 := dk_seg dksX3_over_1 24 rfl rfl
theorem dksX3_over_3 : cX3_over.data.toList.drop 70 = dktX3_over_3 := dk_seg dksX3_over_2 22 rfl rfl
theorem dX3_over_0 : decode cX3_over 0 = .ok (.aload_n 0, 1) := dk_42 (dk_at dksX3_over_0 0 rfl rfl)
theorem dX3_over_1 : decode cX3_over 1 = .ok (.aload_n 1, 1) := dk_43 (dk_at dksX3_over_0 1 rfl rfl)
theorem dX3_over_2 : decode cX3_over 2 = .ok (.putfield 27, 3) := dk_181 0 27 (dk_at dksX3_over_0 2 rfl rfl)
theorem dX3_over_5 : decode cX3_over 5 = .ok (.aload_n 0, 1) := dk_42 (dk_at dksX3_over_0 5 rfl rfl)
theorem dX3_over_6 : decode cX3_over 6 = .ok (.getfield 11, 3) := dk_180 0 11 (dk_at dksX3_over_0 6 rfl rfl)
theorem dX3_over_9 : decode cX3_over 9 = .ok (.aload_n 1, 1) := dk_43 (dk_at dksX3_over_0 9 rfl rfl)
theorem dX3_over_10 : decode cX3_over 10 = .ok (.getfield 31, 3) := dk_180 0 31 (dk_at dksX3_over_0 10 rfl rfl)
theorem dX3_over_13 : decode cX3_over 13 = .ok (.iconst 0, 1) := dk_3 (dk_at dksX3_over_0 13 rfl rfl)
theorem dX3_over_14 : decode cX3_over 14 = .ok (.iconst 0, 1) := dk_3 (dk_at dksX3_over_0 14 rfl rfl)
theorem dX3_over_15 : decode cX3_over 15 = .ok (.invokestatic 36, 3) := dk_184 0 36 (dk_at dksX3_over_0 15 rfl rfl)
theorem dX3_over_18 : decode cX3_over 18 = .ok (.aload_n 1, 1) := dk_43 (dk_at dksX3_over_0 18 rfl rfl)
theorem dX3_over_19 : decode cX3_over 19 = .ok (.getfield 31, 3) := dk_180 0 31 (dk_at dksX3_over_0 19 rfl rfl)
theorem dX3_over_22 : decode cX3_over 22 = .ok (.iconst 1, 1) := dk_4 (dk_at dksX3_over_0 22 rfl rfl)
theorem dX3_over_23 : decode cX3_over 23 = .ok (.iadd, 1) := dk_96 (dk_at dksX3_over_0 23 rfl rfl)
theorem dX3_over_24 : decode cX3_over 24 = .ok (.iconst 0, 1) := dk_3 (dk_at dksX3_over_1 0 rfl rfl)
theorem dX3_over_25 : decode cX3_over 25 = .ok (.iconst 0, 1) := dk_3 (dk_at dksX3_over_1 1 rfl rfl)
theorem dX3_over_26 : decode cX3_over 26 = .ok (.invokestatic 36, 3) := dk_184 0 36 (dk_at dksX3_over_1 2 rfl rfl)
theorem dX3_over_29 : decode cX3_over 29 = .ok (.iconst 0, 1) := dk_3 (dk_at dksX3_over_1 5 rfl rfl)
theorem dX3_over_30 : decode cX3_over 30 = .ok (.invokestatic 40, 3) := dk_184 0 40 (dk_at dksX3_over_1 6 rfl rfl)
theorem dX3_over_33 : decode cX3_over 33 = .ok (.iconst 0, 1) := dk_3 (dk_at dksX3_over_1 9 rfl rfl)
theorem dX3_over_34 : decode cX3_over 34 = .ok (.istore_n 2, 1) := dk_61 (dk_at dksX3_over_1 10 rfl rfl)
theorem dX3_over_35 : decode cX3_over 35 = .ok (.iload_n 2, 1) := dk_28 (dk_at dksX3_over_1 11 rfl rfl)
theorem dX3_over_36 : decode cX3_over 36 = .ok (.aload_n 1, 1) := dk_43 (dk_at dksX3_over_1 12 rfl rfl)
theorem dX3_over_37 : decode cX3_over 37 = .ok (.getfield 31, 3) := dk_180 0 31 (dk_at dksX3_over_1 13 rfl rfl)
theorem dX3_over_40 : decode cX3_over 40 = .ok (.if_icmp .ge 14, 3) := dk_162 0 14 (dk_at dksX3_over_1 16 rfl rfl)
theorem dX3_over_43 : decode cX3_over 43 = .ok (.aload_n 0, 1) := dk_42 (dk_at dksX3_over_1 19 rfl rfl)
theorem dX3_over_44 : decode cX3_over 44 = .ok (.iload_n 2, 1) := dk_28 (dk_at dksX3_over_1 20 rfl rfl)
theorem dX3_over_45 : decode cX3_over 45 = .ok (.invokevirtual 46, 3) := dk_182 0 46 (dk_at dksX3_over_1 21 rfl rfl)
theorem dX3_over_48 : decode cX3_over 48 = .ok (.iinc 2 1, 3) := dk_132 2 1 (dk_at dksX3_over_2 0 rfl rfl)
theorem dX3_over_51 : decode cX3_over 51 = .ok (.goto (-16), 3) := dk_167 255 240 (dk_at dksX3_over_2 3 rfl rfl)
theorem dX3_over_54 : decode cX3_over 54 = .ok (.aload_n 1, 1) := dk_43 (dk_at dksX3_over_2 6 rfl rfl)
theorem dX3_over_55 : decode cX3_over 55 = .ok (.getfield 31, 3) := dk_180 0 31 (dk_at dksX3_over_2 7 rfl rfl)
theorem dX3_over_58 : decode cX3_over 58 = .ok (.iconst 1, 1) := dk_4 (dk_at dksX3_over_2 10 rfl rfl)
theorem dX3_over_59 : decode cX3_over 59 = .ok (.isub, 1) := dk_100 (dk_at dksX3_over_2 11 rfl rfl)
theorem dX3_over_60 : decode cX3_over 60 = .ok (.istore_n 2, 1) := dk_61 (dk_at dksX3_over_2 12 rfl rfl)
theorem dX3_over_61 : decode cX3_over 61 = .ok (.iload_n 2, 1) := dk_28 (dk_at dksX3_over_2 13 rfl rfl)
theorem dX3_over_62 : decode cX3_over 62 = .ok (.ifCond .lt 29, 3) := dk_155 0 29 (dk_at dksX3_over_2 14 rfl rfl)
theorem dX3_over_65 : decode cX3_over 65 = .ok (.iconst 0, 1) := dk_3 (dk_at dksX3_over_2 17 rfl rfl)
theorem dX3_over_66 : decode cX3_over 66 = .ok (.istore_n 3, 1) := dk_62 (dk_at dksX3_over_2 18 rfl rfl)
theorem dX3_over_67 : decode cX3_over 67 = .ok (.iload_n 3, 1) := dk_29 (dk_at dksX3_over_2 19 rfl rfl)
theorem dX3_over_68 : decode cX3_over 68 = .ok (.bipush 32, 2) := dk_16 32 (dk_at dksX3_over_2 20 rfl rfl)
theorem dX3_over_70 : decode cX3_over 70 = .ok (.if_icmp .gt 15, 3) := dk_163 0 15 (dk_at dksX3_over_3 0 rfl rfl)
theorem dX3_over_73 : decode cX3_over 73 = .ok (.aload_n 0, 1) := dk_42 (dk_at dksX3_over_3 3 rfl rfl)
theorem dX3_over_74 : decode cX3_over 74 = .ok (.iload_n 2, 1) := dk_28 (dk_at dksX3_over_3 4 rfl rfl)
theorem dX3_over_75 : decode cX3_over 75 = .ok (.iload_n 3, 1) := dk_29 (dk_at dksX3_over_3 5 rfl rfl)
theorem dX3_over_76 : decode cX3_over 76 = .ok (.invokevirtual 50, 3) := dk_182 0 50 (dk_at dksX3_over_3 6 rfl rfl)
theorem dX3_over_79 : decode cX3_over 79 = .ok (.iinc 3 1, 3) := dk_132 3 1 (dk_at dksX3_over_3 9 rfl rfl)
theorem dX3_over_82 : decode cX3_over 82 = .ok (.goto (-15), 3) := dk_167 255 241 (dk_at dksX3_over_3 12 rfl rfl)
theorem dX3_over_85 : decode cX3_over 85 = .ok (.iinc 2 (-1), 3) := dk_132 2 255 (dk_at dksX3_over_3 15 rfl rfl)
theorem dX3_over_88 : decode cX3_over 88 = .ok (.goto (-27), 3) := dk_167 255 229 (dk_at dksX3_over_3 18 rfl rfl)
theorem dX3_over_91 : decode cX3_over 91 = .ok (.aload_n 0, 1) := dk_42 (dk_at dksX3_over_3 21 rfl rfl)
theorem dX3_over_92 : decode cX3_over 92 = .ok (.areturn, 1) := dk_176 (dk_at dksX3_over_3 22 rfl rfl)
abbrev cX3_at : ByteArray := prog_10_method_4_code
def yX3_at : MethodName := ⟨RX3, "at", "(IIZ)I"⟩
def dkwX3_at_0 : List UInt8 := [16, 66, 26, 104, 5, 27, 104, 96, 28, 184, 0, 64, 96, 172]
abbrev dktX3_at_0 : List UInt8 := dkwX3_at_0 ++ []
theorem dksX3_at_0 : cX3_at.data.toList.drop 0 = dktX3_at_0 := by decide +kernel
theorem dX3_at_0 : decode cX3_at 0 = .ok (.bipush 66, 2) := dk_16 66 (dk_at dksX3_at_0 0 rfl rfl)
theorem dX3_at_2 : decode cX3_at 2 = .ok (.iload_n 0, 1) := dk_26 (dk_at dksX3_at_0 2 rfl rfl)
theorem dX3_at_3 : decode cX3_at 3 = .ok (.imul, 1) := dk_104 (dk_at dksX3_at_0 3 rfl rfl)
theorem dX3_at_4 : decode cX3_at 4 = .ok (.iconst 2, 1) := dk_5 (dk_at dksX3_at_0 4 rfl rfl)
theorem dX3_at_5 : decode cX3_at 5 = .ok (.iload_n 1, 1) := dk_27 (dk_at dksX3_at_0 5 rfl rfl)
theorem dX3_at_6 : decode cX3_at 6 = .ok (.imul, 1) := dk_104 (dk_at dksX3_at_0 6 rfl rfl)
theorem dX3_at_7 : decode cX3_at 7 = .ok (.iadd, 1) := dk_96 (dk_at dksX3_at_0 7 rfl rfl)
theorem dX3_at_8 : decode cX3_at 8 = .ok (.iload_n 2, 1) := dk_28 (dk_at dksX3_at_0 8 rfl rfl)
theorem dX3_at_9 : decode cX3_at 9 = .ok (.invokestatic 64, 3) := dk_184 0 64 (dk_at dksX3_at_0 9 rfl rfl)
theorem dX3_at_12 : decode cX3_at 12 = .ok (.iadd, 1) := dk_96 (dk_at dksX3_at_0 12 rfl rfl)
theorem dX3_at_13 : decode cX3_at 13 = .ok (.ireturn, 1) := dk_172 (dk_at dksX3_at_0 13 rfl rfl)
abbrev cX3_laysCopies : ByteArray := prog_10_method_3_code
def yX3_laysCopies : MethodName := ⟨RX3, "laysCopies", "(I)V"⟩
def dkwX3_laysCopies_4 : List UInt8 := [180, 0, 24, 27, 92, 46, 4, 96, 79, 132, 3, 1, 167, 255, 169, 177]
abbrev dktX3_laysCopies_4 : List UInt8 := dkwX3_laysCopies_4 ++ []
def dkwX3_laysCopies_3 : List UInt8 := [21, 4, 79, 42, 180, 0, 21, 16, 16, 27, 104, 42, 180, 0, 24, 27, 46, 96, 21, 5, 79, 42]
abbrev dktX3_laysCopies_3 : List UInt8 := dkwX3_laysCopies_3 ++ dktX3_laysCopies_4
def dkwX3_laysCopies_2 : List UInt8 := [21, 5, 154, 0, 6, 167, 0, 49, 42, 180, 0, 18, 16, 16, 27, 104, 42, 180, 0, 24, 27, 46, 96]
abbrev dktX3_laysCopies_2 : List UInt8 := dkwX3_laysCopies_2 ++ dktX3_laysCopies_3
def dkwX3_laysCopies_1 : List UInt8 := [42, 180, 0, 27, 27, 29, 182, 0, 58, 100, 54, 4, 42, 180, 0, 27, 27, 21, 4, 182, 0, 62, 54, 5]
abbrev dktX3_laysCopies_1 : List UInt8 := dkwX3_laysCopies_1 ++ dktX3_laysCopies_2
def dkwX3_laysCopies_0 : List UInt8 := [42, 180, 0, 24, 27, 3, 79, 42, 180, 0, 27, 27, 182, 0, 54, 61, 3, 62, 29, 28, 162, 0, 88, 27]
abbrev dktX3_laysCopies_0 : List UInt8 := dkwX3_laysCopies_0 ++ dktX3_laysCopies_1
theorem dksX3_laysCopies_0 : cX3_laysCopies.data.toList.drop 0 = dktX3_laysCopies_0 := by decide +kernel
theorem dksX3_laysCopies_1 : cX3_laysCopies.data.toList.drop 24 = dktX3_laysCopies_1 := dk_seg dksX3_laysCopies_0 24 rfl rfl
theorem dksX3_laysCopies_2 : cX3_laysCopies.data.toList.drop 48 = dktX3_laysCopies_2 := dk_seg dksX3_laysCopies_1 24 rfl rfl
theorem dksX3_laysCopies_3 : cX3_laysCopies.data.toList.drop 71 = dktX3_laysCopies_3 := dk_seg dksX3_laysCopies_2 23 rfl rfl
theorem dksX3_laysCopies_4 : cX3_laysCopies.data.toList.drop 93 = dktX3_laysCopies_4 := dk_seg dksX3_laysCopies_3 22 rfl rfl
theorem dX3_laysCopies_0 : decode cX3_laysCopies 0 = .ok (.aload_n 0, 1) := dk_42 (dk_at dksX3_laysCopies_0 0 rfl rfl)
theorem dX3_laysCopies_1 : decode cX3_laysCopies 1 = .ok (.getfield 24, 3) := dk_180 0 24 (dk_at dksX3_laysCopies_0 1 rfl rfl)
theorem dX3_laysCopies_4 : decode cX3_laysCopies 4 = .ok (.iload_n 1, 1) := dk_27 (dk_at dksX3_laysCopies_0 4 rfl rfl)
theorem dX3_laysCopies_5 : decode cX3_laysCopies 5 = .ok (.iconst 0, 1) := dk_3 (dk_at dksX3_laysCopies_0 5 rfl rfl)
theorem dX3_laysCopies_6 : decode cX3_laysCopies 6 = .ok (.iastore, 1) := dk_79 (dk_at dksX3_laysCopies_0 6 rfl rfl)
theorem dX3_laysCopies_7 : decode cX3_laysCopies 7 = .ok (.aload_n 0, 1) := dk_42 (dk_at dksX3_laysCopies_0 7 rfl rfl)
theorem dX3_laysCopies_8 : decode cX3_laysCopies 8 = .ok (.getfield 27, 3) := dk_180 0 27 (dk_at dksX3_laysCopies_0 8 rfl rfl)
theorem dX3_laysCopies_11 : decode cX3_laysCopies 11 = .ok (.iload_n 1, 1) := dk_27 (dk_at dksX3_laysCopies_0 11 rfl rfl)
theorem dX3_laysCopies_12 : decode cX3_laysCopies 12 = .ok (.invokevirtual 54, 3) := dk_182 0 54 (dk_at dksX3_laysCopies_0 12 rfl rfl)
theorem dX3_laysCopies_15 : decode cX3_laysCopies 15 = .ok (.istore_n 2, 1) := dk_61 (dk_at dksX3_laysCopies_0 15 rfl rfl)
theorem dX3_laysCopies_16 : decode cX3_laysCopies 16 = .ok (.iconst 0, 1) := dk_3 (dk_at dksX3_laysCopies_0 16 rfl rfl)
theorem dX3_laysCopies_17 : decode cX3_laysCopies 17 = .ok (.istore_n 3, 1) := dk_62 (dk_at dksX3_laysCopies_0 17 rfl rfl)
theorem dX3_laysCopies_18 : decode cX3_laysCopies 18 = .ok (.iload_n 3, 1) := dk_29 (dk_at dksX3_laysCopies_0 18 rfl rfl)
theorem dX3_laysCopies_19 : decode cX3_laysCopies 19 = .ok (.iload_n 2, 1) := dk_28 (dk_at dksX3_laysCopies_0 19 rfl rfl)
theorem dX3_laysCopies_20 : decode cX3_laysCopies 20 = .ok (.if_icmp .ge 88, 3) := dk_162 0 88 (dk_at dksX3_laysCopies_0 20 rfl rfl)
theorem dX3_laysCopies_23 : decode cX3_laysCopies 23 = .ok (.iload_n 1, 1) := dk_27 (dk_at dksX3_laysCopies_0 23 rfl rfl)
theorem dX3_laysCopies_24 : decode cX3_laysCopies 24 = .ok (.aload_n 0, 1) := dk_42 (dk_at dksX3_laysCopies_1 0 rfl rfl)
theorem dX3_laysCopies_25 : decode cX3_laysCopies 25 = .ok (.getfield 27, 3) := dk_180 0 27 (dk_at dksX3_laysCopies_1 1 rfl rfl)
theorem dX3_laysCopies_28 : decode cX3_laysCopies 28 = .ok (.iload_n 1, 1) := dk_27 (dk_at dksX3_laysCopies_1 4 rfl rfl)
theorem dX3_laysCopies_29 : decode cX3_laysCopies 29 = .ok (.iload_n 3, 1) := dk_29 (dk_at dksX3_laysCopies_1 5 rfl rfl)
theorem dX3_laysCopies_30 : decode cX3_laysCopies 30 = .ok (.invokevirtual 58, 3) := dk_182 0 58 (dk_at dksX3_laysCopies_1 6 rfl rfl)
theorem dX3_laysCopies_33 : decode cX3_laysCopies 33 = .ok (.isub, 1) := dk_100 (dk_at dksX3_laysCopies_1 9 rfl rfl)
theorem dX3_laysCopies_34 : decode cX3_laysCopies 34 = .ok (.istore 4, 2) := dk_54 4 (dk_at dksX3_laysCopies_1 10 rfl rfl)
theorem dX3_laysCopies_36 : decode cX3_laysCopies 36 = .ok (.aload_n 0, 1) := dk_42 (dk_at dksX3_laysCopies_1 12 rfl rfl)
theorem dX3_laysCopies_37 : decode cX3_laysCopies 37 = .ok (.getfield 27, 3) := dk_180 0 27 (dk_at dksX3_laysCopies_1 13 rfl rfl)
theorem dX3_laysCopies_40 : decode cX3_laysCopies 40 = .ok (.iload_n 1, 1) := dk_27 (dk_at dksX3_laysCopies_1 16 rfl rfl)
theorem dX3_laysCopies_41 : decode cX3_laysCopies 41 = .ok (.iload 4, 2) := dk_21 4 (dk_at dksX3_laysCopies_1 17 rfl rfl)
theorem dX3_laysCopies_43 : decode cX3_laysCopies 43 = .ok (.invokevirtual 62, 3) := dk_182 0 62 (dk_at dksX3_laysCopies_1 19 rfl rfl)
theorem dX3_laysCopies_46 : decode cX3_laysCopies 46 = .ok (.istore 5, 2) := dk_54 5 (dk_at dksX3_laysCopies_1 22 rfl rfl)
theorem dX3_laysCopies_48 : decode cX3_laysCopies 48 = .ok (.iload 5, 2) := dk_21 5 (dk_at dksX3_laysCopies_2 0 rfl rfl)
theorem dX3_laysCopies_50 : decode cX3_laysCopies 50 = .ok (.ifCond .ne 6, 3) := dk_154 0 6 (dk_at dksX3_laysCopies_2 2 rfl rfl)
theorem dX3_laysCopies_53 : decode cX3_laysCopies 53 = .ok (.goto 49, 3) := dk_167 0 49 (dk_at dksX3_laysCopies_2 5 rfl rfl)
theorem dX3_laysCopies_56 : decode cX3_laysCopies 56 = .ok (.aload_n 0, 1) := dk_42 (dk_at dksX3_laysCopies_2 8 rfl rfl)
theorem dX3_laysCopies_57 : decode cX3_laysCopies 57 = .ok (.getfield 18, 3) := dk_180 0 18 (dk_at dksX3_laysCopies_2 9 rfl rfl)
theorem dX3_laysCopies_60 : decode cX3_laysCopies 60 = .ok (.bipush 16, 2) := dk_16 16 (dk_at dksX3_laysCopies_2 12 rfl rfl)
theorem dX3_laysCopies_62 : decode cX3_laysCopies 62 = .ok (.iload_n 1, 1) := dk_27 (dk_at dksX3_laysCopies_2 14 rfl rfl)
theorem dX3_laysCopies_63 : decode cX3_laysCopies 63 = .ok (.imul, 1) := dk_104 (dk_at dksX3_laysCopies_2 15 rfl rfl)
theorem dX3_laysCopies_64 : decode cX3_laysCopies 64 = .ok (.aload_n 0, 1) := dk_42 (dk_at dksX3_laysCopies_2 16 rfl rfl)
theorem dX3_laysCopies_65 : decode cX3_laysCopies 65 = .ok (.getfield 24, 3) := dk_180 0 24 (dk_at dksX3_laysCopies_2 17 rfl rfl)
theorem dX3_laysCopies_68 : decode cX3_laysCopies 68 = .ok (.iload_n 1, 1) := dk_27 (dk_at dksX3_laysCopies_2 20 rfl rfl)
theorem dX3_laysCopies_69 : decode cX3_laysCopies 69 = .ok (.iaload, 1) := dk_46 (dk_at dksX3_laysCopies_2 21 rfl rfl)
theorem dX3_laysCopies_70 : decode cX3_laysCopies 70 = .ok (.iadd, 1) := dk_96 (dk_at dksX3_laysCopies_2 22 rfl rfl)
theorem dX3_laysCopies_71 : decode cX3_laysCopies 71 = .ok (.iload 4, 2) := dk_21 4 (dk_at dksX3_laysCopies_3 0 rfl rfl)
theorem dX3_laysCopies_73 : decode cX3_laysCopies 73 = .ok (.iastore, 1) := dk_79 (dk_at dksX3_laysCopies_3 2 rfl rfl)
theorem dX3_laysCopies_74 : decode cX3_laysCopies 74 = .ok (.aload_n 0, 1) := dk_42 (dk_at dksX3_laysCopies_3 3 rfl rfl)
theorem dX3_laysCopies_75 : decode cX3_laysCopies 75 = .ok (.getfield 21, 3) := dk_180 0 21 (dk_at dksX3_laysCopies_3 4 rfl rfl)
theorem dX3_laysCopies_78 : decode cX3_laysCopies 78 = .ok (.bipush 16, 2) := dk_16 16 (dk_at dksX3_laysCopies_3 7 rfl rfl)
theorem dX3_laysCopies_80 : decode cX3_laysCopies 80 = .ok (.iload_n 1, 1) := dk_27 (dk_at dksX3_laysCopies_3 9 rfl rfl)
theorem dX3_laysCopies_81 : decode cX3_laysCopies 81 = .ok (.imul, 1) := dk_104 (dk_at dksX3_laysCopies_3 10 rfl rfl)
theorem dX3_laysCopies_82 : decode cX3_laysCopies 82 = .ok (.aload_n 0, 1) := dk_42 (dk_at dksX3_laysCopies_3 11 rfl rfl)
theorem dX3_laysCopies_83 : decode cX3_laysCopies 83 = .ok (.getfield 24, 3) := dk_180 0 24 (dk_at dksX3_laysCopies_3 12 rfl rfl)
theorem dX3_laysCopies_86 : decode cX3_laysCopies 86 = .ok (.iload_n 1, 1) := dk_27 (dk_at dksX3_laysCopies_3 15 rfl rfl)
theorem dX3_laysCopies_87 : decode cX3_laysCopies 87 = .ok (.iaload, 1) := dk_46 (dk_at dksX3_laysCopies_3 16 rfl rfl)
theorem dX3_laysCopies_88 : decode cX3_laysCopies 88 = .ok (.iadd, 1) := dk_96 (dk_at dksX3_laysCopies_3 17 rfl rfl)
theorem dX3_laysCopies_89 : decode cX3_laysCopies 89 = .ok (.iload 5, 2) := dk_21 5 (dk_at dksX3_laysCopies_3 18 rfl rfl)
theorem dX3_laysCopies_91 : decode cX3_laysCopies 91 = .ok (.iastore, 1) := dk_79 (dk_at dksX3_laysCopies_3 20 rfl rfl)
theorem dX3_laysCopies_92 : decode cX3_laysCopies 92 = .ok (.aload_n 0, 1) := dk_42 (dk_at dksX3_laysCopies_3 21 rfl rfl)
theorem dX3_laysCopies_93 : decode cX3_laysCopies 93 = .ok (.getfield 24, 3) := dk_180 0 24 (dk_at dksX3_laysCopies_4 0 rfl rfl)
theorem dX3_laysCopies_96 : decode cX3_laysCopies 96 = .ok (.iload_n 1, 1) := dk_27 (dk_at dksX3_laysCopies_4 3 rfl rfl)
theorem dX3_laysCopies_97 : decode cX3_laysCopies 97 = .ok (.dup2, 1) := dk_92 (dk_at dksX3_laysCopies_4 4 rfl rfl)
theorem dX3_laysCopies_98 : decode cX3_laysCopies 98 = .ok (.iaload, 1) := dk_46 (dk_at dksX3_laysCopies_4 5 rfl rfl)
theorem dX3_laysCopies_99 : decode cX3_laysCopies 99 = .ok (.iconst 1, 1) := dk_4 (dk_at dksX3_laysCopies_4 6 rfl rfl)
theorem dX3_laysCopies_100 : decode cX3_laysCopies 100 = .ok (.iadd, 1) := dk_96 (dk_at dksX3_laysCopies_4 7 rfl rfl)
theorem dX3_laysCopies_101 : decode cX3_laysCopies 101 = .ok (.iastore, 1) := dk_79 (dk_at dksX3_laysCopies_4 8 rfl rfl)
theorem dX3_laysCopies_102 : decode cX3_laysCopies 102 = .ok (.iinc 3 1, 3) := dk_132 3 1 (dk_at dksX3_laysCopies_4 9 rfl rfl)
theorem dX3_laysCopies_105 : decode cX3_laysCopies 105 = .ok (.goto (-87), 3) := dk_167 255 169 (dk_at dksX3_laysCopies_4 12 rfl rfl)
theorem dX3_laysCopies_108 : decode cX3_laysCopies 108 = .ok (.return_, 1) := dk_177 (dk_at dksX3_laysCopies_4 15 rfl rfl)
abbrev cX3_laysRest : ByteArray := prog_10_method_8_code
def yX3_laysRest : MethodName := ⟨RX3, "laysRest", "(II)V"⟩
def dkwX3_laysRest_5 : List UInt8 := [4, 182, 0, 91, 184, 0, 86, 79, 177]
abbrev dktX3_laysRest_5 : List UInt8 := dkwX3_laysRest_5 ++ []
def dkwX3_laysRest_4 : List UInt8 := [27, 28, 3, 182, 0, 91, 184, 0, 86, 79, 42, 180, 0, 11, 27, 28, 4, 184, 0, 36, 29, 42, 27, 28]
abbrev dktX3_laysRest_4 : List UInt8 := dkwX3_laysRest_4 ++ dktX3_laysRest_5
def dkwX3_laysRest_3 : List UInt8 := [132, 5, 1, 167, 255, 221, 132, 4, 1, 167, 255, 188, 42, 180, 0, 11, 27, 28, 3, 184, 0, 36, 29, 42]
abbrev dktX3_laysRest_3 : List UInt8 := dkwX3_laysRest_3 ++ dktX3_laysRest_4
def dkwX3_laysRest_2 : List UInt8 := [163, 0, 29, 29, 42, 27, 28, 21, 5, 42, 180, 0, 18, 21, 4, 46, 182, 0, 82, 184, 0, 86, 62]
abbrev dktX3_laysRest_2 : List UInt8 := dkwX3_laysRest_2 ++ dktX3_laysRest_3
def dkwX3_laysRest_1 : List UInt8 := [162, 0, 58, 42, 180, 0, 27, 180, 0, 79, 5, 46, 54, 5, 21, 5, 42, 180, 0, 21, 21, 4, 46]
abbrev dktX3_laysRest_1 : List UInt8 := dkwX3_laysRest_1 ++ dktX3_laysRest_2
def dkwX3_laysRest_0 : List UInt8 := [18, 78, 62, 16, 16, 27, 104, 54, 4, 21, 4, 16, 16, 27, 104, 42, 180, 0, 24, 27, 46, 96]
abbrev dktX3_laysRest_0 : List UInt8 := dkwX3_laysRest_0 ++ dktX3_laysRest_1
theorem dksX3_laysRest_0 : cX3_laysRest.data.toList.drop 0 = dktX3_laysRest_0 := by decide +kernel
theorem dksX3_laysRest_1 : cX3_laysRest.data.toList.drop 22 = dktX3_laysRest_1 := dk_seg dksX3_laysRest_0 22 rfl rfl
theorem dksX3_laysRest_2 : cX3_laysRest.data.toList.drop 45 = dktX3_laysRest_2 := dk_seg dksX3_laysRest_1 23 rfl rfl
theorem dksX3_laysRest_3 : cX3_laysRest.data.toList.drop 68 = dktX3_laysRest_3 := dk_seg dksX3_laysRest_2 23 rfl rfl
theorem dksX3_laysRest_4 : cX3_laysRest.data.toList.drop 92 = dktX3_laysRest_4 := dk_seg dksX3_laysRest_3 24 rfl rfl
theorem dksX3_laysRest_5 : cX3_laysRest.data.toList.drop 116 = dktX3_laysRest_5 := dk_seg dksX3_laysRest_4 24 rfl rfl
theorem dX3_laysRest_0 : decode cX3_laysRest 0 = .ok (.ldc 78, 2) := dk_18 78 (dk_at dksX3_laysRest_0 0 rfl rfl)
theorem dX3_laysRest_2 : decode cX3_laysRest 2 = .ok (.istore_n 3, 1) := dk_62 (dk_at dksX3_laysRest_0 2 rfl rfl)
theorem dX3_laysRest_3 : decode cX3_laysRest 3 = .ok (.bipush 16, 2) := dk_16 16 (dk_at dksX3_laysRest_0 3 rfl rfl)
theorem dX3_laysRest_5 : decode cX3_laysRest 5 = .ok (.iload_n 1, 1) := dk_27 (dk_at dksX3_laysRest_0 5 rfl rfl)
theorem dX3_laysRest_6 : decode cX3_laysRest 6 = .ok (.imul, 1) := dk_104 (dk_at dksX3_laysRest_0 6 rfl rfl)
theorem dX3_laysRest_7 : decode cX3_laysRest 7 = .ok (.istore 4, 2) := dk_54 4 (dk_at dksX3_laysRest_0 7 rfl rfl)
theorem dX3_laysRest_9 : decode cX3_laysRest 9 = .ok (.iload 4, 2) := dk_21 4 (dk_at dksX3_laysRest_0 9 rfl rfl)
theorem dX3_laysRest_11 : decode cX3_laysRest 11 = .ok (.bipush 16, 2) := dk_16 16 (dk_at dksX3_laysRest_0 11 rfl rfl)
theorem dX3_laysRest_13 : decode cX3_laysRest 13 = .ok (.iload_n 1, 1) := dk_27 (dk_at dksX3_laysRest_0 13 rfl rfl)
theorem dX3_laysRest_14 : decode cX3_laysRest 14 = .ok (.imul, 1) := dk_104 (dk_at dksX3_laysRest_0 14 rfl rfl)
theorem dX3_laysRest_15 : decode cX3_laysRest 15 = .ok (.aload_n 0, 1) := dk_42 (dk_at dksX3_laysRest_0 15 rfl rfl)
theorem dX3_laysRest_16 : decode cX3_laysRest 16 = .ok (.getfield 24, 3) := dk_180 0 24 (dk_at dksX3_laysRest_0 16 rfl rfl)
theorem dX3_laysRest_19 : decode cX3_laysRest 19 = .ok (.iload_n 1, 1) := dk_27 (dk_at dksX3_laysRest_0 19 rfl rfl)
theorem dX3_laysRest_20 : decode cX3_laysRest 20 = .ok (.iaload, 1) := dk_46 (dk_at dksX3_laysRest_0 20 rfl rfl)
theorem dX3_laysRest_21 : decode cX3_laysRest 21 = .ok (.iadd, 1) := dk_96 (dk_at dksX3_laysRest_0 21 rfl rfl)
theorem dX3_laysRest_22 : decode cX3_laysRest 22 = .ok (.if_icmp .ge 58, 3) := dk_162 0 58 (dk_at dksX3_laysRest_1 0 rfl rfl)
theorem dX3_laysRest_25 : decode cX3_laysRest 25 = .ok (.aload_n 0, 1) := dk_42 (dk_at dksX3_laysRest_1 3 rfl rfl)
theorem dX3_laysRest_26 : decode cX3_laysRest 26 = .ok (.getfield 27, 3) := dk_180 0 27 (dk_at dksX3_laysRest_1 4 rfl rfl)
theorem dX3_laysRest_29 : decode cX3_laysRest 29 = .ok (.getfield 79, 3) := dk_180 0 79 (dk_at dksX3_laysRest_1 7 rfl rfl)
theorem dX3_laysRest_32 : decode cX3_laysRest 32 = .ok (.iconst 2, 1) := dk_5 (dk_at dksX3_laysRest_1 10 rfl rfl)
theorem dX3_laysRest_33 : decode cX3_laysRest 33 = .ok (.iaload, 1) := dk_46 (dk_at dksX3_laysRest_1 11 rfl rfl)
theorem dX3_laysRest_34 : decode cX3_laysRest 34 = .ok (.istore 5, 2) := dk_54 5 (dk_at dksX3_laysRest_1 12 rfl rfl)
theorem dX3_laysRest_36 : decode cX3_laysRest 36 = .ok (.iload 5, 2) := dk_21 5 (dk_at dksX3_laysRest_1 14 rfl rfl)
theorem dX3_laysRest_38 : decode cX3_laysRest 38 = .ok (.aload_n 0, 1) := dk_42 (dk_at dksX3_laysRest_1 16 rfl rfl)
theorem dX3_laysRest_39 : decode cX3_laysRest 39 = .ok (.getfield 21, 3) := dk_180 0 21 (dk_at dksX3_laysRest_1 17 rfl rfl)
theorem dX3_laysRest_42 : decode cX3_laysRest 42 = .ok (.iload 4, 2) := dk_21 4 (dk_at dksX3_laysRest_1 20 rfl rfl)
theorem dX3_laysRest_44 : decode cX3_laysRest 44 = .ok (.iaload, 1) := dk_46 (dk_at dksX3_laysRest_1 22 rfl rfl)
theorem dX3_laysRest_45 : decode cX3_laysRest 45 = .ok (.if_icmp .gt 29, 3) := dk_163 0 29 (dk_at dksX3_laysRest_2 0 rfl rfl)
theorem dX3_laysRest_48 : decode cX3_laysRest 48 = .ok (.iload_n 3, 1) := dk_29 (dk_at dksX3_laysRest_2 3 rfl rfl)
theorem dX3_laysRest_49 : decode cX3_laysRest 49 = .ok (.aload_n 0, 1) := dk_42 (dk_at dksX3_laysRest_2 4 rfl rfl)
theorem dX3_laysRest_50 : decode cX3_laysRest 50 = .ok (.iload_n 1, 1) := dk_27 (dk_at dksX3_laysRest_2 5 rfl rfl)
theorem dX3_laysRest_51 : decode cX3_laysRest 51 = .ok (.iload_n 2, 1) := dk_28 (dk_at dksX3_laysRest_2 6 rfl rfl)
theorem dX3_laysRest_52 : decode cX3_laysRest 52 = .ok (.iload 5, 2) := dk_21 5 (dk_at dksX3_laysRest_2 7 rfl rfl)
theorem dX3_laysRest_54 : decode cX3_laysRest 54 = .ok (.aload_n 0, 1) := dk_42 (dk_at dksX3_laysRest_2 9 rfl rfl)
theorem dX3_laysRest_55 : decode cX3_laysRest 55 = .ok (.getfield 18, 3) := dk_180 0 18 (dk_at dksX3_laysRest_2 10 rfl rfl)
theorem dX3_laysRest_58 : decode cX3_laysRest 58 = .ok (.iload 4, 2) := dk_21 4 (dk_at dksX3_laysRest_2 13 rfl rfl)
theorem dX3_laysRest_60 : decode cX3_laysRest 60 = .ok (.iaload, 1) := dk_46 (dk_at dksX3_laysRest_2 15 rfl rfl)
theorem dX3_laysRest_61 : decode cX3_laysRest 61 = .ok (.invokevirtual 82, 3) := dk_182 0 82 (dk_at dksX3_laysRest_2 16 rfl rfl)
theorem dX3_laysRest_64 : decode cX3_laysRest 64 = .ok (.invokestatic 86, 3) := dk_184 0 86 (dk_at dksX3_laysRest_2 19 rfl rfl)
theorem dX3_laysRest_67 : decode cX3_laysRest 67 = .ok (.istore_n 3, 1) := dk_62 (dk_at dksX3_laysRest_2 22 rfl rfl)
theorem dX3_laysRest_68 : decode cX3_laysRest 68 = .ok (.iinc 5 1, 3) := dk_132 5 1 (dk_at dksX3_laysRest_3 0 rfl rfl)
theorem dX3_laysRest_71 : decode cX3_laysRest 71 = .ok (.goto (-35), 3) := dk_167 255 221 (dk_at dksX3_laysRest_3 3 rfl rfl)
theorem dX3_laysRest_74 : decode cX3_laysRest 74 = .ok (.iinc 4 1, 3) := dk_132 4 1 (dk_at dksX3_laysRest_3 6 rfl rfl)
theorem dX3_laysRest_77 : decode cX3_laysRest 77 = .ok (.goto (-68), 3) := dk_167 255 188 (dk_at dksX3_laysRest_3 9 rfl rfl)
theorem dX3_laysRest_80 : decode cX3_laysRest 80 = .ok (.aload_n 0, 1) := dk_42 (dk_at dksX3_laysRest_3 12 rfl rfl)
theorem dX3_laysRest_81 : decode cX3_laysRest 81 = .ok (.getfield 11, 3) := dk_180 0 11 (dk_at dksX3_laysRest_3 13 rfl rfl)
theorem dX3_laysRest_84 : decode cX3_laysRest 84 = .ok (.iload_n 1, 1) := dk_27 (dk_at dksX3_laysRest_3 16 rfl rfl)
theorem dX3_laysRest_85 : decode cX3_laysRest 85 = .ok (.iload_n 2, 1) := dk_28 (dk_at dksX3_laysRest_3 17 rfl rfl)
theorem dX3_laysRest_86 : decode cX3_laysRest 86 = .ok (.iconst 0, 1) := dk_3 (dk_at dksX3_laysRest_3 18 rfl rfl)
theorem dX3_laysRest_87 : decode cX3_laysRest 87 = .ok (.invokestatic 36, 3) := dk_184 0 36 (dk_at dksX3_laysRest_3 19 rfl rfl)
theorem dX3_laysRest_90 : decode cX3_laysRest 90 = .ok (.iload_n 3, 1) := dk_29 (dk_at dksX3_laysRest_3 22 rfl rfl)
theorem dX3_laysRest_91 : decode cX3_laysRest 91 = .ok (.aload_n 0, 1) := dk_42 (dk_at dksX3_laysRest_3 23 rfl rfl)
theorem dX3_laysRest_92 : decode cX3_laysRest 92 = .ok (.iload_n 1, 1) := dk_27 (dk_at dksX3_laysRest_4 0 rfl rfl)
theorem dX3_laysRest_93 : decode cX3_laysRest 93 = .ok (.iload_n 2, 1) := dk_28 (dk_at dksX3_laysRest_4 1 rfl rfl)
theorem dX3_laysRest_94 : decode cX3_laysRest 94 = .ok (.iconst 0, 1) := dk_3 (dk_at dksX3_laysRest_4 2 rfl rfl)
theorem dX3_laysRest_95 : decode cX3_laysRest 95 = .ok (.invokevirtual 91, 3) := dk_182 0 91 (dk_at dksX3_laysRest_4 3 rfl rfl)
theorem dX3_laysRest_98 : decode cX3_laysRest 98 = .ok (.invokestatic 86, 3) := dk_184 0 86 (dk_at dksX3_laysRest_4 6 rfl rfl)
theorem dX3_laysRest_101 : decode cX3_laysRest 101 = .ok (.iastore, 1) := dk_79 (dk_at dksX3_laysRest_4 9 rfl rfl)
theorem dX3_laysRest_102 : decode cX3_laysRest 102 = .ok (.aload_n 0, 1) := dk_42 (dk_at dksX3_laysRest_4 10 rfl rfl)
theorem dX3_laysRest_103 : decode cX3_laysRest 103 = .ok (.getfield 11, 3) := dk_180 0 11 (dk_at dksX3_laysRest_4 11 rfl rfl)
theorem dX3_laysRest_106 : decode cX3_laysRest 106 = .ok (.iload_n 1, 1) := dk_27 (dk_at dksX3_laysRest_4 14 rfl rfl)
theorem dX3_laysRest_107 : decode cX3_laysRest 107 = .ok (.iload_n 2, 1) := dk_28 (dk_at dksX3_laysRest_4 15 rfl rfl)
theorem dX3_laysRest_108 : decode cX3_laysRest 108 = .ok (.iconst 1, 1) := dk_4 (dk_at dksX3_laysRest_4 16 rfl rfl)
theorem dX3_laysRest_109 : decode cX3_laysRest 109 = .ok (.invokestatic 36, 3) := dk_184 0 36 (dk_at dksX3_laysRest_4 17 rfl rfl)
theorem dX3_laysRest_112 : decode cX3_laysRest 112 = .ok (.iload_n 3, 1) := dk_29 (dk_at dksX3_laysRest_4 20 rfl rfl)
theorem dX3_laysRest_113 : decode cX3_laysRest 113 = .ok (.aload_n 0, 1) := dk_42 (dk_at dksX3_laysRest_4 21 rfl rfl)
theorem dX3_laysRest_114 : decode cX3_laysRest 114 = .ok (.iload_n 1, 1) := dk_27 (dk_at dksX3_laysRest_4 22 rfl rfl)
theorem dX3_laysRest_115 : decode cX3_laysRest 115 = .ok (.iload_n 2, 1) := dk_28 (dk_at dksX3_laysRest_4 23 rfl rfl)
theorem dX3_laysRest_116 : decode cX3_laysRest 116 = .ok (.iconst 1, 1) := dk_4 (dk_at dksX3_laysRest_5 0 rfl rfl)
theorem dX3_laysRest_117 : decode cX3_laysRest 117 = .ok (.invokevirtual 91, 3) := dk_182 0 91 (dk_at dksX3_laysRest_5 1 rfl rfl)
theorem dX3_laysRest_120 : decode cX3_laysRest 120 = .ok (.invokestatic 86, 3) := dk_184 0 86 (dk_at dksX3_laysRest_5 4 rfl rfl)
theorem dX3_laysRest_123 : decode cX3_laysRest 123 = .ok (.iastore, 1) := dk_79 (dk_at dksX3_laysRest_5 7 rfl rfl)
theorem dX3_laysRest_124 : decode cX3_laysRest 124 = .ok (.return_, 1) := dk_177 (dk_at dksX3_laysRest_5 8 rfl rfl)
abbrev cX3_withCopy : ByteArray := prog_10_method_6_code
def yX3_withCopy : MethodName := ⟨RX3, "withCopy", "(IIII)I"⟩
def dkwX3_withCopy_0 : List UInt8 := [42, 180, 0, 27, 29, 21, 4, 28, 182, 0, 68, 42, 27, 29, 96, 21, 4, 3, 182, 0, 72, 96, 172]
abbrev dktX3_withCopy_0 : List UInt8 := dkwX3_withCopy_0 ++ []
theorem dksX3_withCopy_0 : cX3_withCopy.data.toList.drop 0 = dktX3_withCopy_0 := by decide +kernel
theorem dX3_withCopy_0 : decode cX3_withCopy 0 = .ok (.aload_n 0, 1) := dk_42 (dk_at dksX3_withCopy_0 0 rfl rfl)
theorem dX3_withCopy_1 : decode cX3_withCopy 1 = .ok (.getfield 27, 3) := dk_180 0 27 (dk_at dksX3_withCopy_0 1 rfl rfl)
theorem dX3_withCopy_4 : decode cX3_withCopy 4 = .ok (.iload_n 3, 1) := dk_29 (dk_at dksX3_withCopy_0 4 rfl rfl)
theorem dX3_withCopy_5 : decode cX3_withCopy 5 = .ok (.iload 4, 2) := dk_21 4 (dk_at dksX3_withCopy_0 5 rfl rfl)
theorem dX3_withCopy_7 : decode cX3_withCopy 7 = .ok (.iload_n 2, 1) := dk_28 (dk_at dksX3_withCopy_0 7 rfl rfl)
theorem dX3_withCopy_8 : decode cX3_withCopy 8 = .ok (.invokevirtual 68, 3) := dk_182 0 68 (dk_at dksX3_withCopy_0 8 rfl rfl)
theorem dX3_withCopy_11 : decode cX3_withCopy 11 = .ok (.aload_n 0, 1) := dk_42 (dk_at dksX3_withCopy_0 11 rfl rfl)
theorem dX3_withCopy_12 : decode cX3_withCopy 12 = .ok (.iload_n 1, 1) := dk_27 (dk_at dksX3_withCopy_0 12 rfl rfl)
theorem dX3_withCopy_13 : decode cX3_withCopy 13 = .ok (.iload_n 3, 1) := dk_29 (dk_at dksX3_withCopy_0 13 rfl rfl)
theorem dX3_withCopy_14 : decode cX3_withCopy 14 = .ok (.iadd, 1) := dk_96 (dk_at dksX3_withCopy_0 14 rfl rfl)
theorem dX3_withCopy_15 : decode cX3_withCopy 15 = .ok (.iload 4, 2) := dk_21 4 (dk_at dksX3_withCopy_0 15 rfl rfl)
theorem dX3_withCopy_17 : decode cX3_withCopy 17 = .ok (.iconst 0, 1) := dk_3 (dk_at dksX3_withCopy_0 17 rfl rfl)
theorem dX3_withCopy_18 : decode cX3_withCopy 18 = .ok (.invokevirtual 72, 3) := dk_182 0 72 (dk_at dksX3_withCopy_0 18 rfl rfl)
theorem dX3_withCopy_21 : decode cX3_withCopy 21 = .ok (.iadd, 1) := dk_96 (dk_at dksX3_withCopy_0 21 rfl rfl)
theorem dX3_withCopy_22 : decode cX3_withCopy 22 = .ok (.ireturn, 1) := dk_172 (dk_at dksX3_withCopy_0 22 rfl rfl)
abbrev cX3_rest : ByteArray := prog_10_method_5_code
def yX3_rest : MethodName := ⟨RX3, "rest", "(IIZ)I"⟩
def dkwX3_rest_0 : List UInt8 := [42, 180, 0, 11, 27, 28, 29, 184, 0, 36, 46, 172]
abbrev dktX3_rest_0 : List UInt8 := dkwX3_rest_0 ++ []
theorem dksX3_rest_0 : cX3_rest.data.toList.drop 0 = dktX3_rest_0 := by decide +kernel
theorem dX3_rest_0 : decode cX3_rest 0 = .ok (.aload_n 0, 1) := dk_42 (dk_at dksX3_rest_0 0 rfl rfl)
theorem dX3_rest_1 : decode cX3_rest 1 = .ok (.getfield 11, 3) := dk_180 0 11 (dk_at dksX3_rest_0 1 rfl rfl)
theorem dX3_rest_4 : decode cX3_rest 4 = .ok (.iload_n 1, 1) := dk_27 (dk_at dksX3_rest_0 4 rfl rfl)
theorem dX3_rest_5 : decode cX3_rest 5 = .ok (.iload_n 2, 1) := dk_28 (dk_at dksX3_rest_0 5 rfl rfl)
theorem dX3_rest_6 : decode cX3_rest 6 = .ok (.iload_n 3, 1) := dk_29 (dk_at dksX3_rest_0 6 rfl rfl)
theorem dX3_rest_7 : decode cX3_rest 7 = .ok (.invokestatic 36, 3) := dk_184 0 36 (dk_at dksX3_rest_0 7 rfl rfl)
theorem dX3_rest_10 : decode cX3_rest 10 = .ok (.iaload, 1) := dk_46 (dk_at dksX3_rest_0 10 rfl rfl)
theorem dX3_rest_11 : decode cX3_rest 11 = .ok (.ireturn, 1) := dk_172 (dk_at dksX3_rest_0 11 rfl rfl)
abbrev cX3_withLiteral : ByteArray := prog_10_method_7_code
def yX3_withLiteral : MethodName := ⟨RX3, "withLiteral", "(IIZ)I"⟩
def dkwX3_withLiteral_0 : List UInt8 := [42, 180, 0, 27, 27, 29, 182, 0, 74, 42, 27, 4, 96, 28, 4, 182, 0, 72, 96, 172]
abbrev dktX3_withLiteral_0 : List UInt8 := dkwX3_withLiteral_0 ++ []
theorem dksX3_withLiteral_0 : cX3_withLiteral.data.toList.drop 0 = dktX3_withLiteral_0 := by decide +kernel
theorem dX3_withLiteral_0 : decode cX3_withLiteral 0 = .ok (.aload_n 0, 1) := dk_42 (dk_at dksX3_withLiteral_0 0 rfl rfl)
theorem dX3_withLiteral_1 : decode cX3_withLiteral 1 = .ok (.getfield 27, 3) := dk_180 0 27 (dk_at dksX3_withLiteral_0 1 rfl rfl)
theorem dX3_withLiteral_4 : decode cX3_withLiteral 4 = .ok (.iload_n 1, 1) := dk_27 (dk_at dksX3_withLiteral_0 4 rfl rfl)
theorem dX3_withLiteral_5 : decode cX3_withLiteral 5 = .ok (.iload_n 3, 1) := dk_29 (dk_at dksX3_withLiteral_0 5 rfl rfl)
theorem dX3_withLiteral_6 : decode cX3_withLiteral 6 = .ok (.invokevirtual 74, 3) := dk_182 0 74 (dk_at dksX3_withLiteral_0 6 rfl rfl)
theorem dX3_withLiteral_9 : decode cX3_withLiteral 9 = .ok (.aload_n 0, 1) := dk_42 (dk_at dksX3_withLiteral_0 9 rfl rfl)
theorem dX3_withLiteral_10 : decode cX3_withLiteral 10 = .ok (.iload_n 1, 1) := dk_27 (dk_at dksX3_withLiteral_0 10 rfl rfl)
theorem dX3_withLiteral_11 : decode cX3_withLiteral 11 = .ok (.iconst 1, 1) := dk_4 (dk_at dksX3_withLiteral_0 11 rfl rfl)
theorem dX3_withLiteral_12 : decode cX3_withLiteral 12 = .ok (.iadd, 1) := dk_96 (dk_at dksX3_withLiteral_0 12 rfl rfl)
theorem dX3_withLiteral_13 : decode cX3_withLiteral 13 = .ok (.iload_n 2, 1) := dk_28 (dk_at dksX3_withLiteral_0 13 rfl rfl)
theorem dX3_withLiteral_14 : decode cX3_withLiteral 14 = .ok (.iconst 1, 1) := dk_4 (dk_at dksX3_withLiteral_0 14 rfl rfl)
theorem dX3_withLiteral_15 : decode cX3_withLiteral 15 = .ok (.invokevirtual 72, 3) := dk_182 0 72 (dk_at dksX3_withLiteral_0 15 rfl rfl)
theorem dX3_withLiteral_18 : decode cX3_withLiteral 18 = .ok (.iadd, 1) := dk_96 (dk_at dksX3_withLiteral_0 18 rfl rfl)
theorem dX3_withLiteral_19 : decode cX3_withLiteral 19 = .ok (.ireturn, 1) := dk_172 (dk_at dksX3_withLiteral_0 19 rfl rfl)
abbrev cX3_through : ByteArray := prog_10_method_13_code
def yX3_through : MethodName := ⟨RX3, "through", "(I)I"⟩
def dkwX3_through_1 : List UInt8 := [180, 0, 15, 29, 46, 42, 180, 0, 11, 29, 46, 96, 184, 0, 86, 61, 132, 3, 1, 167, 255, 225, 28, 172]
abbrev dktX3_through_1 : List UInt8 := dkwX3_through_1 ++ []
def dkwX3_through_0 : List UInt8 := [42, 182, 0, 112, 18, 78, 61, 16, 66, 27, 104, 62, 29, 16, 66, 27, 4, 96, 104, 162, 0, 27, 28, 42]
abbrev dktX3_through_0 : List UInt8 := dkwX3_through_0 ++ dktX3_through_1
theorem dksX3_through_0 : cX3_through.data.toList.drop 0 = dktX3_through_0 := by decide +kernel
theorem dksX3_through_1 : cX3_through.data.toList.drop 24 = dktX3_through_1 := dk_seg dksX3_through_0 24 rfl rfl
theorem dX3_through_0 : decode cX3_through 0 = .ok (.aload_n 0, 1) := dk_42 (dk_at dksX3_through_0 0 rfl rfl)
theorem dX3_through_1 : decode cX3_through 1 = .ok (.invokevirtual 112, 3) := dk_182 0 112 (dk_at dksX3_through_0 1 rfl rfl)
theorem dX3_through_4 : decode cX3_through 4 = .ok (.ldc 78, 2) := dk_18 78 (dk_at dksX3_through_0 4 rfl rfl)
theorem dX3_through_6 : decode cX3_through 6 = .ok (.istore_n 2, 1) := dk_61 (dk_at dksX3_through_0 6 rfl rfl)
theorem dX3_through_7 : decode cX3_through 7 = .ok (.bipush 66, 2) := dk_16 66 (dk_at dksX3_through_0 7 rfl rfl)
theorem dX3_through_9 : decode cX3_through 9 = .ok (.iload_n 1, 1) := dk_27 (dk_at dksX3_through_0 9 rfl rfl)
theorem dX3_through_10 : decode cX3_through 10 = .ok (.imul, 1) := dk_104 (dk_at dksX3_through_0 10 rfl rfl)
theorem dX3_through_11 : decode cX3_through 11 = .ok (.istore_n 3, 1) := dk_62 (dk_at dksX3_through_0 11 rfl rfl)
theorem dX3_through_12 : decode cX3_through 12 = .ok (.iload_n 3, 1) := dk_29 (dk_at dksX3_through_0 12 rfl rfl)
theorem dX3_through_13 : decode cX3_through 13 = .ok (.bipush 66, 2) := dk_16 66 (dk_at dksX3_through_0 13 rfl rfl)
theorem dX3_through_15 : decode cX3_through 15 = .ok (.iload_n 1, 1) := dk_27 (dk_at dksX3_through_0 15 rfl rfl)
theorem dX3_through_16 : decode cX3_through 16 = .ok (.iconst 1, 1) := dk_4 (dk_at dksX3_through_0 16 rfl rfl)
theorem dX3_through_17 : decode cX3_through 17 = .ok (.iadd, 1) := dk_96 (dk_at dksX3_through_0 17 rfl rfl)
theorem dX3_through_18 : decode cX3_through 18 = .ok (.imul, 1) := dk_104 (dk_at dksX3_through_0 18 rfl rfl)
theorem dX3_through_19 : decode cX3_through 19 = .ok (.if_icmp .ge 27, 3) := dk_162 0 27 (dk_at dksX3_through_0 19 rfl rfl)
theorem dX3_through_22 : decode cX3_through 22 = .ok (.iload_n 2, 1) := dk_28 (dk_at dksX3_through_0 22 rfl rfl)
theorem dX3_through_23 : decode cX3_through 23 = .ok (.aload_n 0, 1) := dk_42 (dk_at dksX3_through_0 23 rfl rfl)
theorem dX3_through_24 : decode cX3_through 24 = .ok (.getfield 15, 3) := dk_180 0 15 (dk_at dksX3_through_1 0 rfl rfl)
theorem dX3_through_27 : decode cX3_through 27 = .ok (.iload_n 3, 1) := dk_29 (dk_at dksX3_through_1 3 rfl rfl)
theorem dX3_through_28 : decode cX3_through 28 = .ok (.iaload, 1) := dk_46 (dk_at dksX3_through_1 4 rfl rfl)
theorem dX3_through_29 : decode cX3_through 29 = .ok (.aload_n 0, 1) := dk_42 (dk_at dksX3_through_1 5 rfl rfl)
theorem dX3_through_30 : decode cX3_through 30 = .ok (.getfield 11, 3) := dk_180 0 11 (dk_at dksX3_through_1 6 rfl rfl)
theorem dX3_through_33 : decode cX3_through 33 = .ok (.iload_n 3, 1) := dk_29 (dk_at dksX3_through_1 9 rfl rfl)
theorem dX3_through_34 : decode cX3_through 34 = .ok (.iaload, 1) := dk_46 (dk_at dksX3_through_1 10 rfl rfl)
theorem dX3_through_35 : decode cX3_through 35 = .ok (.iadd, 1) := dk_96 (dk_at dksX3_through_1 11 rfl rfl)
theorem dX3_through_36 : decode cX3_through 36 = .ok (.invokestatic 86, 3) := dk_184 0 86 (dk_at dksX3_through_1 12 rfl rfl)
theorem dX3_through_39 : decode cX3_through 39 = .ok (.istore_n 2, 1) := dk_61 (dk_at dksX3_through_1 15 rfl rfl)
theorem dX3_through_40 : decode cX3_through 40 = .ok (.iinc 3 1, 3) := dk_132 3 1 (dk_at dksX3_through_1 16 rfl rfl)
theorem dX3_through_43 : decode cX3_through 43 = .ok (.goto (-31), 3) := dk_167 255 225 (dk_at dksX3_through_1 19 rfl rfl)
theorem dX3_through_46 : decode cX3_through 46 = .ok (.iload_n 2, 1) := dk_28 (dk_at dksX3_through_1 22 rfl rfl)
theorem dX3_through_47 : decode cX3_through 47 = .ok (.ireturn, 1) := dk_172 (dk_at dksX3_through_1 23 rfl rfl)
abbrev cX3_laysFore : ByteArray := prog_10_method_11_code
def yX3_laysFore : MethodName := ⟨RX3, "laysFore", "()V"⟩
def dkwX3_laysFore_2 : List UInt8 := [4, 182, 0, 108, 132, 2, 1, 167, 255, 233, 132, 1, 1, 167, 255, 214, 177]
abbrev dktX3_laysFore_2 : List UInt8 := dkwX3_laysFore_2 ++ []
def dkwX3_laysFore_1 : List UInt8 := [180, 0, 31, 162, 0, 37, 3, 61, 28, 16, 32, 163, 0, 23, 42, 27, 28, 3, 182, 0, 108, 42, 27, 28]
abbrev dktX3_laysFore_1 : List UInt8 := dkwX3_laysFore_1 ++ dktX3_laysFore_2
def dkwX3_laysFore_0 : List UInt8 := [42, 180, 0, 15, 18, 78, 184, 0, 105, 42, 180, 0, 15, 3, 3, 79, 3, 60, 27, 42, 180, 0, 27]
abbrev dktX3_laysFore_0 : List UInt8 := dkwX3_laysFore_0 ++ dktX3_laysFore_1
theorem dksX3_laysFore_0 : cX3_laysFore.data.toList.drop 0 = dktX3_laysFore_0 := by decide +kernel
theorem dksX3_laysFore_1 : cX3_laysFore.data.toList.drop 23 = dktX3_laysFore_1 := dk_seg dksX3_laysFore_0 23 rfl rfl
theorem dksX3_laysFore_2 : cX3_laysFore.data.toList.drop 47 = dktX3_laysFore_2 := dk_seg dksX3_laysFore_1 24 rfl rfl
theorem dX3_laysFore_0 : decode cX3_laysFore 0 = .ok (.aload_n 0, 1) := dk_42 (dk_at dksX3_laysFore_0 0 rfl rfl)
theorem dX3_laysFore_1 : decode cX3_laysFore 1 = .ok (.getfield 15, 3) := dk_180 0 15 (dk_at dksX3_laysFore_0 1 rfl rfl)
theorem dX3_laysFore_4 : decode cX3_laysFore 4 = .ok (.ldc 78, 2) := dk_18 78 (dk_at dksX3_laysFore_0 4 rfl rfl)
theorem dX3_laysFore_6 : decode cX3_laysFore 6 = .ok (.invokestatic 105, 3) := dk_184 0 105 (dk_at dksX3_laysFore_0 6 rfl rfl)
theorem dX3_laysFore_9 : decode cX3_laysFore 9 = .ok (.aload_n 0, 1) := dk_42 (dk_at dksX3_laysFore_0 9 rfl rfl)
theorem dX3_laysFore_10 : decode cX3_laysFore 10 = .ok (.getfield 15, 3) := dk_180 0 15 (dk_at dksX3_laysFore_0 10 rfl rfl)
theorem dX3_laysFore_13 : decode cX3_laysFore 13 = .ok (.iconst 0, 1) := dk_3 (dk_at dksX3_laysFore_0 13 rfl rfl)
theorem dX3_laysFore_14 : decode cX3_laysFore 14 = .ok (.iconst 0, 1) := dk_3 (dk_at dksX3_laysFore_0 14 rfl rfl)
theorem dX3_laysFore_15 : decode cX3_laysFore 15 = .ok (.iastore, 1) := dk_79 (dk_at dksX3_laysFore_0 15 rfl rfl)
theorem dX3_laysFore_16 : decode cX3_laysFore 16 = .ok (.iconst 0, 1) := dk_3 (dk_at dksX3_laysFore_0 16 rfl rfl)
theorem dX3_laysFore_17 : decode cX3_laysFore 17 = .ok (.istore_n 1, 1) := dk_60 (dk_at dksX3_laysFore_0 17 rfl rfl)
theorem dX3_laysFore_18 : decode cX3_laysFore 18 = .ok (.iload_n 1, 1) := dk_27 (dk_at dksX3_laysFore_0 18 rfl rfl)
theorem dX3_laysFore_19 : decode cX3_laysFore 19 = .ok (.aload_n 0, 1) := dk_42 (dk_at dksX3_laysFore_0 19 rfl rfl)
theorem dX3_laysFore_20 : decode cX3_laysFore 20 = .ok (.getfield 27, 3) := dk_180 0 27 (dk_at dksX3_laysFore_0 20 rfl rfl)
theorem dX3_laysFore_23 : decode cX3_laysFore 23 = .ok (.getfield 31, 3) := dk_180 0 31 (dk_at dksX3_laysFore_1 0 rfl rfl)
theorem dX3_laysFore_26 : decode cX3_laysFore 26 = .ok (.if_icmp .ge 37, 3) := dk_162 0 37 (dk_at dksX3_laysFore_1 3 rfl rfl)
theorem dX3_laysFore_29 : decode cX3_laysFore 29 = .ok (.iconst 0, 1) := dk_3 (dk_at dksX3_laysFore_1 6 rfl rfl)
theorem dX3_laysFore_30 : decode cX3_laysFore 30 = .ok (.istore_n 2, 1) := dk_61 (dk_at dksX3_laysFore_1 7 rfl rfl)
theorem dX3_laysFore_31 : decode cX3_laysFore 31 = .ok (.iload_n 2, 1) := dk_28 (dk_at dksX3_laysFore_1 8 rfl rfl)
theorem dX3_laysFore_32 : decode cX3_laysFore 32 = .ok (.bipush 32, 2) := dk_16 32 (dk_at dksX3_laysFore_1 9 rfl rfl)
theorem dX3_laysFore_34 : decode cX3_laysFore 34 = .ok (.if_icmp .gt 23, 3) := dk_163 0 23 (dk_at dksX3_laysFore_1 11 rfl rfl)
theorem dX3_laysFore_37 : decode cX3_laysFore 37 = .ok (.aload_n 0, 1) := dk_42 (dk_at dksX3_laysFore_1 14 rfl rfl)
theorem dX3_laysFore_38 : decode cX3_laysFore 38 = .ok (.iload_n 1, 1) := dk_27 (dk_at dksX3_laysFore_1 15 rfl rfl)
theorem dX3_laysFore_39 : decode cX3_laysFore 39 = .ok (.iload_n 2, 1) := dk_28 (dk_at dksX3_laysFore_1 16 rfl rfl)
theorem dX3_laysFore_40 : decode cX3_laysFore 40 = .ok (.iconst 0, 1) := dk_3 (dk_at dksX3_laysFore_1 17 rfl rfl)
theorem dX3_laysFore_41 : decode cX3_laysFore 41 = .ok (.invokevirtual 108, 3) := dk_182 0 108 (dk_at dksX3_laysFore_1 18 rfl rfl)
theorem dX3_laysFore_44 : decode cX3_laysFore 44 = .ok (.aload_n 0, 1) := dk_42 (dk_at dksX3_laysFore_1 21 rfl rfl)
theorem dX3_laysFore_45 : decode cX3_laysFore 45 = .ok (.iload_n 1, 1) := dk_27 (dk_at dksX3_laysFore_1 22 rfl rfl)
theorem dX3_laysFore_46 : decode cX3_laysFore 46 = .ok (.iload_n 2, 1) := dk_28 (dk_at dksX3_laysFore_1 23 rfl rfl)
theorem dX3_laysFore_47 : decode cX3_laysFore 47 = .ok (.iconst 1, 1) := dk_4 (dk_at dksX3_laysFore_2 0 rfl rfl)
theorem dX3_laysFore_48 : decode cX3_laysFore 48 = .ok (.invokevirtual 108, 3) := dk_182 0 108 (dk_at dksX3_laysFore_2 1 rfl rfl)
theorem dX3_laysFore_51 : decode cX3_laysFore 51 = .ok (.iinc 2 1, 3) := dk_132 2 1 (dk_at dksX3_laysFore_2 4 rfl rfl)
theorem dX3_laysFore_54 : decode cX3_laysFore 54 = .ok (.goto (-23), 3) := dk_167 255 233 (dk_at dksX3_laysFore_2 7 rfl rfl)
theorem dX3_laysFore_57 : decode cX3_laysFore 57 = .ok (.iinc 1 1, 3) := dk_132 1 1 (dk_at dksX3_laysFore_2 10 rfl rfl)
theorem dX3_laysFore_60 : decode cX3_laysFore 60 = .ok (.goto (-42), 3) := dk_167 255 214 (dk_at dksX3_laysFore_2 13 rfl rfl)
theorem dX3_laysFore_63 : decode cX3_laysFore 63 = .ok (.return_, 1) := dk_177 (dk_at dksX3_laysFore_2 16 rfl rfl)
abbrev cX3_goesOn : ByteArray := prog_10_method_12_code
def yX3_goesOn : MethodName := ⟨RX3, "goesOn", "(IIZ)V"⟩
def dkwX3_goesOn_7 : List UInt8 := [132, 6, 1, 167, 255, 154, 177]
abbrev dktX3_goesOn_7 : List UInt8 := dkwX3_goesOn_7 ++ []
def dkwX3_goesOn_6 : List UInt8 := [21, 7, 42, 180, 0, 18, 21, 6, 46, 28, 182, 0, 68, 96, 184, 0, 86, 79, 132, 7, 1, 167, 255, 187]
abbrev dktX3_goesOn_6 : List UInt8 := dkwX3_goesOn_6 ++ dktX3_goesOn_7
def dkwX3_goesOn_5 : List UInt8 := [184, 0, 36, 54, 5, 42, 180, 0, 15, 21, 5, 42, 180, 0, 15, 21, 5, 46, 21, 4, 42, 180, 0, 27]
abbrev dktX3_goesOn_5 : List UInt8 := dkwX3_goesOn_5 ++ dktX3_goesOn_6
def dkwX3_goesOn_4 : List UInt8 := [42, 180, 0, 21, 21, 6, 46, 163, 0, 63, 27, 21, 7, 96, 42, 180, 0, 18, 21, 6, 46, 3]
abbrev dktX3_goesOn_4 : List UInt8 := dkwX3_goesOn_4 ++ dktX3_goesOn_5
def dkwX3_goesOn_3 : List UInt8 := [104, 42, 180, 0, 24, 27, 46, 96, 162, 0, 92, 42, 180, 0, 27, 180, 0, 79, 5, 46, 54, 7, 21, 7]
abbrev dktX3_goesOn_3 : List UInt8 := dkwX3_goesOn_3 ++ dktX3_goesOn_4
def dkwX3_goesOn_2 : List UInt8 := [180, 0, 27, 27, 29, 182, 0, 74, 96, 184, 0, 86, 79, 16, 16, 27, 104, 54, 6, 21, 6, 16, 16, 27]
abbrev dktX3_goesOn_2 : List UInt8 := dkwX3_goesOn_2 ++ dktX3_goesOn_3
def dkwX3_goesOn_1 : List UInt8 := [28, 4, 184, 0, 36, 54, 5, 42, 180, 0, 15, 21, 5, 42, 180, 0, 15, 21, 5, 46, 21, 4, 42]
abbrev dktX3_goesOn_1 : List UInt8 := dkwX3_goesOn_1 ++ dktX3_goesOn_2
def dkwX3_goesOn_0 : List UInt8 := [42, 180, 0, 15, 27, 28, 29, 184, 0, 36, 46, 54, 4, 21, 4, 18, 78, 160, 0, 4, 177, 27, 4, 96]
abbrev dktX3_goesOn_0 : List UInt8 := dkwX3_goesOn_0 ++ dktX3_goesOn_1
theorem dksX3_goesOn_0 : cX3_goesOn.data.toList.drop 0 = dktX3_goesOn_0 := by decide +kernel
theorem dksX3_goesOn_1 : cX3_goesOn.data.toList.drop 24 = dktX3_goesOn_1 := dk_seg dksX3_goesOn_0 24 rfl rfl
theorem dksX3_goesOn_2 : cX3_goesOn.data.toList.drop 47 = dktX3_goesOn_2 := dk_seg dksX3_goesOn_1 23 rfl rfl
theorem dksX3_goesOn_3 : cX3_goesOn.data.toList.drop 71 = dktX3_goesOn_3 := dk_seg dksX3_goesOn_2 24 rfl rfl
theorem dksX3_goesOn_4 : cX3_goesOn.data.toList.drop 95 = dktX3_goesOn_4 := dk_seg dksX3_goesOn_3 24 rfl rfl
theorem dksX3_goesOn_5 : cX3_goesOn.data.toList.drop 117 = dktX3_goesOn_5 := dk_seg dksX3_goesOn_4 22 rfl rfl
theorem dksX3_goesOn_6 : cX3_goesOn.data.toList.drop 141 = dktX3_goesOn_6 := dk_seg dksX3_goesOn_5 24 rfl rfl
theorem dksX3_goesOn_7 : cX3_goesOn.data.toList.drop 165 = dktX3_goesOn_7 := dk_seg dksX3_goesOn_6 24 rfl rfl
theorem dX3_goesOn_0 : decode cX3_goesOn 0 = .ok (.aload_n 0, 1) := dk_42 (dk_at dksX3_goesOn_0 0 rfl rfl)
theorem dX3_goesOn_1 : decode cX3_goesOn 1 = .ok (.getfield 15, 3) := dk_180 0 15 (dk_at dksX3_goesOn_0 1 rfl rfl)
theorem dX3_goesOn_4 : decode cX3_goesOn 4 = .ok (.iload_n 1, 1) := dk_27 (dk_at dksX3_goesOn_0 4 rfl rfl)
theorem dX3_goesOn_5 : decode cX3_goesOn 5 = .ok (.iload_n 2, 1) := dk_28 (dk_at dksX3_goesOn_0 5 rfl rfl)
theorem dX3_goesOn_6 : decode cX3_goesOn 6 = .ok (.iload_n 3, 1) := dk_29 (dk_at dksX3_goesOn_0 6 rfl rfl)
theorem dX3_goesOn_7 : decode cX3_goesOn 7 = .ok (.invokestatic 36, 3) := dk_184 0 36 (dk_at dksX3_goesOn_0 7 rfl rfl)
theorem dX3_goesOn_10 : decode cX3_goesOn 10 = .ok (.iaload, 1) := dk_46 (dk_at dksX3_goesOn_0 10 rfl rfl)
theorem dX3_goesOn_11 : decode cX3_goesOn 11 = .ok (.istore 4, 2) := dk_54 4 (dk_at dksX3_goesOn_0 11 rfl rfl)
theorem dX3_goesOn_13 : decode cX3_goesOn 13 = .ok (.iload 4, 2) := dk_21 4 (dk_at dksX3_goesOn_0 13 rfl rfl)
theorem dX3_goesOn_15 : decode cX3_goesOn 15 = .ok (.ldc 78, 2) := dk_18 78 (dk_at dksX3_goesOn_0 15 rfl rfl)
theorem dX3_goesOn_17 : decode cX3_goesOn 17 = .ok (.if_icmp .ne 4, 3) := dk_160 0 4 (dk_at dksX3_goesOn_0 17 rfl rfl)
theorem dX3_goesOn_20 : decode cX3_goesOn 20 = .ok (.return_, 1) := dk_177 (dk_at dksX3_goesOn_0 20 rfl rfl)
theorem dX3_goesOn_21 : decode cX3_goesOn 21 = .ok (.iload_n 1, 1) := dk_27 (dk_at dksX3_goesOn_0 21 rfl rfl)
theorem dX3_goesOn_22 : decode cX3_goesOn 22 = .ok (.iconst 1, 1) := dk_4 (dk_at dksX3_goesOn_0 22 rfl rfl)
theorem dX3_goesOn_23 : decode cX3_goesOn 23 = .ok (.iadd, 1) := dk_96 (dk_at dksX3_goesOn_0 23 rfl rfl)
theorem dX3_goesOn_24 : decode cX3_goesOn 24 = .ok (.iload_n 2, 1) := dk_28 (dk_at dksX3_goesOn_1 0 rfl rfl)
theorem dX3_goesOn_25 : decode cX3_goesOn 25 = .ok (.iconst 1, 1) := dk_4 (dk_at dksX3_goesOn_1 1 rfl rfl)
theorem dX3_goesOn_26 : decode cX3_goesOn 26 = .ok (.invokestatic 36, 3) := dk_184 0 36 (dk_at dksX3_goesOn_1 2 rfl rfl)
theorem dX3_goesOn_29 : decode cX3_goesOn 29 = .ok (.istore 5, 2) := dk_54 5 (dk_at dksX3_goesOn_1 5 rfl rfl)
theorem dX3_goesOn_31 : decode cX3_goesOn 31 = .ok (.aload_n 0, 1) := dk_42 (dk_at dksX3_goesOn_1 7 rfl rfl)
theorem dX3_goesOn_32 : decode cX3_goesOn 32 = .ok (.getfield 15, 3) := dk_180 0 15 (dk_at dksX3_goesOn_1 8 rfl rfl)
theorem dX3_goesOn_35 : decode cX3_goesOn 35 = .ok (.iload 5, 2) := dk_21 5 (dk_at dksX3_goesOn_1 11 rfl rfl)
theorem dX3_goesOn_37 : decode cX3_goesOn 37 = .ok (.aload_n 0, 1) := dk_42 (dk_at dksX3_goesOn_1 13 rfl rfl)
theorem dX3_goesOn_38 : decode cX3_goesOn 38 = .ok (.getfield 15, 3) := dk_180 0 15 (dk_at dksX3_goesOn_1 14 rfl rfl)
theorem dX3_goesOn_41 : decode cX3_goesOn 41 = .ok (.iload 5, 2) := dk_21 5 (dk_at dksX3_goesOn_1 17 rfl rfl)
theorem dX3_goesOn_43 : decode cX3_goesOn 43 = .ok (.iaload, 1) := dk_46 (dk_at dksX3_goesOn_1 19 rfl rfl)
theorem dX3_goesOn_44 : decode cX3_goesOn 44 = .ok (.iload 4, 2) := dk_21 4 (dk_at dksX3_goesOn_1 20 rfl rfl)
theorem dX3_goesOn_46 : decode cX3_goesOn 46 = .ok (.aload_n 0, 1) := dk_42 (dk_at dksX3_goesOn_1 22 rfl rfl)
theorem dX3_goesOn_47 : decode cX3_goesOn 47 = .ok (.getfield 27, 3) := dk_180 0 27 (dk_at dksX3_goesOn_2 0 rfl rfl)
theorem dX3_goesOn_50 : decode cX3_goesOn 50 = .ok (.iload_n 1, 1) := dk_27 (dk_at dksX3_goesOn_2 3 rfl rfl)
theorem dX3_goesOn_51 : decode cX3_goesOn 51 = .ok (.iload_n 3, 1) := dk_29 (dk_at dksX3_goesOn_2 4 rfl rfl)
theorem dX3_goesOn_52 : decode cX3_goesOn 52 = .ok (.invokevirtual 74, 3) := dk_182 0 74 (dk_at dksX3_goesOn_2 5 rfl rfl)
theorem dX3_goesOn_55 : decode cX3_goesOn 55 = .ok (.iadd, 1) := dk_96 (dk_at dksX3_goesOn_2 8 rfl rfl)
theorem dX3_goesOn_56 : decode cX3_goesOn 56 = .ok (.invokestatic 86, 3) := dk_184 0 86 (dk_at dksX3_goesOn_2 9 rfl rfl)
theorem dX3_goesOn_59 : decode cX3_goesOn 59 = .ok (.iastore, 1) := dk_79 (dk_at dksX3_goesOn_2 12 rfl rfl)
theorem dX3_goesOn_60 : decode cX3_goesOn 60 = .ok (.bipush 16, 2) := dk_16 16 (dk_at dksX3_goesOn_2 13 rfl rfl)
theorem dX3_goesOn_62 : decode cX3_goesOn 62 = .ok (.iload_n 1, 1) := dk_27 (dk_at dksX3_goesOn_2 15 rfl rfl)
theorem dX3_goesOn_63 : decode cX3_goesOn 63 = .ok (.imul, 1) := dk_104 (dk_at dksX3_goesOn_2 16 rfl rfl)
theorem dX3_goesOn_64 : decode cX3_goesOn 64 = .ok (.istore 6, 2) := dk_54 6 (dk_at dksX3_goesOn_2 17 rfl rfl)
theorem dX3_goesOn_66 : decode cX3_goesOn 66 = .ok (.iload 6, 2) := dk_21 6 (dk_at dksX3_goesOn_2 19 rfl rfl)
theorem dX3_goesOn_68 : decode cX3_goesOn 68 = .ok (.bipush 16, 2) := dk_16 16 (dk_at dksX3_goesOn_2 21 rfl rfl)
theorem dX3_goesOn_70 : decode cX3_goesOn 70 = .ok (.iload_n 1, 1) := dk_27 (dk_at dksX3_goesOn_2 23 rfl rfl)
theorem dX3_goesOn_71 : decode cX3_goesOn 71 = .ok (.imul, 1) := dk_104 (dk_at dksX3_goesOn_3 0 rfl rfl)
theorem dX3_goesOn_72 : decode cX3_goesOn 72 = .ok (.aload_n 0, 1) := dk_42 (dk_at dksX3_goesOn_3 1 rfl rfl)
theorem dX3_goesOn_73 : decode cX3_goesOn 73 = .ok (.getfield 24, 3) := dk_180 0 24 (dk_at dksX3_goesOn_3 2 rfl rfl)
theorem dX3_goesOn_76 : decode cX3_goesOn 76 = .ok (.iload_n 1, 1) := dk_27 (dk_at dksX3_goesOn_3 5 rfl rfl)
theorem dX3_goesOn_77 : decode cX3_goesOn 77 = .ok (.iaload, 1) := dk_46 (dk_at dksX3_goesOn_3 6 rfl rfl)
theorem dX3_goesOn_78 : decode cX3_goesOn 78 = .ok (.iadd, 1) := dk_96 (dk_at dksX3_goesOn_3 7 rfl rfl)
theorem dX3_goesOn_79 : decode cX3_goesOn 79 = .ok (.if_icmp .ge 92, 3) := dk_162 0 92 (dk_at dksX3_goesOn_3 8 rfl rfl)
theorem dX3_goesOn_82 : decode cX3_goesOn 82 = .ok (.aload_n 0, 1) := dk_42 (dk_at dksX3_goesOn_3 11 rfl rfl)
theorem dX3_goesOn_83 : decode cX3_goesOn 83 = .ok (.getfield 27, 3) := dk_180 0 27 (dk_at dksX3_goesOn_3 12 rfl rfl)
theorem dX3_goesOn_86 : decode cX3_goesOn 86 = .ok (.getfield 79, 3) := dk_180 0 79 (dk_at dksX3_goesOn_3 15 rfl rfl)
theorem dX3_goesOn_89 : decode cX3_goesOn 89 = .ok (.iconst 2, 1) := dk_5 (dk_at dksX3_goesOn_3 18 rfl rfl)
theorem dX3_goesOn_90 : decode cX3_goesOn 90 = .ok (.iaload, 1) := dk_46 (dk_at dksX3_goesOn_3 19 rfl rfl)
theorem dX3_goesOn_91 : decode cX3_goesOn 91 = .ok (.istore 7, 2) := dk_54 7 (dk_at dksX3_goesOn_3 20 rfl rfl)
theorem dX3_goesOn_93 : decode cX3_goesOn 93 = .ok (.iload 7, 2) := dk_21 7 (dk_at dksX3_goesOn_3 22 rfl rfl)
theorem dX3_goesOn_95 : decode cX3_goesOn 95 = .ok (.aload_n 0, 1) := dk_42 (dk_at dksX3_goesOn_4 0 rfl rfl)
theorem dX3_goesOn_96 : decode cX3_goesOn 96 = .ok (.getfield 21, 3) := dk_180 0 21 (dk_at dksX3_goesOn_4 1 rfl rfl)
theorem dX3_goesOn_99 : decode cX3_goesOn 99 = .ok (.iload 6, 2) := dk_21 6 (dk_at dksX3_goesOn_4 4 rfl rfl)
theorem dX3_goesOn_101 : decode cX3_goesOn 101 = .ok (.iaload, 1) := dk_46 (dk_at dksX3_goesOn_4 6 rfl rfl)
theorem dX3_goesOn_102 : decode cX3_goesOn 102 = .ok (.if_icmp .gt 63, 3) := dk_163 0 63 (dk_at dksX3_goesOn_4 7 rfl rfl)
theorem dX3_goesOn_105 : decode cX3_goesOn 105 = .ok (.iload_n 1, 1) := dk_27 (dk_at dksX3_goesOn_4 10 rfl rfl)
theorem dX3_goesOn_106 : decode cX3_goesOn 106 = .ok (.iload 7, 2) := dk_21 7 (dk_at dksX3_goesOn_4 11 rfl rfl)
theorem dX3_goesOn_108 : decode cX3_goesOn 108 = .ok (.iadd, 1) := dk_96 (dk_at dksX3_goesOn_4 13 rfl rfl)
theorem dX3_goesOn_109 : decode cX3_goesOn 109 = .ok (.aload_n 0, 1) := dk_42 (dk_at dksX3_goesOn_4 14 rfl rfl)
theorem dX3_goesOn_110 : decode cX3_goesOn 110 = .ok (.getfield 18, 3) := dk_180 0 18 (dk_at dksX3_goesOn_4 15 rfl rfl)
theorem dX3_goesOn_113 : decode cX3_goesOn 113 = .ok (.iload 6, 2) := dk_21 6 (dk_at dksX3_goesOn_4 18 rfl rfl)
theorem dX3_goesOn_115 : decode cX3_goesOn 115 = .ok (.iaload, 1) := dk_46 (dk_at dksX3_goesOn_4 20 rfl rfl)
theorem dX3_goesOn_116 : decode cX3_goesOn 116 = .ok (.iconst 0, 1) := dk_3 (dk_at dksX3_goesOn_4 21 rfl rfl)
theorem dX3_goesOn_117 : decode cX3_goesOn 117 = .ok (.invokestatic 36, 3) := dk_184 0 36 (dk_at dksX3_goesOn_5 0 rfl rfl)
theorem dX3_goesOn_120 : decode cX3_goesOn 120 = .ok (.istore 5, 2) := dk_54 5 (dk_at dksX3_goesOn_5 3 rfl rfl)
theorem dX3_goesOn_122 : decode cX3_goesOn 122 = .ok (.aload_n 0, 1) := dk_42 (dk_at dksX3_goesOn_5 5 rfl rfl)
theorem dX3_goesOn_123 : decode cX3_goesOn 123 = .ok (.getfield 15, 3) := dk_180 0 15 (dk_at dksX3_goesOn_5 6 rfl rfl)
theorem dX3_goesOn_126 : decode cX3_goesOn 126 = .ok (.iload 5, 2) := dk_21 5 (dk_at dksX3_goesOn_5 9 rfl rfl)
theorem dX3_goesOn_128 : decode cX3_goesOn 128 = .ok (.aload_n 0, 1) := dk_42 (dk_at dksX3_goesOn_5 11 rfl rfl)
theorem dX3_goesOn_129 : decode cX3_goesOn 129 = .ok (.getfield 15, 3) := dk_180 0 15 (dk_at dksX3_goesOn_5 12 rfl rfl)
theorem dX3_goesOn_132 : decode cX3_goesOn 132 = .ok (.iload 5, 2) := dk_21 5 (dk_at dksX3_goesOn_5 15 rfl rfl)
theorem dX3_goesOn_134 : decode cX3_goesOn 134 = .ok (.iaload, 1) := dk_46 (dk_at dksX3_goesOn_5 17 rfl rfl)
theorem dX3_goesOn_135 : decode cX3_goesOn 135 = .ok (.iload 4, 2) := dk_21 4 (dk_at dksX3_goesOn_5 18 rfl rfl)
theorem dX3_goesOn_137 : decode cX3_goesOn 137 = .ok (.aload_n 0, 1) := dk_42 (dk_at dksX3_goesOn_5 20 rfl rfl)
theorem dX3_goesOn_138 : decode cX3_goesOn 138 = .ok (.getfield 27, 3) := dk_180 0 27 (dk_at dksX3_goesOn_5 21 rfl rfl)
theorem dX3_goesOn_141 : decode cX3_goesOn 141 = .ok (.iload 7, 2) := dk_21 7 (dk_at dksX3_goesOn_6 0 rfl rfl)
theorem dX3_goesOn_143 : decode cX3_goesOn 143 = .ok (.aload_n 0, 1) := dk_42 (dk_at dksX3_goesOn_6 2 rfl rfl)
theorem dX3_goesOn_144 : decode cX3_goesOn 144 = .ok (.getfield 18, 3) := dk_180 0 18 (dk_at dksX3_goesOn_6 3 rfl rfl)
theorem dX3_goesOn_147 : decode cX3_goesOn 147 = .ok (.iload 6, 2) := dk_21 6 (dk_at dksX3_goesOn_6 6 rfl rfl)
theorem dX3_goesOn_149 : decode cX3_goesOn 149 = .ok (.iaload, 1) := dk_46 (dk_at dksX3_goesOn_6 8 rfl rfl)
theorem dX3_goesOn_150 : decode cX3_goesOn 150 = .ok (.iload_n 2, 1) := dk_28 (dk_at dksX3_goesOn_6 9 rfl rfl)
theorem dX3_goesOn_151 : decode cX3_goesOn 151 = .ok (.invokevirtual 68, 3) := dk_182 0 68 (dk_at dksX3_goesOn_6 10 rfl rfl)
theorem dX3_goesOn_154 : decode cX3_goesOn 154 = .ok (.iadd, 1) := dk_96 (dk_at dksX3_goesOn_6 13 rfl rfl)
theorem dX3_goesOn_155 : decode cX3_goesOn 155 = .ok (.invokestatic 86, 3) := dk_184 0 86 (dk_at dksX3_goesOn_6 14 rfl rfl)
theorem dX3_goesOn_158 : decode cX3_goesOn 158 = .ok (.iastore, 1) := dk_79 (dk_at dksX3_goesOn_6 17 rfl rfl)
theorem dX3_goesOn_159 : decode cX3_goesOn 159 = .ok (.iinc 7 1, 3) := dk_132 7 1 (dk_at dksX3_goesOn_6 18 rfl rfl)
theorem dX3_goesOn_162 : decode cX3_goesOn 162 = .ok (.goto (-69), 3) := dk_167 255 187 (dk_at dksX3_goesOn_6 21 rfl rfl)
theorem dX3_goesOn_165 : decode cX3_goesOn 165 = .ok (.iinc 6 1, 3) := dk_132 6 1 (dk_at dksX3_goesOn_7 0 rfl rfl)
theorem dX3_goesOn_168 : decode cX3_goesOn 168 = .ok (.goto (-102), 3) := dk_167 255 154 (dk_at dksX3_goesOn_7 3 rfl rfl)
theorem dX3_goesOn_171 : decode cX3_goesOn 171 = .ok (.return_, 1) := dk_177 (dk_at dksX3_goesOn_7 6 rfl rfl)
abbrev cX3_chooser : ByteArray := prog_10_method_10_code
def yX3_chooser : MethodName := ⟨RX3, "chooser", "()LCopyPrices$Chooser;"⟩
theorem dX3_chooser_0 : decode cX3_chooser 0 = .ok (.aload_n 0, 1) := by decide +kernel
theorem dX3_chooser_1 : decode cX3_chooser 1 = .ok (.invokedynamic 102, 5) := by decide +kernel
theorem dX3_chooser_6 : decode cX3_chooser 6 = .ok (.areturn, 1) := by decide +kernel
abbrev cX3_lambda_chooser_0 : ByteArray := prog_10_method_15_code
def yX3_lambda_chooser_0 : MethodName := ⟨RX3, "lambda$chooser$0", "(IIZ)LCopyPrices$Step;"⟩
def dkwX3_lambda_chooser_0_0 : List UInt8 := [42, 27, 28, 29, 182, 0, 115, 176]
abbrev dktX3_lambda_chooser_0_0 : List UInt8 := dkwX3_lambda_chooser_0_0 ++ []
theorem dksX3_lambda_chooser_0_0 : cX3_lambda_chooser_0.data.toList.drop 0 = dktX3_lambda_chooser_0_0 := by decide +kernel
theorem dX3_lambda_chooser_0_0 : decode cX3_lambda_chooser_0 0 = .ok (.aload_n 0, 1) := dk_42 (dk_at dksX3_lambda_chooser_0_0 0 rfl rfl)
theorem dX3_lambda_chooser_0_1 : decode cX3_lambda_chooser_0 1 = .ok (.iload_n 1, 1) := dk_27 (dk_at dksX3_lambda_chooser_0_0 1 rfl rfl)
theorem dX3_lambda_chooser_0_2 : decode cX3_lambda_chooser_0 2 = .ok (.iload_n 2, 1) := dk_28 (dk_at dksX3_lambda_chooser_0_0 2 rfl rfl)
theorem dX3_lambda_chooser_0_3 : decode cX3_lambda_chooser_0 3 = .ok (.iload_n 3, 1) := dk_29 (dk_at dksX3_lambda_chooser_0_0 3 rfl rfl)
theorem dX3_lambda_chooser_0_4 : decode cX3_lambda_chooser_0 4 = .ok (.invokevirtual 115, 3) := dk_182 0 115 (dk_at dksX3_lambda_chooser_0_0 4 rfl rfl)
theorem dX3_lambda_chooser_0_7 : decode cX3_lambda_chooser_0 7 = .ok (.areturn, 1) := dk_176 (dk_at dksX3_lambda_chooser_0_0 7 rfl rfl)
abbrev cX3_best : ByteArray := prog_10_method_9_code
def yX3_best : MethodName := ⟨RX3, "best", "(IIZ)LCopyPrices$Step;"⟩
def dkwX3_best_6 : List UInt8 := [167, 255, 160, 1, 176]
abbrev dktX3_best_6 : List UInt8 := dkwX3_best_6 ++ []
def dkwX3_best_5 : List UInt8 := [21, 5, 42, 180, 0, 18, 21, 6, 46, 182, 0, 98, 176, 132, 6, 1, 167, 255, 186, 132, 5, 255]
abbrev dktX3_best_5 : List UInt8 := dkwX3_best_5 ++ dktX3_best_6
def dkwX3_best_4 : List UInt8 := [21, 5, 42, 180, 0, 18, 21, 6, 46, 182, 0, 82, 21, 4, 160, 0, 22, 42, 180, 0, 27, 27, 28]
abbrev dktX3_best_4 : List UInt8 := dkwX3_best_4 ++ dktX3_best_5
def dkwX3_best_3 : List UInt8 := [180, 0, 24, 27, 46, 96, 162, 0, 60, 21, 5, 42, 180, 0, 21, 21, 6, 46, 163, 0, 42, 42, 27, 28]
abbrev dktX3_best_3 : List UInt8 := dkwX3_best_3 ++ dktX3_best_4
def dkwX3_best_2 : List UInt8 := [180, 0, 27, 180, 0, 79, 5, 46, 161, 0, 88, 16, 16, 27, 104, 54, 6, 21, 6, 16, 16, 27, 104, 42]
abbrev dktX3_best_2 : List UInt8 := dkwX3_best_2 ++ dktX3_best_3
def dkwX3_best_1 : List UInt8 := [180, 0, 27, 27, 28, 29, 182, 0, 94, 176, 42, 180, 0, 27, 180, 0, 79, 6, 46, 54, 5, 21, 5, 42]
abbrev dktX3_best_1 : List UInt8 := dkwX3_best_1 ++ dktX3_best_2
def dkwX3_best_0 : List UInt8 := [42, 27, 28, 29, 182, 0, 72, 54, 4, 42, 27, 28, 29, 182, 0, 91, 21, 4, 160, 0, 14, 42]
abbrev dktX3_best_0 : List UInt8 := dkwX3_best_0 ++ dktX3_best_1
theorem dksX3_best_0 : cX3_best.data.toList.drop 0 = dktX3_best_0 := by decide +kernel
theorem dksX3_best_1 : cX3_best.data.toList.drop 22 = dktX3_best_1 := dk_seg dksX3_best_0 22 rfl rfl
theorem dksX3_best_2 : cX3_best.data.toList.drop 46 = dktX3_best_2 := dk_seg dksX3_best_1 24 rfl rfl
theorem dksX3_best_3 : cX3_best.data.toList.drop 70 = dktX3_best_3 := dk_seg dksX3_best_2 24 rfl rfl
theorem dksX3_best_4 : cX3_best.data.toList.drop 94 = dktX3_best_4 := dk_seg dksX3_best_3 24 rfl rfl
theorem dksX3_best_5 : cX3_best.data.toList.drop 117 = dktX3_best_5 := dk_seg dksX3_best_4 23 rfl rfl
theorem dksX3_best_6 : cX3_best.data.toList.drop 139 = dktX3_best_6 := dk_seg dksX3_best_5 22 rfl rfl
theorem dX3_best_0 : decode cX3_best 0 = .ok (.aload_n 0, 1) := dk_42 (dk_at dksX3_best_0 0 rfl rfl)
theorem dX3_best_1 : decode cX3_best 1 = .ok (.iload_n 1, 1) := dk_27 (dk_at dksX3_best_0 1 rfl rfl)
theorem dX3_best_2 : decode cX3_best 2 = .ok (.iload_n 2, 1) := dk_28 (dk_at dksX3_best_0 2 rfl rfl)
theorem dX3_best_3 : decode cX3_best 3 = .ok (.iload_n 3, 1) := dk_29 (dk_at dksX3_best_0 3 rfl rfl)
theorem dX3_best_4 : decode cX3_best 4 = .ok (.invokevirtual 72, 3) := dk_182 0 72 (dk_at dksX3_best_0 4 rfl rfl)
theorem dX3_best_7 : decode cX3_best 7 = .ok (.istore 4, 2) := dk_54 4 (dk_at dksX3_best_0 7 rfl rfl)
theorem dX3_best_9 : decode cX3_best 9 = .ok (.aload_n 0, 1) := dk_42 (dk_at dksX3_best_0 9 rfl rfl)
theorem dX3_best_10 : decode cX3_best 10 = .ok (.iload_n 1, 1) := dk_27 (dk_at dksX3_best_0 10 rfl rfl)
theorem dX3_best_11 : decode cX3_best 11 = .ok (.iload_n 2, 1) := dk_28 (dk_at dksX3_best_0 11 rfl rfl)
theorem dX3_best_12 : decode cX3_best 12 = .ok (.iload_n 3, 1) := dk_29 (dk_at dksX3_best_0 12 rfl rfl)
theorem dX3_best_13 : decode cX3_best 13 = .ok (.invokevirtual 91, 3) := dk_182 0 91 (dk_at dksX3_best_0 13 rfl rfl)
theorem dX3_best_16 : decode cX3_best 16 = .ok (.iload 4, 2) := dk_21 4 (dk_at dksX3_best_0 16 rfl rfl)
theorem dX3_best_18 : decode cX3_best 18 = .ok (.if_icmp .ne 14, 3) := dk_160 0 14 (dk_at dksX3_best_0 18 rfl rfl)
theorem dX3_best_21 : decode cX3_best 21 = .ok (.aload_n 0, 1) := dk_42 (dk_at dksX3_best_0 21 rfl rfl)
theorem dX3_best_22 : decode cX3_best 22 = .ok (.getfield 27, 3) := dk_180 0 27 (dk_at dksX3_best_1 0 rfl rfl)
theorem dX3_best_25 : decode cX3_best 25 = .ok (.iload_n 1, 1) := dk_27 (dk_at dksX3_best_1 3 rfl rfl)
theorem dX3_best_26 : decode cX3_best 26 = .ok (.iload_n 2, 1) := dk_28 (dk_at dksX3_best_1 4 rfl rfl)
theorem dX3_best_27 : decode cX3_best 27 = .ok (.iload_n 3, 1) := dk_29 (dk_at dksX3_best_1 5 rfl rfl)
theorem dX3_best_28 : decode cX3_best 28 = .ok (.invokevirtual 94, 3) := dk_182 0 94 (dk_at dksX3_best_1 6 rfl rfl)
theorem dX3_best_31 : decode cX3_best 31 = .ok (.areturn, 1) := dk_176 (dk_at dksX3_best_1 9 rfl rfl)
theorem dX3_best_32 : decode cX3_best 32 = .ok (.aload_n 0, 1) := dk_42 (dk_at dksX3_best_1 10 rfl rfl)
theorem dX3_best_33 : decode cX3_best 33 = .ok (.getfield 27, 3) := dk_180 0 27 (dk_at dksX3_best_1 11 rfl rfl)
theorem dX3_best_36 : decode cX3_best 36 = .ok (.getfield 79, 3) := dk_180 0 79 (dk_at dksX3_best_1 14 rfl rfl)
theorem dX3_best_39 : decode cX3_best 39 = .ok (.iconst 3, 1) := dk_6 (dk_at dksX3_best_1 17 rfl rfl)
theorem dX3_best_40 : decode cX3_best 40 = .ok (.iaload, 1) := dk_46 (dk_at dksX3_best_1 18 rfl rfl)
theorem dX3_best_41 : decode cX3_best 41 = .ok (.istore 5, 2) := dk_54 5 (dk_at dksX3_best_1 19 rfl rfl)
theorem dX3_best_43 : decode cX3_best 43 = .ok (.iload 5, 2) := dk_21 5 (dk_at dksX3_best_1 21 rfl rfl)
theorem dX3_best_45 : decode cX3_best 45 = .ok (.aload_n 0, 1) := dk_42 (dk_at dksX3_best_1 23 rfl rfl)
theorem dX3_best_46 : decode cX3_best 46 = .ok (.getfield 27, 3) := dk_180 0 27 (dk_at dksX3_best_2 0 rfl rfl)
theorem dX3_best_49 : decode cX3_best 49 = .ok (.getfield 79, 3) := dk_180 0 79 (dk_at dksX3_best_2 3 rfl rfl)
theorem dX3_best_52 : decode cX3_best 52 = .ok (.iconst 2, 1) := dk_5 (dk_at dksX3_best_2 6 rfl rfl)
theorem dX3_best_53 : decode cX3_best 53 = .ok (.iaload, 1) := dk_46 (dk_at dksX3_best_2 7 rfl rfl)
theorem dX3_best_54 : decode cX3_best 54 = .ok (.if_icmp .lt 88, 3) := dk_161 0 88 (dk_at dksX3_best_2 8 rfl rfl)
theorem dX3_best_57 : decode cX3_best 57 = .ok (.bipush 16, 2) := dk_16 16 (dk_at dksX3_best_2 11 rfl rfl)
theorem dX3_best_59 : decode cX3_best 59 = .ok (.iload_n 1, 1) := dk_27 (dk_at dksX3_best_2 13 rfl rfl)
theorem dX3_best_60 : decode cX3_best 60 = .ok (.imul, 1) := dk_104 (dk_at dksX3_best_2 14 rfl rfl)
theorem dX3_best_61 : decode cX3_best 61 = .ok (.istore 6, 2) := dk_54 6 (dk_at dksX3_best_2 15 rfl rfl)
theorem dX3_best_63 : decode cX3_best 63 = .ok (.iload 6, 2) := dk_21 6 (dk_at dksX3_best_2 17 rfl rfl)
theorem dX3_best_65 : decode cX3_best 65 = .ok (.bipush 16, 2) := dk_16 16 (dk_at dksX3_best_2 19 rfl rfl)
theorem dX3_best_67 : decode cX3_best 67 = .ok (.iload_n 1, 1) := dk_27 (dk_at dksX3_best_2 21 rfl rfl)
theorem dX3_best_68 : decode cX3_best 68 = .ok (.imul, 1) := dk_104 (dk_at dksX3_best_2 22 rfl rfl)
theorem dX3_best_69 : decode cX3_best 69 = .ok (.aload_n 0, 1) := dk_42 (dk_at dksX3_best_2 23 rfl rfl)
theorem dX3_best_70 : decode cX3_best 70 = .ok (.getfield 24, 3) := dk_180 0 24 (dk_at dksX3_best_3 0 rfl rfl)
theorem dX3_best_73 : decode cX3_best 73 = .ok (.iload_n 1, 1) := dk_27 (dk_at dksX3_best_3 3 rfl rfl)
theorem dX3_best_74 : decode cX3_best 74 = .ok (.iaload, 1) := dk_46 (dk_at dksX3_best_3 4 rfl rfl)
theorem dX3_best_75 : decode cX3_best 75 = .ok (.iadd, 1) := dk_96 (dk_at dksX3_best_3 5 rfl rfl)
theorem dX3_best_76 : decode cX3_best 76 = .ok (.if_icmp .ge 60, 3) := dk_162 0 60 (dk_at dksX3_best_3 6 rfl rfl)
theorem dX3_best_79 : decode cX3_best 79 = .ok (.iload 5, 2) := dk_21 5 (dk_at dksX3_best_3 9 rfl rfl)
theorem dX3_best_81 : decode cX3_best 81 = .ok (.aload_n 0, 1) := dk_42 (dk_at dksX3_best_3 11 rfl rfl)
theorem dX3_best_82 : decode cX3_best 82 = .ok (.getfield 21, 3) := dk_180 0 21 (dk_at dksX3_best_3 12 rfl rfl)
theorem dX3_best_85 : decode cX3_best 85 = .ok (.iload 6, 2) := dk_21 6 (dk_at dksX3_best_3 15 rfl rfl)
theorem dX3_best_87 : decode cX3_best 87 = .ok (.iaload, 1) := dk_46 (dk_at dksX3_best_3 17 rfl rfl)
theorem dX3_best_88 : decode cX3_best 88 = .ok (.if_icmp .gt 42, 3) := dk_163 0 42 (dk_at dksX3_best_3 18 rfl rfl)
theorem dX3_best_91 : decode cX3_best 91 = .ok (.aload_n 0, 1) := dk_42 (dk_at dksX3_best_3 21 rfl rfl)
theorem dX3_best_92 : decode cX3_best 92 = .ok (.iload_n 1, 1) := dk_27 (dk_at dksX3_best_3 22 rfl rfl)
theorem dX3_best_93 : decode cX3_best 93 = .ok (.iload_n 2, 1) := dk_28 (dk_at dksX3_best_3 23 rfl rfl)
theorem dX3_best_94 : decode cX3_best 94 = .ok (.iload 5, 2) := dk_21 5 (dk_at dksX3_best_4 0 rfl rfl)
theorem dX3_best_96 : decode cX3_best 96 = .ok (.aload_n 0, 1) := dk_42 (dk_at dksX3_best_4 2 rfl rfl)
theorem dX3_best_97 : decode cX3_best 97 = .ok (.getfield 18, 3) := dk_180 0 18 (dk_at dksX3_best_4 3 rfl rfl)
theorem dX3_best_100 : decode cX3_best 100 = .ok (.iload 6, 2) := dk_21 6 (dk_at dksX3_best_4 6 rfl rfl)
theorem dX3_best_102 : decode cX3_best 102 = .ok (.iaload, 1) := dk_46 (dk_at dksX3_best_4 8 rfl rfl)
theorem dX3_best_103 : decode cX3_best 103 = .ok (.invokevirtual 82, 3) := dk_182 0 82 (dk_at dksX3_best_4 9 rfl rfl)
theorem dX3_best_106 : decode cX3_best 106 = .ok (.iload 4, 2) := dk_21 4 (dk_at dksX3_best_4 12 rfl rfl)
theorem dX3_best_108 : decode cX3_best 108 = .ok (.if_icmp .ne 22, 3) := dk_160 0 22 (dk_at dksX3_best_4 14 rfl rfl)
theorem dX3_best_111 : decode cX3_best 111 = .ok (.aload_n 0, 1) := dk_42 (dk_at dksX3_best_4 17 rfl rfl)
theorem dX3_best_112 : decode cX3_best 112 = .ok (.getfield 27, 3) := dk_180 0 27 (dk_at dksX3_best_4 18 rfl rfl)
theorem dX3_best_115 : decode cX3_best 115 = .ok (.iload_n 1, 1) := dk_27 (dk_at dksX3_best_4 21 rfl rfl)
theorem dX3_best_116 : decode cX3_best 116 = .ok (.iload_n 2, 1) := dk_28 (dk_at dksX3_best_4 22 rfl rfl)
theorem dX3_best_117 : decode cX3_best 117 = .ok (.iload 5, 2) := dk_21 5 (dk_at dksX3_best_5 0 rfl rfl)
theorem dX3_best_119 : decode cX3_best 119 = .ok (.aload_n 0, 1) := dk_42 (dk_at dksX3_best_5 2 rfl rfl)
theorem dX3_best_120 : decode cX3_best 120 = .ok (.getfield 18, 3) := dk_180 0 18 (dk_at dksX3_best_5 3 rfl rfl)
theorem dX3_best_123 : decode cX3_best 123 = .ok (.iload 6, 2) := dk_21 6 (dk_at dksX3_best_5 6 rfl rfl)
theorem dX3_best_125 : decode cX3_best 125 = .ok (.iaload, 1) := dk_46 (dk_at dksX3_best_5 8 rfl rfl)
theorem dX3_best_126 : decode cX3_best 126 = .ok (.invokevirtual 98, 3) := dk_182 0 98 (dk_at dksX3_best_5 9 rfl rfl)
theorem dX3_best_129 : decode cX3_best 129 = .ok (.areturn, 1) := dk_176 (dk_at dksX3_best_5 12 rfl rfl)
theorem dX3_best_130 : decode cX3_best 130 = .ok (.iinc 6 1, 3) := dk_132 6 1 (dk_at dksX3_best_5 13 rfl rfl)
theorem dX3_best_133 : decode cX3_best 133 = .ok (.goto (-70), 3) := dk_167 255 186 (dk_at dksX3_best_5 16 rfl rfl)
theorem dX3_best_136 : decode cX3_best 136 = .ok (.iinc 5 (-1), 3) := dk_132 5 255 (dk_at dksX3_best_5 19 rfl rfl)
theorem dX3_best_139 : decode cX3_best 139 = .ok (.goto (-96), 3) := dk_167 255 160 (dk_at dksX3_best_6 0 rfl rfl)
theorem dX3_best_142 : decode cX3_best 142 = .ok (.aconst_null, 1) := dk_1 (dk_at dksX3_best_6 3 rfl rfl)
theorem dX3_best_143 : decode cX3_best 143 = .ok (.areturn, 1) := dk_176 (dk_at dksX3_best_6 4 rfl rfl)
abbrev cX3_cheapestWith : ByteArray := prog_10_method_14_code
def yX3_cheapestWith : MethodName := ⟨RX3, "cheapestWith", "(III)I"⟩
def dkwX3_cheapestWith_3 : List UInt8 := [167, 255, 198, 21, 4, 172]
abbrev dktX3_cheapestWith_3 : List UInt8 := dkwX3_cheapestWith_3 ++ []
def dkwX3_cheapestWith_2 : List UInt8 := [21, 4, 21, 6, 42, 27, 21, 5, 28, 29, 182, 0, 82, 96, 184, 0, 86, 54, 4, 132, 5, 1]
abbrev dktX3_cheapestWith_2 : List UInt8 := dkwX3_cheapestWith_2 ++ dktX3_cheapestWith_3
def dkwX3_cheapestWith_1 : List UInt8 := [21, 5, 3, 184, 0, 36, 46, 42, 180, 0, 15, 27, 21, 5, 4, 184, 0, 36, 46, 184, 0, 86, 54, 6]
abbrev dktX3_cheapestWith_1 : List UInt8 := dkwX3_cheapestWith_1 ++ dktX3_cheapestWith_2
def dkwX3_cheapestWith_0 : List UInt8 := [42, 182, 0, 112, 18, 78, 54, 4, 3, 54, 5, 21, 5, 16, 32, 163, 0, 57, 42, 180, 0, 15, 27]
abbrev dktX3_cheapestWith_0 : List UInt8 := dkwX3_cheapestWith_0 ++ dktX3_cheapestWith_1
theorem dksX3_cheapestWith_0 : cX3_cheapestWith.data.toList.drop 0 = dktX3_cheapestWith_0 := by decide +kernel
theorem dksX3_cheapestWith_1 : cX3_cheapestWith.data.toList.drop 23 = dktX3_cheapestWith_1 := dk_seg dksX3_cheapestWith_0 23 rfl rfl
theorem dksX3_cheapestWith_2 : cX3_cheapestWith.data.toList.drop 47 = dktX3_cheapestWith_2 := dk_seg dksX3_cheapestWith_1 24 rfl rfl
theorem dksX3_cheapestWith_3 : cX3_cheapestWith.data.toList.drop 69 = dktX3_cheapestWith_3 := dk_seg dksX3_cheapestWith_2 22 rfl rfl
theorem dX3_cheapestWith_0 : decode cX3_cheapestWith 0 = .ok (.aload_n 0, 1) := dk_42 (dk_at dksX3_cheapestWith_0 0 rfl rfl)
theorem dX3_cheapestWith_1 : decode cX3_cheapestWith 1 = .ok (.invokevirtual 112, 3) := dk_182 0 112 (dk_at dksX3_cheapestWith_0 1 rfl rfl)
theorem dX3_cheapestWith_4 : decode cX3_cheapestWith 4 = .ok (.ldc 78, 2) := dk_18 78 (dk_at dksX3_cheapestWith_0 4 rfl rfl)
theorem dX3_cheapestWith_6 : decode cX3_cheapestWith 6 = .ok (.istore 4, 2) := dk_54 4 (dk_at dksX3_cheapestWith_0 6 rfl rfl)
theorem dX3_cheapestWith_8 : decode cX3_cheapestWith 8 = .ok (.iconst 0, 1) := dk_3 (dk_at dksX3_cheapestWith_0 8 rfl rfl)
theorem dX3_cheapestWith_9 : decode cX3_cheapestWith 9 = .ok (.istore 5, 2) := dk_54 5 (dk_at dksX3_cheapestWith_0 9 rfl rfl)
theorem dX3_cheapestWith_11 : decode cX3_cheapestWith 11 = .ok (.iload 5, 2) := dk_21 5 (dk_at dksX3_cheapestWith_0 11 rfl rfl)
theorem dX3_cheapestWith_13 : decode cX3_cheapestWith 13 = .ok (.bipush 32, 2) := dk_16 32 (dk_at dksX3_cheapestWith_0 13 rfl rfl)
theorem dX3_cheapestWith_15 : decode cX3_cheapestWith 15 = .ok (.if_icmp .gt 57, 3) := dk_163 0 57 (dk_at dksX3_cheapestWith_0 15 rfl rfl)
theorem dX3_cheapestWith_18 : decode cX3_cheapestWith 18 = .ok (.aload_n 0, 1) := dk_42 (dk_at dksX3_cheapestWith_0 18 rfl rfl)
theorem dX3_cheapestWith_19 : decode cX3_cheapestWith 19 = .ok (.getfield 15, 3) := dk_180 0 15 (dk_at dksX3_cheapestWith_0 19 rfl rfl)
theorem dX3_cheapestWith_22 : decode cX3_cheapestWith 22 = .ok (.iload_n 1, 1) := dk_27 (dk_at dksX3_cheapestWith_0 22 rfl rfl)
theorem dX3_cheapestWith_23 : decode cX3_cheapestWith 23 = .ok (.iload 5, 2) := dk_21 5 (dk_at dksX3_cheapestWith_1 0 rfl rfl)
theorem dX3_cheapestWith_25 : decode cX3_cheapestWith 25 = .ok (.iconst 0, 1) := dk_3 (dk_at dksX3_cheapestWith_1 2 rfl rfl)
theorem dX3_cheapestWith_26 : decode cX3_cheapestWith 26 = .ok (.invokestatic 36, 3) := dk_184 0 36 (dk_at dksX3_cheapestWith_1 3 rfl rfl)
theorem dX3_cheapestWith_29 : decode cX3_cheapestWith 29 = .ok (.iaload, 1) := dk_46 (dk_at dksX3_cheapestWith_1 6 rfl rfl)
theorem dX3_cheapestWith_30 : decode cX3_cheapestWith 30 = .ok (.aload_n 0, 1) := dk_42 (dk_at dksX3_cheapestWith_1 7 rfl rfl)
theorem dX3_cheapestWith_31 : decode cX3_cheapestWith 31 = .ok (.getfield 15, 3) := dk_180 0 15 (dk_at dksX3_cheapestWith_1 8 rfl rfl)
theorem dX3_cheapestWith_34 : decode cX3_cheapestWith 34 = .ok (.iload_n 1, 1) := dk_27 (dk_at dksX3_cheapestWith_1 11 rfl rfl)
theorem dX3_cheapestWith_35 : decode cX3_cheapestWith 35 = .ok (.iload 5, 2) := dk_21 5 (dk_at dksX3_cheapestWith_1 12 rfl rfl)
theorem dX3_cheapestWith_37 : decode cX3_cheapestWith 37 = .ok (.iconst 1, 1) := dk_4 (dk_at dksX3_cheapestWith_1 14 rfl rfl)
theorem dX3_cheapestWith_38 : decode cX3_cheapestWith 38 = .ok (.invokestatic 36, 3) := dk_184 0 36 (dk_at dksX3_cheapestWith_1 15 rfl rfl)
theorem dX3_cheapestWith_41 : decode cX3_cheapestWith 41 = .ok (.iaload, 1) := dk_46 (dk_at dksX3_cheapestWith_1 18 rfl rfl)
theorem dX3_cheapestWith_42 : decode cX3_cheapestWith 42 = .ok (.invokestatic 86, 3) := dk_184 0 86 (dk_at dksX3_cheapestWith_1 19 rfl rfl)
theorem dX3_cheapestWith_45 : decode cX3_cheapestWith 45 = .ok (.istore 6, 2) := dk_54 6 (dk_at dksX3_cheapestWith_1 22 rfl rfl)
theorem dX3_cheapestWith_47 : decode cX3_cheapestWith 47 = .ok (.iload 4, 2) := dk_21 4 (dk_at dksX3_cheapestWith_2 0 rfl rfl)
theorem dX3_cheapestWith_49 : decode cX3_cheapestWith 49 = .ok (.iload 6, 2) := dk_21 6 (dk_at dksX3_cheapestWith_2 2 rfl rfl)
theorem dX3_cheapestWith_51 : decode cX3_cheapestWith 51 = .ok (.aload_n 0, 1) := dk_42 (dk_at dksX3_cheapestWith_2 4 rfl rfl)
theorem dX3_cheapestWith_52 : decode cX3_cheapestWith 52 = .ok (.iload_n 1, 1) := dk_27 (dk_at dksX3_cheapestWith_2 5 rfl rfl)
theorem dX3_cheapestWith_53 : decode cX3_cheapestWith 53 = .ok (.iload 5, 2) := dk_21 5 (dk_at dksX3_cheapestWith_2 6 rfl rfl)
theorem dX3_cheapestWith_55 : decode cX3_cheapestWith 55 = .ok (.iload_n 2, 1) := dk_28 (dk_at dksX3_cheapestWith_2 8 rfl rfl)
theorem dX3_cheapestWith_56 : decode cX3_cheapestWith 56 = .ok (.iload_n 3, 1) := dk_29 (dk_at dksX3_cheapestWith_2 9 rfl rfl)
theorem dX3_cheapestWith_57 : decode cX3_cheapestWith 57 = .ok (.invokevirtual 82, 3) := dk_182 0 82 (dk_at dksX3_cheapestWith_2 10 rfl rfl)
theorem dX3_cheapestWith_60 : decode cX3_cheapestWith 60 = .ok (.iadd, 1) := dk_96 (dk_at dksX3_cheapestWith_2 13 rfl rfl)
theorem dX3_cheapestWith_61 : decode cX3_cheapestWith 61 = .ok (.invokestatic 86, 3) := dk_184 0 86 (dk_at dksX3_cheapestWith_2 14 rfl rfl)
theorem dX3_cheapestWith_64 : decode cX3_cheapestWith 64 = .ok (.istore 4, 2) := dk_54 4 (dk_at dksX3_cheapestWith_2 17 rfl rfl)
theorem dX3_cheapestWith_66 : decode cX3_cheapestWith 66 = .ok (.iinc 5 1, 3) := dk_132 5 1 (dk_at dksX3_cheapestWith_2 19 rfl rfl)
theorem dX3_cheapestWith_69 : decode cX3_cheapestWith 69 = .ok (.goto (-58), 3) := dk_167 255 198 (dk_at dksX3_cheapestWith_3 0 rfl rfl)
theorem dX3_cheapestWith_72 : decode cX3_cheapestWith 72 = .ok (.iload 4, 2) := dk_21 4 (dk_at dksX3_cheapestWith_3 3 rfl rfl)
theorem dX3_cheapestWith_74 : decode cX3_cheapestWith 74 = .ok (.ireturn, 1) := dk_172 (dk_at dksX3_cheapestWith_3 5 rfl rfl)
theorem q158 : (Jvm.Cond.initialized "CopyPrices$Table") ∈ lw_all := lw_g (lw_at lw_m1 21 rfl) rfl
theorem q199 : (Jvm.Cond.fieldLinkNest "CopyPrices$Table" (79 : Nat) "CopyPrices$World" "settings" "[I" "CopyPrices") ∈ lw_tbl := lw_at lw_m1 62 rfl
theorem q207 : (Jvm.Cond.fieldLinkNest "CopyPrices$Table" (31 : Nat) "CopyPrices$World" "many" "I" "CopyPrices") ∈ lw_tbl := lw_at lw_m1 70 rfl
theorem q578 : (Jvm.Cond.instantiable "CopyPrices$Table" (6 : Nat)) ∈ lw_all := lw_g (lw_at lw_m2 201 rfl) rfl
theorem q580 : (Jvm.Cond.instanceMethod ({ cls := "CopyPrices$Table", name := "<init>", desc := "()V" } : Jvm.MethodName)) ∈ lw_all := lw_g (lw_at lw_m2 203 rfl) rfl
theorem q581 : (Jvm.Cond.code ({ cls := "CopyPrices$Table", name := "<init>", desc := "()V" } : Jvm.MethodName) prog_10_method_1_code (1 : Nat) (Option.none : Option Jvm.ClassFile.FieldType)) ∈ lw_all := lw_g (lw_at lw_m2 204 rfl) rfl
theorem q582 : (Jvm.Cond.methodLink "CopyPrices$Table" (3 : Nat) ({ cls := "java/lang/Object", name := "<init>", desc := "()V" } : Jvm.MethodName)) ∈ lw_all := lw_g (lw_at lw_m2 205 rfl) rfl
theorem q583 : (Jvm.Cond.fieldLink "CopyPrices$Table" (27 : Nat) "CopyPrices$Table" "world" "LCopyPrices$World;") ∈ lw_all := lw_g (lw_at lw_m2 206 rfl) rfl
theorem q584 : (Jvm.Cond.fieldLink "CopyPrices$Table" (11 : Nat) "CopyPrices$Table" "rest" "[I") ∈ lw_all := lw_g (lw_at lw_m2 207 rfl) rfl
theorem q585 : (Jvm.Cond.fieldLink "CopyPrices$Table" (15 : Nat) "CopyPrices$Table" "fore" "[I") ∈ lw_all := lw_g (lw_at lw_m2 208 rfl) rfl
theorem q586 : (Jvm.Cond.fieldLink "CopyPrices$Table" (18 : Nat) "CopyPrices$Table" "far" "[I") ∈ lw_all := lw_g (lw_at lw_m2 209 rfl) rfl
theorem q587 : (Jvm.Cond.fieldLink "CopyPrices$Table" (21 : Nat) "CopyPrices$Table" "longest" "[I") ∈ lw_all := lw_g (lw_at lw_m2 210 rfl) rfl
theorem q588 : (Jvm.Cond.fieldLink "CopyPrices$Table" (24 : Nat) "CopyPrices$Table" "many" "[I") ∈ lw_all := lw_g (lw_at lw_m2 211 rfl) rfl
theorem q589 : (Jvm.Cond.lays "CopyPrices$Table" "CopyPrices$Table" "world" "LCopyPrices$World;") ∈ lw_all := lw_g (lw_at lw_m2 212 rfl) rfl
theorem q590 : (Jvm.Cond.soleField "CopyPrices$Table" "world") ∈ lw_all := lw_g (lw_at lw_m2 213 rfl) rfl
theorem q591 : (Jvm.Cond.laysFinal "CopyPrices$Table" "CopyPrices$Table" "rest" "[I") ∈ lw_all := lw_g (lw_at lw_m2 214 rfl) rfl
theorem q592 : (Jvm.Cond.soleField "CopyPrices$Table" "rest") ∈ lw_all := lw_g (lw_at lw_m2 215 rfl) rfl
theorem q593 : (Jvm.Cond.laysFinal "CopyPrices$Table" "CopyPrices$Table" "fore" "[I") ∈ lw_all := lw_g (lw_at lw_m2 216 rfl) rfl
theorem q594 : (Jvm.Cond.soleField "CopyPrices$Table" "fore") ∈ lw_all := lw_g (lw_at lw_m2 217 rfl) rfl
theorem q595 : (Jvm.Cond.laysFinal "CopyPrices$Table" "CopyPrices$Table" "far" "[I") ∈ lw_all := lw_g (lw_at lw_m2 218 rfl) rfl
theorem q596 : (Jvm.Cond.soleField "CopyPrices$Table" "far") ∈ lw_all := lw_g (lw_at lw_m2 219 rfl) rfl
theorem q597 : (Jvm.Cond.laysFinal "CopyPrices$Table" "CopyPrices$Table" "longest" "[I") ∈ lw_all := lw_g (lw_at lw_m2 220 rfl) rfl
theorem q598 : (Jvm.Cond.soleField "CopyPrices$Table" "longest") ∈ lw_all := lw_g (lw_at lw_m2 221 rfl) rfl
theorem q599 : (Jvm.Cond.laysFinal "CopyPrices$Table" "CopyPrices$Table" "many" "[I") ∈ lw_all := lw_g (lw_at lw_m2 222 rfl) rfl
theorem q600 : (Jvm.Cond.soleField "CopyPrices$Table" "many") ∈ lw_all := lw_g (lw_at lw_m2 223 rfl) rfl
theorem q601 : (Jvm.Cond.superclass "CopyPrices$Table" "java/lang/Object") ∈ lw_all := lw_g (lw_at lw_m2 224 rfl) rfl
theorem q957 : (Jvm.Cond.instanceMethod ({ cls := "CopyPrices$Table", name := "over", desc := "(LCopyPrices$World;)LCopyPrices$Table;" } : Jvm.MethodName)) ∈ lw_all := lw_g (lw_at lw_m4 100 rfl) rfl
theorem q958 : (Jvm.Cond.selects "CopyPrices$Table" ({ cls := "CopyPrices$Table", name := "over", desc := "(LCopyPrices$World;)LCopyPrices$Table;" } : Jvm.MethodName) ({ cls := "CopyPrices$Table", name := "over", desc := "(LCopyPrices$World;)LCopyPrices$Table;" } : Jvm.MethodName)) ∈ lw_all := lw_g (lw_at lw_m4 101 rfl) rfl
theorem q959 : (Jvm.Cond.code ({ cls := "CopyPrices$Table", name := "over", desc := "(LCopyPrices$World;)LCopyPrices$Table;" } : Jvm.MethodName) prog_10_method_2_code (4 : Nat) (Option.some (Jvm.ClassFile.FieldType.object "CopyPrices$Table"))) ∈ lw_all := lw_g (lw_at lw_m4 102 rfl) rfl
theorem q960 : (Jvm.Cond.methodLink "CopyPrices$Table" (36 : Nat) ({ cls := "CopyPrices$Table", name := "at", desc := "(IIZ)I" } : Jvm.MethodName)) ∈ lw_all := lw_g (lw_at lw_m4 103 rfl) rfl
theorem q961 : (Jvm.Cond.static ({ cls := "CopyPrices$Table", name := "at", desc := "(IIZ)I" } : Jvm.MethodName)) ∈ lw_all := lw_g (lw_at lw_m4 104 rfl) rfl
theorem q962 : (Jvm.Cond.code ({ cls := "CopyPrices$Table", name := "at", desc := "(IIZ)I" } : Jvm.MethodName) prog_10_method_4_code (3 : Nat) (Option.some Jvm.ClassFile.FieldType.int)) ∈ lw_all := lw_g (lw_at lw_m4 105 rfl) rfl
theorem q963 : (Jvm.Cond.methodLinkNest "CopyPrices$Table" (64 : Nat) ({ cls := "CopyPrices", name := "one", desc := "(Z)I" } : Jvm.MethodName) "CopyPrices") ∈ lw_tbl := lw_at lw_m4 106 rfl
theorem q966 : (Jvm.Cond.methodLink "CopyPrices$Table" (40 : Nat) ({ cls := "java/util/Arrays", name := "fill", desc := "([IIII)V" } : Jvm.MethodName)) ∈ lw_all := lw_g (lw_at lw_m4 109 rfl) rfl
theorem q967 : (Jvm.Cond.methodLink "CopyPrices$Table" (46 : Nat) ({ cls := "CopyPrices$Table", name := "laysCopies", desc := "(I)V" } : Jvm.MethodName)) ∈ lw_all := lw_g (lw_at lw_m4 110 rfl) rfl
theorem q968 : (Jvm.Cond.privateMethod ({ cls := "CopyPrices$Table", name := "laysCopies", desc := "(I)V" } : Jvm.MethodName)) ∈ lw_tbl := lw_at lw_m4 111 rfl
theorem q969 : (Jvm.Cond.instanceMethod ({ cls := "CopyPrices$Table", name := "laysCopies", desc := "(I)V" } : Jvm.MethodName)) ∈ lw_all := lw_g (lw_at lw_m4 112 rfl) rfl
theorem q970 : (Jvm.Cond.code ({ cls := "CopyPrices$Table", name := "laysCopies", desc := "(I)V" } : Jvm.MethodName) prog_10_method_3_code (6 : Nat) (Option.none : Option Jvm.ClassFile.FieldType)) ∈ lw_all := lw_g (lw_at lw_m4 113 rfl) rfl
theorem q971 : (Jvm.Cond.methodLink "CopyPrices$Table" (54 : Nat) ({ cls := "CopyPrices$World", name := "candidates", desc := "(I)I" } : Jvm.MethodName)) ∈ lw_all := lw_g (lw_at lw_m4 114 rfl) rfl
theorem q1008 : (Jvm.Cond.methodLink "CopyPrices$Table" (58 : Nat) ({ cls := "CopyPrices$World", name := "candidate", desc := "(II)I" } : Jvm.MethodName)) ∈ lw_all := lw_g (lw_at lw_m4 151 rfl) rfl
theorem q1017 : (Jvm.Cond.methodLink "CopyPrices$Table" (62 : Nat) ({ cls := "CopyPrices$World", name := "longest", desc := "(II)I" } : Jvm.MethodName)) ∈ lw_all := lw_g (lw_at lw_m4 160 rfl) rfl
theorem q1026 : (Jvm.Cond.methodLink "CopyPrices$Table" (50 : Nat) ({ cls := "CopyPrices$Table", name := "laysRest", desc := "(II)V" } : Jvm.MethodName)) ∈ lw_all := lw_g (lw_at lw_m4 169 rfl) rfl
theorem q1027 : (Jvm.Cond.privateMethod ({ cls := "CopyPrices$Table", name := "laysRest", desc := "(II)V" } : Jvm.MethodName)) ∈ lw_tbl := lw_at lw_m4 170 rfl
theorem q1028 : (Jvm.Cond.instanceMethod ({ cls := "CopyPrices$Table", name := "laysRest", desc := "(II)V" } : Jvm.MethodName)) ∈ lw_all := lw_g (lw_at lw_m4 171 rfl) rfl
theorem q1029 : (Jvm.Cond.code ({ cls := "CopyPrices$Table", name := "laysRest", desc := "(II)V" } : Jvm.MethodName) prog_10_method_8_code (6 : Nat) (Option.none : Option Jvm.ClassFile.FieldType)) ∈ lw_all := lw_g (lw_at lw_m4 172 rfl) rfl
theorem q1030 : (Jvm.Cond.constant "CopyPrices$Table" (78 : Nat) (1000000 : Int32)) ∈ lw_all := lw_g (lw_at lw_m4 173 rfl) rfl
theorem q1031 : (Jvm.Cond.methodLink "CopyPrices$Table" (82 : Nat) ({ cls := "CopyPrices$Table", name := "withCopy", desc := "(IIII)I" } : Jvm.MethodName)) ∈ lw_all := lw_g (lw_at lw_m4 174 rfl) rfl
theorem q1032 : (Jvm.Cond.privateMethod ({ cls := "CopyPrices$Table", name := "withCopy", desc := "(IIII)I" } : Jvm.MethodName)) ∈ lw_tbl := lw_at lw_m4 175 rfl
theorem q1033 : (Jvm.Cond.instanceMethod ({ cls := "CopyPrices$Table", name := "withCopy", desc := "(IIII)I" } : Jvm.MethodName)) ∈ lw_all := lw_g (lw_at lw_m4 176 rfl) rfl
theorem q1034 : (Jvm.Cond.code ({ cls := "CopyPrices$Table", name := "withCopy", desc := "(IIII)I" } : Jvm.MethodName) prog_10_method_6_code (5 : Nat) (Option.some Jvm.ClassFile.FieldType.int)) ∈ lw_all := lw_g (lw_at lw_m4 177 rfl) rfl
theorem q1035 : (Jvm.Cond.methodLink "CopyPrices$Table" (68 : Nat) ({ cls := "CopyPrices$World", name := "copyPrice", desc := "(III)I" } : Jvm.MethodName)) ∈ lw_all := lw_g (lw_at lw_m4 178 rfl) rfl
theorem q1046 : (Jvm.Cond.methodLink "CopyPrices$Table" (72 : Nat) ({ cls := "CopyPrices$Table", name := "rest", desc := "(IIZ)I" } : Jvm.MethodName)) ∈ lw_all := lw_g (lw_at lw_m4 189 rfl) rfl
theorem q1047 : (Jvm.Cond.instanceMethod ({ cls := "CopyPrices$Table", name := "rest", desc := "(IIZ)I" } : Jvm.MethodName)) ∈ lw_all := lw_g (lw_at lw_m4 190 rfl) rfl
theorem q1048 : (Jvm.Cond.selects "CopyPrices$Table" ({ cls := "CopyPrices$Table", name := "rest", desc := "(IIZ)I" } : Jvm.MethodName) ({ cls := "CopyPrices$Table", name := "rest", desc := "(IIZ)I" } : Jvm.MethodName)) ∈ lw_all := lw_g (lw_at lw_m4 191 rfl) rfl
theorem q1049 : (Jvm.Cond.code ({ cls := "CopyPrices$Table", name := "rest", desc := "(IIZ)I" } : Jvm.MethodName) prog_10_method_5_code (4 : Nat) (Option.some Jvm.ClassFile.FieldType.int)) ∈ lw_all := lw_g (lw_at lw_m4 192 rfl) rfl
theorem q1050 : (Jvm.Cond.methodLink "CopyPrices$Table" (86 : Nat) ({ cls := "java/lang/Math", name := "min", desc := "(II)I" } : Jvm.MethodName)) ∈ lw_all := lw_g (lw_at lw_m4 193 rfl) rfl
theorem q1051 : (Jvm.Cond.methodLink "CopyPrices$Table" (91 : Nat) ({ cls := "CopyPrices$Table", name := "withLiteral", desc := "(IIZ)I" } : Jvm.MethodName)) ∈ lw_all := lw_g (lw_at lw_m4 194 rfl) rfl
theorem q1052 : (Jvm.Cond.privateMethod ({ cls := "CopyPrices$Table", name := "withLiteral", desc := "(IIZ)I" } : Jvm.MethodName)) ∈ lw_tbl := lw_at lw_m4 195 rfl
theorem q1053 : (Jvm.Cond.instanceMethod ({ cls := "CopyPrices$Table", name := "withLiteral", desc := "(IIZ)I" } : Jvm.MethodName)) ∈ lw_all := lw_g (lw_at lw_m4 196 rfl) rfl
theorem q1054 : (Jvm.Cond.code ({ cls := "CopyPrices$Table", name := "withLiteral", desc := "(IIZ)I" } : Jvm.MethodName) prog_10_method_7_code (4 : Nat) (Option.some Jvm.ClassFile.FieldType.int)) ∈ lw_all := lw_g (lw_at lw_m4 197 rfl) rfl
theorem q1055 : (Jvm.Cond.methodLink "CopyPrices$Table" (74 : Nat) ({ cls := "CopyPrices$World", name := "literalPrice", desc := "(IZ)I" } : Jvm.MethodName)) ∈ lw_all := lw_g (lw_at lw_m4 198 rfl) rfl
theorem q1061 : (Jvm.Cond.instanceMethod ({ cls := "CopyPrices$Table", name := "through", desc := "(I)I" } : Jvm.MethodName)) ∈ lw_all := lw_g (lw_at lw_m4 204 rfl) rfl
theorem q1062 : (Jvm.Cond.selects "CopyPrices$Table" ({ cls := "CopyPrices$Table", name := "through", desc := "(I)I" } : Jvm.MethodName) ({ cls := "CopyPrices$Table", name := "through", desc := "(I)I" } : Jvm.MethodName)) ∈ lw_all := lw_g (lw_at lw_m4 205 rfl) rfl
theorem q1063 : (Jvm.Cond.code ({ cls := "CopyPrices$Table", name := "through", desc := "(I)I" } : Jvm.MethodName) prog_10_method_13_code (4 : Nat) (Option.some Jvm.ClassFile.FieldType.int)) ∈ lw_all := lw_g (lw_at lw_m4 206 rfl) rfl
theorem q1064 : (Jvm.Cond.methodLink "CopyPrices$Table" (112 : Nat) ({ cls := "CopyPrices$Table", name := "laysFore", desc := "()V" } : Jvm.MethodName)) ∈ lw_all := lw_g (lw_at lw_m4 207 rfl) rfl
theorem q1065 : (Jvm.Cond.privateMethod ({ cls := "CopyPrices$Table", name := "laysFore", desc := "()V" } : Jvm.MethodName)) ∈ lw_tbl := lw_at lw_m4 208 rfl
theorem q1066 : (Jvm.Cond.instanceMethod ({ cls := "CopyPrices$Table", name := "laysFore", desc := "()V" } : Jvm.MethodName)) ∈ lw_all := lw_g (lw_at lw_m4 209 rfl) rfl
theorem q1067 : (Jvm.Cond.code ({ cls := "CopyPrices$Table", name := "laysFore", desc := "()V" } : Jvm.MethodName) prog_10_method_11_code (3 : Nat) (Option.none : Option Jvm.ClassFile.FieldType)) ∈ lw_all := lw_g (lw_at lw_m4 210 rfl) rfl
theorem q1068 : (Jvm.Cond.methodLink "CopyPrices$Table" (105 : Nat) ({ cls := "java/util/Arrays", name := "fill", desc := "([II)V" } : Jvm.MethodName)) ∈ lw_all := lw_g (lw_at lw_m4 211 rfl) rfl
theorem q1071 : (Jvm.Cond.methodLink "CopyPrices$Table" (108 : Nat) ({ cls := "CopyPrices$Table", name := "goesOn", desc := "(IIZ)V" } : Jvm.MethodName)) ∈ lw_all := lw_g (lw_at lw_m4 214 rfl) rfl
theorem q1072 : (Jvm.Cond.privateMethod ({ cls := "CopyPrices$Table", name := "goesOn", desc := "(IIZ)V" } : Jvm.MethodName)) ∈ lw_tbl := lw_at lw_m4 215 rfl
theorem q1073 : (Jvm.Cond.instanceMethod ({ cls := "CopyPrices$Table", name := "goesOn", desc := "(IIZ)V" } : Jvm.MethodName)) ∈ lw_all := lw_g (lw_at lw_m4 216 rfl) rfl
theorem q1074 : (Jvm.Cond.code ({ cls := "CopyPrices$Table", name := "goesOn", desc := "(IIZ)V" } : Jvm.MethodName) prog_10_method_12_code (8 : Nat) (Option.none : Option Jvm.ClassFile.FieldType)) ∈ lw_all := lw_g (lw_at lw_m4 217 rfl) rfl
theorem q1169 : (Jvm.Cond.instanceMethod ({ cls := "CopyPrices$Table", name := "chooser", desc := "()LCopyPrices$Chooser;" } : Jvm.MethodName)) ∈ lw_all := lw_g (lw_at lw_m5 72 rfl) rfl
theorem q1170 : (Jvm.Cond.selects "CopyPrices$Table" ({ cls := "CopyPrices$Table", name := "chooser", desc := "()LCopyPrices$Chooser;" } : Jvm.MethodName) ({ cls := "CopyPrices$Table", name := "chooser", desc := "()LCopyPrices$Chooser;" } : Jvm.MethodName)) ∈ lw_all := lw_g (lw_at lw_m5 73 rfl) rfl
theorem q1171 : (Jvm.Cond.code ({ cls := "CopyPrices$Table", name := "chooser", desc := "()LCopyPrices$Chooser;" } : Jvm.MethodName) prog_10_method_10_code (1 : Nat) (Option.some (Jvm.ClassFile.FieldType.object "CopyPrices$Chooser"))) ∈ lw_all := lw_g (lw_at lw_m5 74 rfl) rfl
theorem q1172 : (Jvm.Cond.privateMethod ({ cls := "CopyPrices$Table", name := "lambda$chooser$0", desc := "(IIZ)LCopyPrices$Step;" } : Jvm.MethodName)) ∈ lw_tbl := lw_at lw_m5 75 rfl
theorem q1173 : (Jvm.Cond.instanceMethod ({ cls := "CopyPrices$Table", name := "lambda$chooser$0", desc := "(IIZ)LCopyPrices$Step;" } : Jvm.MethodName)) ∈ lw_all := lw_g (lw_at lw_m5 76 rfl) rfl
theorem q1174 : (Jvm.Cond.code ({ cls := "CopyPrices$Table", name := "lambda$chooser$0", desc := "(IIZ)LCopyPrices$Step;" } : Jvm.MethodName) prog_10_method_15_code (4 : Nat) (Option.some (Jvm.ClassFile.FieldType.object "CopyPrices$Step"))) ∈ lw_all := lw_g (lw_at lw_m5 77 rfl) rfl
theorem q1175 : (Jvm.Cond.methodLink "CopyPrices$Table" (115 : Nat) ({ cls := "CopyPrices$Table", name := "best", desc := "(IIZ)LCopyPrices$Step;" } : Jvm.MethodName)) ∈ lw_all := lw_g (lw_at lw_m5 78 rfl) rfl
theorem q1176 : (Jvm.Cond.privateMethod ({ cls := "CopyPrices$Table", name := "best", desc := "(IIZ)LCopyPrices$Step;" } : Jvm.MethodName)) ∈ lw_tbl := lw_at lw_m5 79 rfl
theorem q1177 : (Jvm.Cond.instanceMethod ({ cls := "CopyPrices$Table", name := "best", desc := "(IIZ)LCopyPrices$Step;" } : Jvm.MethodName)) ∈ lw_all := lw_g (lw_at lw_m5 80 rfl) rfl
theorem q1178 : (Jvm.Cond.code ({ cls := "CopyPrices$Table", name := "best", desc := "(IIZ)LCopyPrices$Step;" } : Jvm.MethodName) prog_10_method_9_code (7 : Nat) (Option.some (Jvm.ClassFile.FieldType.object "CopyPrices$Step"))) ∈ lw_all := lw_g (lw_at lw_m5 81 rfl) rfl
theorem q1179 : (Jvm.Cond.methodLink "CopyPrices$Table" (94 : Nat) ({ cls := "CopyPrices$World", name := "literal", desc := "(IIZ)LCopyPrices$Literal;" } : Jvm.MethodName)) ∈ lw_all := lw_g (lw_at lw_m5 82 rfl) rfl
theorem q1180 : (Jvm.Cond.methodLink "CopyPrices$Table" (98 : Nat) ({ cls := "CopyPrices$World", name := "copy", desc := "(IIII)LCopyPrices$Copy;" } : Jvm.MethodName)) ∈ lw_all := lw_g (lw_at lw_m5 83 rfl) rfl
theorem q1656 : (Jvm.Cond.instanceMethod ({ cls := "CopyPrices$Table", name := "cheapestWith", desc := "(III)I" } : Jvm.MethodName)) ∈ lw_all := lw_g (lw_at lw_m7 79 rfl) rfl
theorem q1657 : (Jvm.Cond.selects "CopyPrices$Table" ({ cls := "CopyPrices$Table", name := "cheapestWith", desc := "(III)I" } : Jvm.MethodName) ({ cls := "CopyPrices$Table", name := "cheapestWith", desc := "(III)I" } : Jvm.MethodName)) ∈ lw_all := lw_g (lw_at lw_m7 80 rfl) rfl
theorem q1658 : (Jvm.Cond.code ({ cls := "CopyPrices$Table", name := "cheapestWith", desc := "(III)I" } : Jvm.MethodName) prog_10_method_14_code (7 : Nat) (Option.some Jvm.ClassFile.FieldType.int)) ∈ lw_all := lw_g (lw_at lw_m7 81 rfl) rfl
theorem q1774 : (Jvm.Cond.selects "CopyPrices$Table" ({ cls := "java/lang/Object", name := "getClass", desc := "()Ljava/lang/Class;" } : Jvm.MethodName) ({ cls := "java/lang/Object", name := "getClass", desc := "()Ljava/lang/Class;" } : Jvm.MethodName)) ∈ lw_all := lw_g (lw_at lw_m7 197 rfl) rfl
theorem q2602 : (Jvm.Cond.castable "CopyPrices$Table" "java/lang/Object") ∈ lw_tbl := lw_at lw_m11 65 rfl
theorem in_X3 : ∀ w ∈ wsX30, w ∈ lw_all := lw_in wsX30 [589, 591, 593, 595, 597, 599] (by decide +kernel) (by decide +kernel)
/-! CopyPrices$Reader -/
set_option maxRecDepth 100000
def RX5 : String := "CopyPrices$Reader"
def TX5 : u_T := fun k => match k with
  | 0 => ("CopyPrices$Reader", "size", "I", true)
  | 1 => ("CopyPrices$Reader", "made", "LCopyPrices$World;", true)
  | 2 => ("CopyPrices$Reader", "at", "I", false)
  | 3 => ("CopyPrices$Reader", "next", "I", false)
  | 4 => ("CopyPrices$Reader", "value", "I", false)
  | 5 => ("CopyPrices$Reader", "token", "I", false)
  | 6 => ("CopyPrices$Reader", "told", "I", false)
  | 7 => ("CopyPrices$Reader", "letters", "I", false)
  | 8 => ("CopyPrices$Reader", "pins", "I", false)
  | 9 => ("CopyPrices$Reader", "word", "Ljava/lang/String;", false)
  | _ => ("CopyPrices$Reader", "this$0", "LCopyPrices;", true)
def tyX5 : Nat → FieldType := fun k => match k with
  | 0 => .int
  | 1 => .object "CopyPrices$World"
  | 2 => .int
  | 3 => .int
  | 4 => .int
  | 5 => .int
  | 6 => .int
  | 7 => .int
  | 8 => .int
  | 9 => .object "java/lang/String"
  | _ => .object "CopyPrices"
abbrev wsX50 : List Cond := u_ws RX5 TX5 11
theorem nmX5 : ∀ a, a < 11 → ∀ b, b < 11 → a ≠ b → (TX5 a).2.1 ≠ (TX5 b).2.1 := by decide +kernel
theorem tyX5_ok : ∀ k, k < 11 → parseFieldDescriptor (TX5 k).2.2.1 = some (tyX5 k) := by decide +kernel
abbrev cX5_init : ByteArray := prog_7_method_1_code
def yX5_init : MethodName := ⟨RX5, "<init>", "(LCopyPrices;)V"⟩
def dkwX5_init_1 : List UInt8 := [181, 0, 24, 42, 187, 0, 28, 89, 183, 0, 30, 181, 0, 31, 42, 182, 0, 35, 177]
abbrev dktX5_init_1 : List UInt8 := dkwX5_init_1 ++ []
def dkwX5_init_0 : List UInt8 := [42, 43, 181, 0, 3, 42, 183, 0, 9, 42, 42, 180, 0, 3, 180, 0, 15, 181, 0, 19, 42, 18, 22]
abbrev dktX5_init_0 : List UInt8 := dkwX5_init_0 ++ dktX5_init_1
theorem dksX5_init_0 : cX5_init.data.toList.drop 0 = dktX5_init_0 := by decide +kernel
theorem dksX5_init_1 : cX5_init.data.toList.drop 23 = dktX5_init_1 := dk_seg dksX5_init_0 23 rfl rfl
theorem dX5_init_0 : decode cX5_init 0 = .ok (.aload_n 0, 1) := dk_42 (dk_at dksX5_init_0 0 rfl rfl)
theorem dX5_init_1 : decode cX5_init 1 = .ok (.aload_n 1, 1) := dk_43 (dk_at dksX5_init_0 1 rfl rfl)
theorem dX5_init_2 : decode cX5_init 2 = .ok (.putfield 3, 3) := dk_181 0 3 (dk_at dksX5_init_0 2 rfl rfl)
theorem dX5_init_5 : decode cX5_init 5 = .ok (.aload_n 0, 1) := dk_42 (dk_at dksX5_init_0 5 rfl rfl)
theorem dX5_init_6 : decode cX5_init 6 = .ok (.invokespecial 9, 3) := dk_183 0 9 (dk_at dksX5_init_0 6 rfl rfl)
theorem dX5_init_9 : decode cX5_init 9 = .ok (.aload_n 0, 1) := dk_42 (dk_at dksX5_init_0 9 rfl rfl)
theorem dX5_init_10 : decode cX5_init 10 = .ok (.aload_n 0, 1) := dk_42 (dk_at dksX5_init_0 10 rfl rfl)
theorem dX5_init_11 : decode cX5_init 11 = .ok (.getfield 3, 3) := dk_180 0 3 (dk_at dksX5_init_0 11 rfl rfl)
theorem dX5_init_14 : decode cX5_init 14 = .ok (.getfield 15, 3) := dk_180 0 15 (dk_at dksX5_init_0 14 rfl rfl)
theorem dX5_init_17 : decode cX5_init 17 = .ok (.putfield 19, 3) := dk_181 0 19 (dk_at dksX5_init_0 17 rfl rfl)
theorem dX5_init_20 : decode cX5_init 20 = .ok (.aload_n 0, 1) := dk_42 (dk_at dksX5_init_0 20 rfl rfl)
theorem dX5_init_21 : decode cX5_init 21 = .ok (.ldc 22, 2) := dk_18 22 (dk_at dksX5_init_0 21 rfl rfl)
theorem dX5_init_23 : decode cX5_init 23 = .ok (.putfield 24, 3) := dk_181 0 24 (dk_at dksX5_init_1 0 rfl rfl)
theorem dX5_init_26 : decode cX5_init 26 = .ok (.aload_n 0, 1) := dk_42 (dk_at dksX5_init_1 3 rfl rfl)
theorem dX5_init_27 : decode cX5_init 27 = .ok (.new 28, 3) := dk_187 0 28 (dk_at dksX5_init_1 4 rfl rfl)
theorem dX5_init_30 : decode cX5_init 30 = .ok (.dup, 1) := dk_89 (dk_at dksX5_init_1 7 rfl rfl)
theorem dX5_init_31 : decode cX5_init 31 = .ok (.invokespecial 30, 3) := dk_183 0 30 (dk_at dksX5_init_1 8 rfl rfl)
theorem dX5_init_34 : decode cX5_init 34 = .ok (.putfield 31, 3) := dk_181 0 31 (dk_at dksX5_init_1 11 rfl rfl)
theorem dX5_init_37 : decode cX5_init 37 = .ok (.aload_n 0, 1) := dk_42 (dk_at dksX5_init_1 14 rfl rfl)
theorem dX5_init_38 : decode cX5_init 38 = .ok (.invokevirtual 35, 3) := dk_182 0 35 (dk_at dksX5_init_1 15 rfl rfl)
theorem dX5_init_41 : decode cX5_init 41 = .ok (.return_, 1) := dk_177 (dk_at dksX5_init_1 18 rfl rfl)
abbrev cX5_moves : ByteArray := prog_7_method_3_code
def yX5_moves : MethodName := ⟨RX5, "moves", "()V"⟩
def dkwX5_moves_7 : List UInt8 := [160, 0, 7, 42, 182, 0, 73, 177]
abbrev dktX5_moves_7 : List UInt8 := dkwX5_moves_7 ++ []
def dkwX5_moves_6 : List UInt8 := [4, 96, 181, 0, 42, 42, 180, 0, 67, 4, 160, 0, 7, 42, 182, 0, 70, 42, 180, 0, 67, 5]
abbrev dktX5_moves_6 : List UInt8 := dkwX5_moves_6 ++ dktX5_moves_7
def dkwX5_moves_5 : List UInt8 := [160, 0, 7, 6, 167, 0, 4, 7, 181, 0, 67, 42, 180, 0, 67, 6, 161, 0, 13, 42, 89, 180, 0, 42]
abbrev dktX5_moves_5 : List UInt8 := dkwX5_moves_5 ++ dktX5_moves_6
def dkwX5_moves_4 : List UInt8 := [167, 0, 32, 27, 133, 20, 0, 63, 20, 0, 65, 184, 0, 59, 153, 0, 7, 5, 167, 0, 14, 27, 16, 59]
abbrev dktX5_moves_4 : List UInt8 := dkwX5_moves_4 ++ dktX5_moves_5
def dkwX5_moves_3 : List UInt8 := [160, 0, 7, 3, 167, 0, 50, 27, 133, 20, 0, 55, 20, 0, 57, 184, 0, 59, 153, 0, 7, 4]
abbrev dktX5_moves_3 : List UInt8 := dkwX5_moves_3 ++ dktX5_moves_4
def dkwX5_moves_2 : List UInt8 := [42, 3, 181, 0, 52, 42, 18, 22, 181, 0, 24, 42, 42, 180, 0, 42, 182, 0, 45, 60, 42, 27, 2]
abbrev dktX5_moves_2 : List UInt8 := dkwX5_moves_2 ++ dktX5_moves_3
def dkwX5_moves_1 : List UInt8 := [160, 0, 16, 42, 89, 180, 0, 42, 4, 96, 181, 0, 42, 167, 255, 220, 42, 42, 180, 0, 42, 181, 0, 49]
abbrev dktX5_moves_1 : List UInt8 := dkwX5_moves_1 ++ dktX5_moves_2
def dkwX5_moves_0 : List UInt8 := [42, 42, 180, 0, 42, 182, 0, 45, 16, 32, 159, 0, 16, 42, 42, 180, 0, 42, 182, 0, 45, 16, 10]
abbrev dktX5_moves_0 : List UInt8 := dkwX5_moves_0 ++ dktX5_moves_1
theorem dksX5_moves_0 : cX5_moves.data.toList.drop 0 = dktX5_moves_0 := by decide +kernel
theorem dksX5_moves_1 : cX5_moves.data.toList.drop 23 = dktX5_moves_1 := dk_seg dksX5_moves_0 23 rfl rfl
theorem dksX5_moves_2 : cX5_moves.data.toList.drop 47 = dktX5_moves_2 := dk_seg dksX5_moves_1 24 rfl rfl
theorem dksX5_moves_3 : cX5_moves.data.toList.drop 70 = dktX5_moves_3 := dk_seg dksX5_moves_2 23 rfl rfl
theorem dksX5_moves_4 : cX5_moves.data.toList.drop 92 = dktX5_moves_4 := dk_seg dksX5_moves_3 22 rfl rfl
theorem dksX5_moves_5 : cX5_moves.data.toList.drop 116 = dktX5_moves_5 := dk_seg dksX5_moves_4 24 rfl rfl
theorem dksX5_moves_6 : cX5_moves.data.toList.drop 140 = dktX5_moves_6 := dk_seg dksX5_moves_5 24 rfl rfl
theorem dksX5_moves_7 : cX5_moves.data.toList.drop 162 = dktX5_moves_7 := dk_seg dksX5_moves_6 22 rfl rfl
theorem dX5_moves_0 : decode cX5_moves 0 = .ok (.aload_n 0, 1) := dk_42 (dk_at dksX5_moves_0 0 rfl rfl)
theorem dX5_moves_1 : decode cX5_moves 1 = .ok (.aload_n 0, 1) := dk_42 (dk_at dksX5_moves_0 1 rfl rfl)
theorem dX5_moves_2 : decode cX5_moves 2 = .ok (.getfield 42, 3) := dk_180 0 42 (dk_at dksX5_moves_0 2 rfl rfl)
theorem dX5_moves_5 : decode cX5_moves 5 = .ok (.invokevirtual 45, 3) := dk_182 0 45 (dk_at dksX5_moves_0 5 rfl rfl)
theorem dX5_moves_8 : decode cX5_moves 8 = .ok (.bipush 32, 2) := dk_16 32 (dk_at dksX5_moves_0 8 rfl rfl)
theorem dX5_moves_10 : decode cX5_moves 10 = .ok (.if_icmp .eq 16, 3) := dk_159 0 16 (dk_at dksX5_moves_0 10 rfl rfl)
theorem dX5_moves_13 : decode cX5_moves 13 = .ok (.aload_n 0, 1) := dk_42 (dk_at dksX5_moves_0 13 rfl rfl)
theorem dX5_moves_14 : decode cX5_moves 14 = .ok (.aload_n 0, 1) := dk_42 (dk_at dksX5_moves_0 14 rfl rfl)
theorem dX5_moves_15 : decode cX5_moves 15 = .ok (.getfield 42, 3) := dk_180 0 42 (dk_at dksX5_moves_0 15 rfl rfl)
theorem dX5_moves_18 : decode cX5_moves 18 = .ok (.invokevirtual 45, 3) := dk_182 0 45 (dk_at dksX5_moves_0 18 rfl rfl)
theorem dX5_moves_21 : decode cX5_moves 21 = .ok (.bipush 10, 2) := dk_16 10 (dk_at dksX5_moves_0 21 rfl rfl)
theorem dX5_moves_23 : decode cX5_moves 23 = .ok (.if_icmp .ne 16, 3) := dk_160 0 16 (dk_at dksX5_moves_1 0 rfl rfl)
theorem dX5_moves_26 : decode cX5_moves 26 = .ok (.aload_n 0, 1) := dk_42 (dk_at dksX5_moves_1 3 rfl rfl)
theorem dX5_moves_27 : decode cX5_moves 27 = .ok (.dup, 1) := dk_89 (dk_at dksX5_moves_1 4 rfl rfl)
theorem dX5_moves_28 : decode cX5_moves 28 = .ok (.getfield 42, 3) := dk_180 0 42 (dk_at dksX5_moves_1 5 rfl rfl)
theorem dX5_moves_31 : decode cX5_moves 31 = .ok (.iconst 1, 1) := dk_4 (dk_at dksX5_moves_1 8 rfl rfl)
theorem dX5_moves_32 : decode cX5_moves 32 = .ok (.iadd, 1) := dk_96 (dk_at dksX5_moves_1 9 rfl rfl)
theorem dX5_moves_33 : decode cX5_moves 33 = .ok (.putfield 42, 3) := dk_181 0 42 (dk_at dksX5_moves_1 10 rfl rfl)
theorem dX5_moves_36 : decode cX5_moves 36 = .ok (.goto (-36), 3) := dk_167 255 220 (dk_at dksX5_moves_1 13 rfl rfl)
theorem dX5_moves_39 : decode cX5_moves 39 = .ok (.aload_n 0, 1) := dk_42 (dk_at dksX5_moves_1 16 rfl rfl)
theorem dX5_moves_40 : decode cX5_moves 40 = .ok (.aload_n 0, 1) := dk_42 (dk_at dksX5_moves_1 17 rfl rfl)
theorem dX5_moves_41 : decode cX5_moves 41 = .ok (.getfield 42, 3) := dk_180 0 42 (dk_at dksX5_moves_1 18 rfl rfl)
theorem dX5_moves_44 : decode cX5_moves 44 = .ok (.putfield 49, 3) := dk_181 0 49 (dk_at dksX5_moves_1 21 rfl rfl)
theorem dX5_moves_47 : decode cX5_moves 47 = .ok (.aload_n 0, 1) := dk_42 (dk_at dksX5_moves_2 0 rfl rfl)
theorem dX5_moves_48 : decode cX5_moves 48 = .ok (.iconst 0, 1) := dk_3 (dk_at dksX5_moves_2 1 rfl rfl)
theorem dX5_moves_49 : decode cX5_moves 49 = .ok (.putfield 52, 3) := dk_181 0 52 (dk_at dksX5_moves_2 2 rfl rfl)
theorem dX5_moves_52 : decode cX5_moves 52 = .ok (.aload_n 0, 1) := dk_42 (dk_at dksX5_moves_2 5 rfl rfl)
theorem dX5_moves_53 : decode cX5_moves 53 = .ok (.ldc 22, 2) := dk_18 22 (dk_at dksX5_moves_2 6 rfl rfl)
theorem dX5_moves_55 : decode cX5_moves 55 = .ok (.putfield 24, 3) := dk_181 0 24 (dk_at dksX5_moves_2 8 rfl rfl)
theorem dX5_moves_58 : decode cX5_moves 58 = .ok (.aload_n 0, 1) := dk_42 (dk_at dksX5_moves_2 11 rfl rfl)
theorem dX5_moves_59 : decode cX5_moves 59 = .ok (.aload_n 0, 1) := dk_42 (dk_at dksX5_moves_2 12 rfl rfl)
theorem dX5_moves_60 : decode cX5_moves 60 = .ok (.getfield 42, 3) := dk_180 0 42 (dk_at dksX5_moves_2 13 rfl rfl)
theorem dX5_moves_63 : decode cX5_moves 63 = .ok (.invokevirtual 45, 3) := dk_182 0 45 (dk_at dksX5_moves_2 16 rfl rfl)
theorem dX5_moves_66 : decode cX5_moves 66 = .ok (.istore_n 1, 1) := dk_60 (dk_at dksX5_moves_2 19 rfl rfl)
theorem dX5_moves_67 : decode cX5_moves 67 = .ok (.aload_n 0, 1) := dk_42 (dk_at dksX5_moves_2 20 rfl rfl)
theorem dX5_moves_68 : decode cX5_moves 68 = .ok (.iload_n 1, 1) := dk_27 (dk_at dksX5_moves_2 21 rfl rfl)
theorem dX5_moves_69 : decode cX5_moves 69 = .ok (.iconst (-1), 1) := dk_2 (dk_at dksX5_moves_2 22 rfl rfl)
theorem dX5_moves_70 : decode cX5_moves 70 = .ok (.if_icmp .ne 7, 3) := dk_160 0 7 (dk_at dksX5_moves_3 0 rfl rfl)
theorem dX5_moves_73 : decode cX5_moves 73 = .ok (.iconst 0, 1) := dk_3 (dk_at dksX5_moves_3 3 rfl rfl)
theorem dX5_moves_74 : decode cX5_moves 74 = .ok (.goto 50, 3) := dk_167 0 50 (dk_at dksX5_moves_3 4 rfl rfl)
theorem dX5_moves_77 : decode cX5_moves 77 = .ok (.iload_n 1, 1) := dk_27 (dk_at dksX5_moves_3 7 rfl rfl)
theorem dX5_moves_78 : decode cX5_moves 78 = .ok (.i2l, 1) := dk_133 (dk_at dksX5_moves_3 8 rfl rfl)
theorem dX5_moves_79 : decode cX5_moves 79 = .ok (.ldc2_w 55, 3) := dk_20 0 55 (dk_at dksX5_moves_3 9 rfl rfl)
theorem dX5_moves_82 : decode cX5_moves 82 = .ok (.ldc2_w 57, 3) := dk_20 0 57 (dk_at dksX5_moves_3 12 rfl rfl)
theorem dX5_moves_85 : decode cX5_moves 85 = .ok (.invokestatic 59, 3) := dk_184 0 59 (dk_at dksX5_moves_3 15 rfl rfl)
theorem dX5_moves_88 : decode cX5_moves 88 = .ok (.ifCond .eq 7, 3) := dk_153 0 7 (dk_at dksX5_moves_3 18 rfl rfl)
theorem dX5_moves_91 : decode cX5_moves 91 = .ok (.iconst 1, 1) := dk_4 (dk_at dksX5_moves_3 21 rfl rfl)
theorem dX5_moves_92 : decode cX5_moves 92 = .ok (.goto 32, 3) := dk_167 0 32 (dk_at dksX5_moves_4 0 rfl rfl)
theorem dX5_moves_95 : decode cX5_moves 95 = .ok (.iload_n 1, 1) := dk_27 (dk_at dksX5_moves_4 3 rfl rfl)
theorem dX5_moves_96 : decode cX5_moves 96 = .ok (.i2l, 1) := dk_133 (dk_at dksX5_moves_4 4 rfl rfl)
theorem dX5_moves_97 : decode cX5_moves 97 = .ok (.ldc2_w 63, 3) := dk_20 0 63 (dk_at dksX5_moves_4 5 rfl rfl)
theorem dX5_moves_100 : decode cX5_moves 100 = .ok (.ldc2_w 65, 3) := dk_20 0 65 (dk_at dksX5_moves_4 8 rfl rfl)
theorem dX5_moves_103 : decode cX5_moves 103 = .ok (.invokestatic 59, 3) := dk_184 0 59 (dk_at dksX5_moves_4 11 rfl rfl)
theorem dX5_moves_106 : decode cX5_moves 106 = .ok (.ifCond .eq 7, 3) := dk_153 0 7 (dk_at dksX5_moves_4 14 rfl rfl)
theorem dX5_moves_109 : decode cX5_moves 109 = .ok (.iconst 2, 1) := dk_5 (dk_at dksX5_moves_4 17 rfl rfl)
theorem dX5_moves_110 : decode cX5_moves 110 = .ok (.goto 14, 3) := dk_167 0 14 (dk_at dksX5_moves_4 18 rfl rfl)
theorem dX5_moves_113 : decode cX5_moves 113 = .ok (.iload_n 1, 1) := dk_27 (dk_at dksX5_moves_4 21 rfl rfl)
theorem dX5_moves_114 : decode cX5_moves 114 = .ok (.bipush 59, 2) := dk_16 59 (dk_at dksX5_moves_4 22 rfl rfl)
theorem dX5_moves_116 : decode cX5_moves 116 = .ok (.if_icmp .ne 7, 3) := dk_160 0 7 (dk_at dksX5_moves_5 0 rfl rfl)
theorem dX5_moves_119 : decode cX5_moves 119 = .ok (.iconst 3, 1) := dk_6 (dk_at dksX5_moves_5 3 rfl rfl)
theorem dX5_moves_120 : decode cX5_moves 120 = .ok (.goto 4, 3) := dk_167 0 4 (dk_at dksX5_moves_5 4 rfl rfl)
theorem dX5_moves_123 : decode cX5_moves 123 = .ok (.iconst 4, 1) := dk_7 (dk_at dksX5_moves_5 7 rfl rfl)
theorem dX5_moves_124 : decode cX5_moves 124 = .ok (.putfield 67, 3) := dk_181 0 67 (dk_at dksX5_moves_5 8 rfl rfl)
theorem dX5_moves_127 : decode cX5_moves 127 = .ok (.aload_n 0, 1) := dk_42 (dk_at dksX5_moves_5 11 rfl rfl)
theorem dX5_moves_128 : decode cX5_moves 128 = .ok (.getfield 67, 3) := dk_180 0 67 (dk_at dksX5_moves_5 12 rfl rfl)
theorem dX5_moves_131 : decode cX5_moves 131 = .ok (.iconst 3, 1) := dk_6 (dk_at dksX5_moves_5 15 rfl rfl)
theorem dX5_moves_132 : decode cX5_moves 132 = .ok (.if_icmp .lt 13, 3) := dk_161 0 13 (dk_at dksX5_moves_5 16 rfl rfl)
theorem dX5_moves_135 : decode cX5_moves 135 = .ok (.aload_n 0, 1) := dk_42 (dk_at dksX5_moves_5 19 rfl rfl)
theorem dX5_moves_136 : decode cX5_moves 136 = .ok (.dup, 1) := dk_89 (dk_at dksX5_moves_5 20 rfl rfl)
theorem dX5_moves_137 : decode cX5_moves 137 = .ok (.getfield 42, 3) := dk_180 0 42 (dk_at dksX5_moves_5 21 rfl rfl)
theorem dX5_moves_140 : decode cX5_moves 140 = .ok (.iconst 1, 1) := dk_4 (dk_at dksX5_moves_6 0 rfl rfl)
theorem dX5_moves_141 : decode cX5_moves 141 = .ok (.iadd, 1) := dk_96 (dk_at dksX5_moves_6 1 rfl rfl)
theorem dX5_moves_142 : decode cX5_moves 142 = .ok (.putfield 42, 3) := dk_181 0 42 (dk_at dksX5_moves_6 2 rfl rfl)
theorem dX5_moves_145 : decode cX5_moves 145 = .ok (.aload_n 0, 1) := dk_42 (dk_at dksX5_moves_6 5 rfl rfl)
theorem dX5_moves_146 : decode cX5_moves 146 = .ok (.getfield 67, 3) := dk_180 0 67 (dk_at dksX5_moves_6 6 rfl rfl)
theorem dX5_moves_149 : decode cX5_moves 149 = .ok (.iconst 1, 1) := dk_4 (dk_at dksX5_moves_6 9 rfl rfl)
theorem dX5_moves_150 : decode cX5_moves 150 = .ok (.if_icmp .ne 7, 3) := dk_160 0 7 (dk_at dksX5_moves_6 10 rfl rfl)
theorem dX5_moves_153 : decode cX5_moves 153 = .ok (.aload_n 0, 1) := dk_42 (dk_at dksX5_moves_6 13 rfl rfl)
theorem dX5_moves_154 : decode cX5_moves 154 = .ok (.invokevirtual 70, 3) := dk_182 0 70 (dk_at dksX5_moves_6 14 rfl rfl)
theorem dX5_moves_157 : decode cX5_moves 157 = .ok (.aload_n 0, 1) := dk_42 (dk_at dksX5_moves_6 17 rfl rfl)
theorem dX5_moves_158 : decode cX5_moves 158 = .ok (.getfield 67, 3) := dk_180 0 67 (dk_at dksX5_moves_6 18 rfl rfl)
theorem dX5_moves_161 : decode cX5_moves 161 = .ok (.iconst 2, 1) := dk_5 (dk_at dksX5_moves_6 21 rfl rfl)
theorem dX5_moves_162 : decode cX5_moves 162 = .ok (.if_icmp .ne 7, 3) := dk_160 0 7 (dk_at dksX5_moves_7 0 rfl rfl)
theorem dX5_moves_165 : decode cX5_moves 165 = .ok (.aload_n 0, 1) := dk_42 (dk_at dksX5_moves_7 3 rfl rfl)
theorem dX5_moves_166 : decode cX5_moves 166 = .ok (.invokevirtual 73, 3) := dk_182 0 73 (dk_at dksX5_moves_7 4 rfl rfl)
theorem dX5_moves_169 : decode cX5_moves 169 = .ok (.return_, 1) := dk_177 (dk_at dksX5_moves_7 7 rfl rfl)
abbrev cX5_byteAt : ByteArray := prog_7_method_2_code
def yX5_byteAt : MethodName := ⟨RX5, "byteAt", "(I)I"⟩
def dkwX5_byteAt_1 : List UInt8 := [2, 172]
abbrev dktX5_byteAt_1 : List UInt8 := dkwX5_byteAt_1 ++ []
def dkwX5_byteAt_0 : List UInt8 := [27, 42, 180, 0, 19, 162, 0, 19, 42, 180, 0, 3, 180, 0, 38, 27, 51, 17, 0, 255, 126, 167, 0, 4]
abbrev dktX5_byteAt_0 : List UInt8 := dkwX5_byteAt_0 ++ dktX5_byteAt_1
theorem dksX5_byteAt_0 : cX5_byteAt.data.toList.drop 0 = dktX5_byteAt_0 := by decide +kernel
theorem dksX5_byteAt_1 : cX5_byteAt.data.toList.drop 24 = dktX5_byteAt_1 := dk_seg dksX5_byteAt_0 24 rfl rfl
theorem dX5_byteAt_0 : decode cX5_byteAt 0 = .ok (.iload_n 1, 1) := dk_27 (dk_at dksX5_byteAt_0 0 rfl rfl)
theorem dX5_byteAt_1 : decode cX5_byteAt 1 = .ok (.aload_n 0, 1) := dk_42 (dk_at dksX5_byteAt_0 1 rfl rfl)
theorem dX5_byteAt_2 : decode cX5_byteAt 2 = .ok (.getfield 19, 3) := dk_180 0 19 (dk_at dksX5_byteAt_0 2 rfl rfl)
theorem dX5_byteAt_5 : decode cX5_byteAt 5 = .ok (.if_icmp .ge 19, 3) := dk_162 0 19 (dk_at dksX5_byteAt_0 5 rfl rfl)
theorem dX5_byteAt_8 : decode cX5_byteAt 8 = .ok (.aload_n 0, 1) := dk_42 (dk_at dksX5_byteAt_0 8 rfl rfl)
theorem dX5_byteAt_9 : decode cX5_byteAt 9 = .ok (.getfield 3, 3) := dk_180 0 3 (dk_at dksX5_byteAt_0 9 rfl rfl)
theorem dX5_byteAt_12 : decode cX5_byteAt 12 = .ok (.getfield 38, 3) := dk_180 0 38 (dk_at dksX5_byteAt_0 12 rfl rfl)
theorem dX5_byteAt_15 : decode cX5_byteAt 15 = .ok (.iload_n 1, 1) := dk_27 (dk_at dksX5_byteAt_0 15 rfl rfl)
theorem dX5_byteAt_16 : decode cX5_byteAt 16 = .ok (.baload, 1) := dk_51 (dk_at dksX5_byteAt_0 16 rfl rfl)
theorem dX5_byteAt_17 : decode cX5_byteAt 17 = .ok (.sipush 255, 3) := dk_17 0 255 (dk_at dksX5_byteAt_0 17 rfl rfl)
theorem dX5_byteAt_20 : decode cX5_byteAt 20 = .ok (.iand, 1) := dk_126 (dk_at dksX5_byteAt_0 20 rfl rfl)
theorem dX5_byteAt_21 : decode cX5_byteAt 21 = .ok (.goto 4, 3) := dk_167 0 4 (dk_at dksX5_byteAt_0 21 rfl rfl)
theorem dX5_byteAt_24 : decode cX5_byteAt 24 = .ok (.iconst (-1), 1) := dk_2 (dk_at dksX5_byteAt_1 0 rfl rfl)
theorem dX5_byteAt_25 : decode cX5_byteAt 25 = .ok (.ireturn, 1) := dk_172 (dk_at dksX5_byteAt_1 1 rfl rfl)
abbrev cX5_letters : ByteArray := prog_7_method_4_code
def yX5_letters : MethodName := ⟨RX5, "letters", "()V"⟩
def dkwX5_letters_2 : List UInt8 := [180, 0, 42, 4, 96, 181, 0, 42, 167, 255, 211, 42, 43, 182, 0, 83, 181, 0, 24, 177]
abbrev dktX5_letters_2 : List UInt8 := dkwX5_letters_2 ++ []
def dkwX5_letters_1 : List UInt8 := [184, 0, 59, 153, 0, 30, 43, 42, 42, 180, 0, 42, 182, 0, 45, 146, 182, 0, 79, 87, 42, 89]
abbrev dktX5_letters_1 : List UInt8 := dkwX5_letters_1 ++ dktX5_letters_2
def dkwX5_letters_0 : List UInt8 := [187, 0, 76, 89, 183, 0, 78, 76, 42, 42, 180, 0, 42, 182, 0, 45, 133, 20, 0, 55, 20, 0, 57]
abbrev dktX5_letters_0 : List UInt8 := dkwX5_letters_0 ++ dktX5_letters_1
theorem dksX5_letters_0 : cX5_letters.data.toList.drop 0 = dktX5_letters_0 := by decide +kernel
theorem dksX5_letters_1 : cX5_letters.data.toList.drop 23 = dktX5_letters_1 := dk_seg dksX5_letters_0 23 rfl rfl
theorem dksX5_letters_2 : cX5_letters.data.toList.drop 45 = dktX5_letters_2 := dk_seg dksX5_letters_1 22 rfl rfl
theorem dX5_letters_0 : decode cX5_letters 0 = .ok (.new 76, 3) := dk_187 0 76 (dk_at dksX5_letters_0 0 rfl rfl)
theorem dX5_letters_3 : decode cX5_letters 3 = .ok (.dup, 1) := dk_89 (dk_at dksX5_letters_0 3 rfl rfl)
theorem dX5_letters_4 : decode cX5_letters 4 = .ok (.invokespecial 78, 3) := dk_183 0 78 (dk_at dksX5_letters_0 4 rfl rfl)
theorem dX5_letters_7 : decode cX5_letters 7 = .ok (.astore_n 1, 1) := dk_76 (dk_at dksX5_letters_0 7 rfl rfl)
theorem dX5_letters_8 : decode cX5_letters 8 = .ok (.aload_n 0, 1) := dk_42 (dk_at dksX5_letters_0 8 rfl rfl)
theorem dX5_letters_9 : decode cX5_letters 9 = .ok (.aload_n 0, 1) := dk_42 (dk_at dksX5_letters_0 9 rfl rfl)
theorem dX5_letters_10 : decode cX5_letters 10 = .ok (.getfield 42, 3) := dk_180 0 42 (dk_at dksX5_letters_0 10 rfl rfl)
theorem dX5_letters_13 : decode cX5_letters 13 = .ok (.invokevirtual 45, 3) := dk_182 0 45 (dk_at dksX5_letters_0 13 rfl rfl)
theorem dX5_letters_16 : decode cX5_letters 16 = .ok (.i2l, 1) := dk_133 (dk_at dksX5_letters_0 16 rfl rfl)
theorem dX5_letters_17 : decode cX5_letters 17 = .ok (.ldc2_w 55, 3) := dk_20 0 55 (dk_at dksX5_letters_0 17 rfl rfl)
theorem dX5_letters_20 : decode cX5_letters 20 = .ok (.ldc2_w 57, 3) := dk_20 0 57 (dk_at dksX5_letters_0 20 rfl rfl)
theorem dX5_letters_23 : decode cX5_letters 23 = .ok (.invokestatic 59, 3) := dk_184 0 59 (dk_at dksX5_letters_1 0 rfl rfl)
theorem dX5_letters_26 : decode cX5_letters 26 = .ok (.ifCond .eq 30, 3) := dk_153 0 30 (dk_at dksX5_letters_1 3 rfl rfl)
theorem dX5_letters_29 : decode cX5_letters 29 = .ok (.aload_n 1, 1) := dk_43 (dk_at dksX5_letters_1 6 rfl rfl)
theorem dX5_letters_30 : decode cX5_letters 30 = .ok (.aload_n 0, 1) := dk_42 (dk_at dksX5_letters_1 7 rfl rfl)
theorem dX5_letters_31 : decode cX5_letters 31 = .ok (.aload_n 0, 1) := dk_42 (dk_at dksX5_letters_1 8 rfl rfl)
theorem dX5_letters_32 : decode cX5_letters 32 = .ok (.getfield 42, 3) := dk_180 0 42 (dk_at dksX5_letters_1 9 rfl rfl)
theorem dX5_letters_35 : decode cX5_letters 35 = .ok (.invokevirtual 45, 3) := dk_182 0 45 (dk_at dksX5_letters_1 12 rfl rfl)
theorem dX5_letters_38 : decode cX5_letters 38 = .ok (.i2c, 1) := dk_146 (dk_at dksX5_letters_1 15 rfl rfl)
theorem dX5_letters_39 : decode cX5_letters 39 = .ok (.invokevirtual 79, 3) := dk_182 0 79 (dk_at dksX5_letters_1 16 rfl rfl)
theorem dX5_letters_42 : decode cX5_letters 42 = .ok (.pop, 1) := dk_87 (dk_at dksX5_letters_1 19 rfl rfl)
theorem dX5_letters_43 : decode cX5_letters 43 = .ok (.aload_n 0, 1) := dk_42 (dk_at dksX5_letters_1 20 rfl rfl)
theorem dX5_letters_44 : decode cX5_letters 44 = .ok (.dup, 1) := dk_89 (dk_at dksX5_letters_1 21 rfl rfl)
theorem dX5_letters_45 : decode cX5_letters 45 = .ok (.getfield 42, 3) := dk_180 0 42 (dk_at dksX5_letters_2 0 rfl rfl)
theorem dX5_letters_48 : decode cX5_letters 48 = .ok (.iconst 1, 1) := dk_4 (dk_at dksX5_letters_2 3 rfl rfl)
theorem dX5_letters_49 : decode cX5_letters 49 = .ok (.iadd, 1) := dk_96 (dk_at dksX5_letters_2 4 rfl rfl)
theorem dX5_letters_50 : decode cX5_letters 50 = .ok (.putfield 42, 3) := dk_181 0 42 (dk_at dksX5_letters_2 5 rfl rfl)
theorem dX5_letters_53 : decode cX5_letters 53 = .ok (.goto (-45), 3) := dk_167 255 211 (dk_at dksX5_letters_2 8 rfl rfl)
theorem dX5_letters_56 : decode cX5_letters 56 = .ok (.aload_n 0, 1) := dk_42 (dk_at dksX5_letters_2 11 rfl rfl)
theorem dX5_letters_57 : decode cX5_letters 57 = .ok (.aload_n 1, 1) := dk_43 (dk_at dksX5_letters_2 12 rfl rfl)
theorem dX5_letters_58 : decode cX5_letters 58 = .ok (.invokevirtual 83, 3) := dk_182 0 83 (dk_at dksX5_letters_2 13 rfl rfl)
theorem dX5_letters_61 : decode cX5_letters 61 = .ok (.putfield 24, 3) := dk_181 0 24 (dk_at dksX5_letters_2 16 rfl rfl)
theorem dX5_letters_64 : decode cX5_letters 64 = .ok (.return_, 1) := dk_177 (dk_at dksX5_letters_2 19 rfl rfl)
abbrev cX5_digits : ByteArray := prog_7_method_5_code
def yX5_digits : MethodName := ⟨RX5, "digits", "()V"⟩
def dkwX5_digits_4 : List UInt8 := [177]
abbrev dktX5_digits_4 : List UInt8 := dkwX5_digits_4 ++ []
def dkwX5_digits_3 : List UInt8 := [181, 0, 42, 167, 255, 182, 42, 180, 0, 42, 42, 180, 0, 49, 100, 5, 164, 0, 8, 42, 7, 181, 0, 67]
abbrev dktX5_digits_3 : List UInt8 := dkwX5_digits_3 ++ dktX5_digits_4
def dkwX5_digits_2 : List UInt8 := [182, 0, 45, 96, 16, 48, 100, 167, 0, 7, 42, 180, 0, 52, 181, 0, 52, 42, 89, 180, 0, 42, 4, 96]
abbrev dktX5_digits_2 : List UInt8 := dkwX5_digits_2 ++ dktX5_digits_3
def dkwX5_digits_1 : List UInt8 := [180, 0, 42, 42, 180, 0, 49, 100, 5, 162, 0, 25, 16, 10, 42, 180, 0, 52, 104, 42, 42, 180, 0, 42]
abbrev dktX5_digits_1 : List UInt8 := dkwX5_digits_1 ++ dktX5_digits_2
def dkwX5_digits_0 : List UInt8 := [42, 42, 180, 0, 42, 182, 0, 45, 133, 20, 0, 63, 20, 0, 65, 184, 0, 59, 153, 0, 59, 42, 42]
abbrev dktX5_digits_0 : List UInt8 := dkwX5_digits_0 ++ dktX5_digits_1
theorem dksX5_digits_0 : cX5_digits.data.toList.drop 0 = dktX5_digits_0 := by decide +kernel
theorem dksX5_digits_1 : cX5_digits.data.toList.drop 23 = dktX5_digits_1 := dk_seg dksX5_digits_0 23 rfl rfl
theorem dksX5_digits_2 : cX5_digits.data.toList.drop 47 = dktX5_digits_2 := dk_seg dksX5_digits_1 24 rfl rfl
theorem dksX5_digits_3 : cX5_digits.data.toList.drop 71 = dktX5_digits_3 := dk_seg dksX5_digits_2 24 rfl rfl
theorem dksX5_digits_4 : cX5_digits.data.toList.drop 95 = dktX5_digits_4 := dk_seg dksX5_digits_3 24 rfl rfl
theorem dX5_digits_0 : decode cX5_digits 0 = .ok (.aload_n 0, 1) := dk_42 (dk_at dksX5_digits_0 0 rfl rfl)
theorem dX5_digits_1 : decode cX5_digits 1 = .ok (.aload_n 0, 1) := dk_42 (dk_at dksX5_digits_0 1 rfl rfl)
theorem dX5_digits_2 : decode cX5_digits 2 = .ok (.getfield 42, 3) := dk_180 0 42 (dk_at dksX5_digits_0 2 rfl rfl)
theorem dX5_digits_5 : decode cX5_digits 5 = .ok (.invokevirtual 45, 3) := dk_182 0 45 (dk_at dksX5_digits_0 5 rfl rfl)
theorem dX5_digits_8 : decode cX5_digits 8 = .ok (.i2l, 1) := dk_133 (dk_at dksX5_digits_0 8 rfl rfl)
theorem dX5_digits_9 : decode cX5_digits 9 = .ok (.ldc2_w 63, 3) := dk_20 0 63 (dk_at dksX5_digits_0 9 rfl rfl)
theorem dX5_digits_12 : decode cX5_digits 12 = .ok (.ldc2_w 65, 3) := dk_20 0 65 (dk_at dksX5_digits_0 12 rfl rfl)
theorem dX5_digits_15 : decode cX5_digits 15 = .ok (.invokestatic 59, 3) := dk_184 0 59 (dk_at dksX5_digits_0 15 rfl rfl)
theorem dX5_digits_18 : decode cX5_digits 18 = .ok (.ifCond .eq 59, 3) := dk_153 0 59 (dk_at dksX5_digits_0 18 rfl rfl)
theorem dX5_digits_21 : decode cX5_digits 21 = .ok (.aload_n 0, 1) := dk_42 (dk_at dksX5_digits_0 21 rfl rfl)
theorem dX5_digits_22 : decode cX5_digits 22 = .ok (.aload_n 0, 1) := dk_42 (dk_at dksX5_digits_0 22 rfl rfl)
theorem dX5_digits_23 : decode cX5_digits 23 = .ok (.getfield 42, 3) := dk_180 0 42 (dk_at dksX5_digits_1 0 rfl rfl)
theorem dX5_digits_26 : decode cX5_digits 26 = .ok (.aload_n 0, 1) := dk_42 (dk_at dksX5_digits_1 3 rfl rfl)
theorem dX5_digits_27 : decode cX5_digits 27 = .ok (.getfield 49, 3) := dk_180 0 49 (dk_at dksX5_digits_1 4 rfl rfl)
theorem dX5_digits_30 : decode cX5_digits 30 = .ok (.isub, 1) := dk_100 (dk_at dksX5_digits_1 7 rfl rfl)
theorem dX5_digits_31 : decode cX5_digits 31 = .ok (.iconst 2, 1) := dk_5 (dk_at dksX5_digits_1 8 rfl rfl)
theorem dX5_digits_32 : decode cX5_digits 32 = .ok (.if_icmp .ge 25, 3) := dk_162 0 25 (dk_at dksX5_digits_1 9 rfl rfl)
theorem dX5_digits_35 : decode cX5_digits 35 = .ok (.bipush 10, 2) := dk_16 10 (dk_at dksX5_digits_1 12 rfl rfl)
theorem dX5_digits_37 : decode cX5_digits 37 = .ok (.aload_n 0, 1) := dk_42 (dk_at dksX5_digits_1 14 rfl rfl)
theorem dX5_digits_38 : decode cX5_digits 38 = .ok (.getfield 52, 3) := dk_180 0 52 (dk_at dksX5_digits_1 15 rfl rfl)
theorem dX5_digits_41 : decode cX5_digits 41 = .ok (.imul, 1) := dk_104 (dk_at dksX5_digits_1 18 rfl rfl)
theorem dX5_digits_42 : decode cX5_digits 42 = .ok (.aload_n 0, 1) := dk_42 (dk_at dksX5_digits_1 19 rfl rfl)
theorem dX5_digits_43 : decode cX5_digits 43 = .ok (.aload_n 0, 1) := dk_42 (dk_at dksX5_digits_1 20 rfl rfl)
theorem dX5_digits_44 : decode cX5_digits 44 = .ok (.getfield 42, 3) := dk_180 0 42 (dk_at dksX5_digits_1 21 rfl rfl)
theorem dX5_digits_47 : decode cX5_digits 47 = .ok (.invokevirtual 45, 3) := dk_182 0 45 (dk_at dksX5_digits_2 0 rfl rfl)
theorem dX5_digits_50 : decode cX5_digits 50 = .ok (.iadd, 1) := dk_96 (dk_at dksX5_digits_2 3 rfl rfl)
theorem dX5_digits_51 : decode cX5_digits 51 = .ok (.bipush 48, 2) := dk_16 48 (dk_at dksX5_digits_2 4 rfl rfl)
theorem dX5_digits_53 : decode cX5_digits 53 = .ok (.isub, 1) := dk_100 (dk_at dksX5_digits_2 6 rfl rfl)
theorem dX5_digits_54 : decode cX5_digits 54 = .ok (.goto 7, 3) := dk_167 0 7 (dk_at dksX5_digits_2 7 rfl rfl)
theorem dX5_digits_57 : decode cX5_digits 57 = .ok (.aload_n 0, 1) := dk_42 (dk_at dksX5_digits_2 10 rfl rfl)
theorem dX5_digits_58 : decode cX5_digits 58 = .ok (.getfield 52, 3) := dk_180 0 52 (dk_at dksX5_digits_2 11 rfl rfl)
theorem dX5_digits_61 : decode cX5_digits 61 = .ok (.putfield 52, 3) := dk_181 0 52 (dk_at dksX5_digits_2 14 rfl rfl)
theorem dX5_digits_64 : decode cX5_digits 64 = .ok (.aload_n 0, 1) := dk_42 (dk_at dksX5_digits_2 17 rfl rfl)
theorem dX5_digits_65 : decode cX5_digits 65 = .ok (.dup, 1) := dk_89 (dk_at dksX5_digits_2 18 rfl rfl)
theorem dX5_digits_66 : decode cX5_digits 66 = .ok (.getfield 42, 3) := dk_180 0 42 (dk_at dksX5_digits_2 19 rfl rfl)
theorem dX5_digits_69 : decode cX5_digits 69 = .ok (.iconst 1, 1) := dk_4 (dk_at dksX5_digits_2 22 rfl rfl)
theorem dX5_digits_70 : decode cX5_digits 70 = .ok (.iadd, 1) := dk_96 (dk_at dksX5_digits_2 23 rfl rfl)
theorem dX5_digits_71 : decode cX5_digits 71 = .ok (.putfield 42, 3) := dk_181 0 42 (dk_at dksX5_digits_3 0 rfl rfl)
theorem dX5_digits_74 : decode cX5_digits 74 = .ok (.goto (-74), 3) := dk_167 255 182 (dk_at dksX5_digits_3 3 rfl rfl)
theorem dX5_digits_77 : decode cX5_digits 77 = .ok (.aload_n 0, 1) := dk_42 (dk_at dksX5_digits_3 6 rfl rfl)
theorem dX5_digits_78 : decode cX5_digits 78 = .ok (.getfield 42, 3) := dk_180 0 42 (dk_at dksX5_digits_3 7 rfl rfl)
theorem dX5_digits_81 : decode cX5_digits 81 = .ok (.aload_n 0, 1) := dk_42 (dk_at dksX5_digits_3 10 rfl rfl)
theorem dX5_digits_82 : decode cX5_digits 82 = .ok (.getfield 49, 3) := dk_180 0 49 (dk_at dksX5_digits_3 11 rfl rfl)
theorem dX5_digits_85 : decode cX5_digits 85 = .ok (.isub, 1) := dk_100 (dk_at dksX5_digits_3 14 rfl rfl)
theorem dX5_digits_86 : decode cX5_digits 86 = .ok (.iconst 2, 1) := dk_5 (dk_at dksX5_digits_3 15 rfl rfl)
theorem dX5_digits_87 : decode cX5_digits 87 = .ok (.if_icmp .le 8, 3) := dk_164 0 8 (dk_at dksX5_digits_3 16 rfl rfl)
theorem dX5_digits_90 : decode cX5_digits 90 = .ok (.aload_n 0, 1) := dk_42 (dk_at dksX5_digits_3 19 rfl rfl)
theorem dX5_digits_91 : decode cX5_digits 91 = .ok (.iconst 4, 1) := dk_7 (dk_at dksX5_digits_3 20 rfl rfl)
theorem dX5_digits_92 : decode cX5_digits 92 = .ok (.putfield 67, 3) := dk_181 0 67 (dk_at dksX5_digits_3 21 rfl rfl)
theorem dX5_digits_95 : decode cX5_digits 95 = .ok (.return_, 1) := dk_177 (dk_at dksX5_digits_4 0 rfl rfl)
abbrev cX5_setup : ByteArray := prog_7_method_14_code
def yX5_setup : MethodName := ⟨RX5, "setup", "()LCopyPrices$World;"⟩
def dkwX5_setup_4 : List UInt8 := [191]
abbrev dktX5_setup_4 : List UInt8 := dkwX5_setup_4 ++ []
def dkwX5_setup_3 : List UInt8 := [180, 0, 31, 76, 42, 180, 0, 3, 3, 181, 0, 15, 43, 176, 77, 42, 180, 0, 3, 3, 181, 0, 15, 44]
abbrev dktX5_setup_3 : List UInt8 := dkwX5_setup_3 ++ dktX5_setup_4
def dkwX5_setup_2 : List UInt8 := [182, 0, 185, 167, 0, 11, 42, 42, 182, 0, 187, 182, 0, 190, 42, 182, 0, 176, 167, 255, 199, 42]
abbrev dktX5_setup_2 : List UInt8 := dkwX5_setup_2 ++ dktX5_setup_3
def dkwX5_setup_1 : List UInt8 := [153, 0, 10, 42, 182, 0, 181, 167, 0, 30, 42, 180, 0, 24, 18, 183, 182, 0, 98, 153, 0, 10, 42]
abbrev dktX5_setup_1 : List UInt8 := dkwX5_setup_1 ++ dktX5_setup_2
def dkwX5_setup_0 : List UInt8 := [42, 182, 0, 174, 42, 182, 0, 176, 42, 180, 0, 67, 153, 0, 56, 42, 180, 0, 24, 18, 179, 182, 0, 98]
abbrev dktX5_setup_0 : List UInt8 := dkwX5_setup_0 ++ dktX5_setup_1
theorem dksX5_setup_0 : cX5_setup.data.toList.drop 0 = dktX5_setup_0 := by decide +kernel
theorem dksX5_setup_1 : cX5_setup.data.toList.drop 24 = dktX5_setup_1 := dk_seg dksX5_setup_0 24 rfl rfl
theorem dksX5_setup_2 : cX5_setup.data.toList.drop 47 = dktX5_setup_2 := dk_seg dksX5_setup_1 23 rfl rfl
theorem dksX5_setup_3 : cX5_setup.data.toList.drop 69 = dktX5_setup_3 := dk_seg dksX5_setup_2 22 rfl rfl
theorem dksX5_setup_4 : cX5_setup.data.toList.drop 93 = dktX5_setup_4 := dk_seg dksX5_setup_3 24 rfl rfl
theorem dX5_setup_0 : decode cX5_setup 0 = .ok (.aload_n 0, 1) := dk_42 (dk_at dksX5_setup_0 0 rfl rfl)
theorem dX5_setup_1 : decode cX5_setup 1 = .ok (.invokevirtual 174, 3) := dk_182 0 174 (dk_at dksX5_setup_0 1 rfl rfl)
theorem dX5_setup_4 : decode cX5_setup 4 = .ok (.aload_n 0, 1) := dk_42 (dk_at dksX5_setup_0 4 rfl rfl)
theorem dX5_setup_5 : decode cX5_setup 5 = .ok (.invokevirtual 176, 3) := dk_182 0 176 (dk_at dksX5_setup_0 5 rfl rfl)
theorem dX5_setup_8 : decode cX5_setup 8 = .ok (.aload_n 0, 1) := dk_42 (dk_at dksX5_setup_0 8 rfl rfl)
theorem dX5_setup_9 : decode cX5_setup 9 = .ok (.getfield 67, 3) := dk_180 0 67 (dk_at dksX5_setup_0 9 rfl rfl)
theorem dX5_setup_12 : decode cX5_setup 12 = .ok (.ifCond .eq 56, 3) := dk_153 0 56 (dk_at dksX5_setup_0 12 rfl rfl)
theorem dX5_setup_15 : decode cX5_setup 15 = .ok (.aload_n 0, 1) := dk_42 (dk_at dksX5_setup_0 15 rfl rfl)
theorem dX5_setup_16 : decode cX5_setup 16 = .ok (.getfield 24, 3) := dk_180 0 24 (dk_at dksX5_setup_0 16 rfl rfl)
theorem dX5_setup_19 : decode cX5_setup 19 = .ok (.ldc 179, 2) := dk_18 179 (dk_at dksX5_setup_0 19 rfl rfl)
theorem dX5_setup_21 : decode cX5_setup 21 = .ok (.invokevirtual 98, 3) := dk_182 0 98 (dk_at dksX5_setup_0 21 rfl rfl)
theorem dX5_setup_24 : decode cX5_setup 24 = .ok (.ifCond .eq 10, 3) := dk_153 0 10 (dk_at dksX5_setup_1 0 rfl rfl)
theorem dX5_setup_27 : decode cX5_setup 27 = .ok (.aload_n 0, 1) := dk_42 (dk_at dksX5_setup_1 3 rfl rfl)
theorem dX5_setup_28 : decode cX5_setup 28 = .ok (.invokevirtual 181, 3) := dk_182 0 181 (dk_at dksX5_setup_1 4 rfl rfl)
theorem dX5_setup_31 : decode cX5_setup 31 = .ok (.goto 30, 3) := dk_167 0 30 (dk_at dksX5_setup_1 7 rfl rfl)
theorem dX5_setup_34 : decode cX5_setup 34 = .ok (.aload_n 0, 1) := dk_42 (dk_at dksX5_setup_1 10 rfl rfl)
theorem dX5_setup_35 : decode cX5_setup 35 = .ok (.getfield 24, 3) := dk_180 0 24 (dk_at dksX5_setup_1 11 rfl rfl)
theorem dX5_setup_38 : decode cX5_setup 38 = .ok (.ldc 183, 2) := dk_18 183 (dk_at dksX5_setup_1 14 rfl rfl)
theorem dX5_setup_40 : decode cX5_setup 40 = .ok (.invokevirtual 98, 3) := dk_182 0 98 (dk_at dksX5_setup_1 16 rfl rfl)
theorem dX5_setup_43 : decode cX5_setup 43 = .ok (.ifCond .eq 10, 3) := dk_153 0 10 (dk_at dksX5_setup_1 19 rfl rfl)
theorem dX5_setup_46 : decode cX5_setup 46 = .ok (.aload_n 0, 1) := dk_42 (dk_at dksX5_setup_1 22 rfl rfl)
theorem dX5_setup_47 : decode cX5_setup 47 = .ok (.invokevirtual 185, 3) := dk_182 0 185 (dk_at dksX5_setup_2 0 rfl rfl)
theorem dX5_setup_50 : decode cX5_setup 50 = .ok (.goto 11, 3) := dk_167 0 11 (dk_at dksX5_setup_2 3 rfl rfl)
theorem dX5_setup_53 : decode cX5_setup 53 = .ok (.aload_n 0, 1) := dk_42 (dk_at dksX5_setup_2 6 rfl rfl)
theorem dX5_setup_54 : decode cX5_setup 54 = .ok (.aload_n 0, 1) := dk_42 (dk_at dksX5_setup_2 7 rfl rfl)
theorem dX5_setup_55 : decode cX5_setup 55 = .ok (.invokevirtual 187, 3) := dk_182 0 187 (dk_at dksX5_setup_2 8 rfl rfl)
theorem dX5_setup_58 : decode cX5_setup 58 = .ok (.invokevirtual 190, 3) := dk_182 0 190 (dk_at dksX5_setup_2 11 rfl rfl)
theorem dX5_setup_61 : decode cX5_setup 61 = .ok (.aload_n 0, 1) := dk_42 (dk_at dksX5_setup_2 14 rfl rfl)
theorem dX5_setup_62 : decode cX5_setup 62 = .ok (.invokevirtual 176, 3) := dk_182 0 176 (dk_at dksX5_setup_2 15 rfl rfl)
theorem dX5_setup_65 : decode cX5_setup 65 = .ok (.goto (-57), 3) := dk_167 255 199 (dk_at dksX5_setup_2 18 rfl rfl)
theorem dX5_setup_68 : decode cX5_setup 68 = .ok (.aload_n 0, 1) := dk_42 (dk_at dksX5_setup_2 21 rfl rfl)
theorem dX5_setup_69 : decode cX5_setup 69 = .ok (.getfield 31, 3) := dk_180 0 31 (dk_at dksX5_setup_3 0 rfl rfl)
theorem dX5_setup_72 : decode cX5_setup 72 = .ok (.astore_n 1, 1) := dk_76 (dk_at dksX5_setup_3 3 rfl rfl)
theorem dX5_setup_73 : decode cX5_setup 73 = .ok (.aload_n 0, 1) := dk_42 (dk_at dksX5_setup_3 4 rfl rfl)
theorem dX5_setup_74 : decode cX5_setup 74 = .ok (.getfield 3, 3) := dk_180 0 3 (dk_at dksX5_setup_3 5 rfl rfl)
theorem dX5_setup_77 : decode cX5_setup 77 = .ok (.iconst 0, 1) := dk_3 (dk_at dksX5_setup_3 8 rfl rfl)
theorem dX5_setup_78 : decode cX5_setup 78 = .ok (.putfield 15, 3) := dk_181 0 15 (dk_at dksX5_setup_3 9 rfl rfl)
theorem dX5_setup_81 : decode cX5_setup 81 = .ok (.aload_n 1, 1) := dk_43 (dk_at dksX5_setup_3 12 rfl rfl)
theorem dX5_setup_82 : decode cX5_setup 82 = .ok (.areturn, 1) := dk_176 (dk_at dksX5_setup_3 13 rfl rfl)
theorem dX5_setup_83 : decode cX5_setup 83 = .ok (.astore_n 2, 1) := dk_77 (dk_at dksX5_setup_3 14 rfl rfl)
theorem dX5_setup_84 : decode cX5_setup 84 = .ok (.aload_n 0, 1) := dk_42 (dk_at dksX5_setup_3 15 rfl rfl)
theorem dX5_setup_85 : decode cX5_setup 85 = .ok (.getfield 3, 3) := dk_180 0 3 (dk_at dksX5_setup_3 16 rfl rfl)
theorem dX5_setup_88 : decode cX5_setup 88 = .ok (.iconst 0, 1) := dk_3 (dk_at dksX5_setup_3 19 rfl rfl)
theorem dX5_setup_89 : decode cX5_setup 89 = .ok (.putfield 15, 3) := dk_181 0 15 (dk_at dksX5_setup_3 20 rfl rfl)
theorem dX5_setup_92 : decode cX5_setup 92 = .ok (.aload_n 2, 1) := dk_44 (dk_at dksX5_setup_3 23 rfl rfl)
theorem dX5_setup_93 : decode cX5_setup 93 = .ok (.athrow, 1) := dk_191 (dk_at dksX5_setup_4 0 rfl rfl)
abbrev cX5_text : ByteArray := prog_7_method_8_code
def yX5_text : MethodName := ⟨RX5, "text", "()V"⟩
def dkwX5_text_5 : List UInt8 := [167, 255, 177, 177]
abbrev dktX5_text_5 : List UInt8 := dkwX5_text_5 ++ []
def dkwX5_text_4 : List UInt8 := [180, 0, 24, 27, 182, 0, 111, 16, 97, 100, 182, 0, 115, 132, 1, 1, 167, 255, 224, 42, 182, 0, 35]
abbrev dktX5_text_4 : List UInt8 := dkwX5_text_4 ++ dktX5_text_5
def dkwX5_text_3 : List UInt8 := [7, 182, 0, 92, 3, 60, 27, 42, 180, 0, 24, 182, 0, 107, 162, 0, 27, 42, 180, 0, 31, 42]
abbrev dktX5_text_3 : List UInt8 := dkwX5_text_3 ++ dktX5_text_4
def dkwX5_text_2 : List UInt8 := [180, 0, 31, 180, 0, 104, 42, 180, 0, 24, 182, 0, 107, 96, 16, 64, 163, 0, 7, 4, 167, 0, 4, 3]
abbrev dktX5_text_2 : List UInt8 := dkwX5_text_2 ++ dktX5_text_3
def dkwX5_text_1 : List UInt8 := [160, 0, 7, 4, 167, 0, 4, 3, 4, 182, 0, 92, 42, 180, 0, 67, 4, 160, 0, 77, 42, 42]
abbrev dktX5_text_1 : List UInt8 := dkwX5_text_1 ++ dktX5_text_2
def dkwX5_text_0 : List UInt8 := [42, 42, 180, 0, 24, 18, 96, 182, 0, 98, 4, 182, 0, 92, 42, 182, 0, 35, 42, 42, 180, 0, 67, 4]
abbrev dktX5_text_0 : List UInt8 := dkwX5_text_0 ++ dktX5_text_1
theorem dksX5_text_0 : cX5_text.data.toList.drop 0 = dktX5_text_0 := by decide +kernel
theorem dksX5_text_1 : cX5_text.data.toList.drop 24 = dktX5_text_1 := dk_seg dksX5_text_0 24 rfl rfl
theorem dksX5_text_2 : cX5_text.data.toList.drop 46 = dktX5_text_2 := dk_seg dksX5_text_1 22 rfl rfl
theorem dksX5_text_3 : cX5_text.data.toList.drop 70 = dktX5_text_3 := dk_seg dksX5_text_2 24 rfl rfl
theorem dksX5_text_4 : cX5_text.data.toList.drop 92 = dktX5_text_4 := dk_seg dksX5_text_3 22 rfl rfl
theorem dksX5_text_5 : cX5_text.data.toList.drop 115 = dktX5_text_5 := dk_seg dksX5_text_4 23 rfl rfl
theorem dX5_text_0 : decode cX5_text 0 = .ok (.aload_n 0, 1) := dk_42 (dk_at dksX5_text_0 0 rfl rfl)
theorem dX5_text_1 : decode cX5_text 1 = .ok (.aload_n 0, 1) := dk_42 (dk_at dksX5_text_0 1 rfl rfl)
theorem dX5_text_2 : decode cX5_text 2 = .ok (.getfield 24, 3) := dk_180 0 24 (dk_at dksX5_text_0 2 rfl rfl)
theorem dX5_text_5 : decode cX5_text 5 = .ok (.ldc 96, 2) := dk_18 96 (dk_at dksX5_text_0 5 rfl rfl)
theorem dX5_text_7 : decode cX5_text 7 = .ok (.invokevirtual 98, 3) := dk_182 0 98 (dk_at dksX5_text_0 7 rfl rfl)
theorem dX5_text_10 : decode cX5_text 10 = .ok (.iconst 1, 1) := dk_4 (dk_at dksX5_text_0 10 rfl rfl)
theorem dX5_text_11 : decode cX5_text 11 = .ok (.invokevirtual 92, 3) := dk_182 0 92 (dk_at dksX5_text_0 11 rfl rfl)
theorem dX5_text_14 : decode cX5_text 14 = .ok (.aload_n 0, 1) := dk_42 (dk_at dksX5_text_0 14 rfl rfl)
theorem dX5_text_15 : decode cX5_text 15 = .ok (.invokevirtual 35, 3) := dk_182 0 35 (dk_at dksX5_text_0 15 rfl rfl)
theorem dX5_text_18 : decode cX5_text 18 = .ok (.aload_n 0, 1) := dk_42 (dk_at dksX5_text_0 18 rfl rfl)
theorem dX5_text_19 : decode cX5_text 19 = .ok (.aload_n 0, 1) := dk_42 (dk_at dksX5_text_0 19 rfl rfl)
theorem dX5_text_20 : decode cX5_text 20 = .ok (.getfield 67, 3) := dk_180 0 67 (dk_at dksX5_text_0 20 rfl rfl)
theorem dX5_text_23 : decode cX5_text 23 = .ok (.iconst 1, 1) := dk_4 (dk_at dksX5_text_0 23 rfl rfl)
theorem dX5_text_24 : decode cX5_text 24 = .ok (.if_icmp .ne 7, 3) := dk_160 0 7 (dk_at dksX5_text_1 0 rfl rfl)
theorem dX5_text_27 : decode cX5_text 27 = .ok (.iconst 1, 1) := dk_4 (dk_at dksX5_text_1 3 rfl rfl)
theorem dX5_text_28 : decode cX5_text 28 = .ok (.goto 4, 3) := dk_167 0 4 (dk_at dksX5_text_1 4 rfl rfl)
theorem dX5_text_31 : decode cX5_text 31 = .ok (.iconst 0, 1) := dk_3 (dk_at dksX5_text_1 7 rfl rfl)
theorem dX5_text_32 : decode cX5_text 32 = .ok (.iconst 1, 1) := dk_4 (dk_at dksX5_text_1 8 rfl rfl)
theorem dX5_text_33 : decode cX5_text 33 = .ok (.invokevirtual 92, 3) := dk_182 0 92 (dk_at dksX5_text_1 9 rfl rfl)
theorem dX5_text_36 : decode cX5_text 36 = .ok (.aload_n 0, 1) := dk_42 (dk_at dksX5_text_1 12 rfl rfl)
theorem dX5_text_37 : decode cX5_text 37 = .ok (.getfield 67, 3) := dk_180 0 67 (dk_at dksX5_text_1 13 rfl rfl)
theorem dX5_text_40 : decode cX5_text 40 = .ok (.iconst 1, 1) := dk_4 (dk_at dksX5_text_1 16 rfl rfl)
theorem dX5_text_41 : decode cX5_text 41 = .ok (.if_icmp .ne 77, 3) := dk_160 0 77 (dk_at dksX5_text_1 17 rfl rfl)
theorem dX5_text_44 : decode cX5_text 44 = .ok (.aload_n 0, 1) := dk_42 (dk_at dksX5_text_1 20 rfl rfl)
theorem dX5_text_45 : decode cX5_text 45 = .ok (.aload_n 0, 1) := dk_42 (dk_at dksX5_text_1 21 rfl rfl)
theorem dX5_text_46 : decode cX5_text 46 = .ok (.getfield 31, 3) := dk_180 0 31 (dk_at dksX5_text_2 0 rfl rfl)
theorem dX5_text_49 : decode cX5_text 49 = .ok (.getfield 104, 3) := dk_180 0 104 (dk_at dksX5_text_2 3 rfl rfl)
theorem dX5_text_52 : decode cX5_text 52 = .ok (.aload_n 0, 1) := dk_42 (dk_at dksX5_text_2 6 rfl rfl)
theorem dX5_text_53 : decode cX5_text 53 = .ok (.getfield 24, 3) := dk_180 0 24 (dk_at dksX5_text_2 7 rfl rfl)
theorem dX5_text_56 : decode cX5_text 56 = .ok (.invokevirtual 107, 3) := dk_182 0 107 (dk_at dksX5_text_2 10 rfl rfl)
theorem dX5_text_59 : decode cX5_text 59 = .ok (.iadd, 1) := dk_96 (dk_at dksX5_text_2 13 rfl rfl)
theorem dX5_text_60 : decode cX5_text 60 = .ok (.bipush 64, 2) := dk_16 64 (dk_at dksX5_text_2 14 rfl rfl)
theorem dX5_text_62 : decode cX5_text 62 = .ok (.if_icmp .gt 7, 3) := dk_163 0 7 (dk_at dksX5_text_2 16 rfl rfl)
theorem dX5_text_65 : decode cX5_text 65 = .ok (.iconst 1, 1) := dk_4 (dk_at dksX5_text_2 19 rfl rfl)
theorem dX5_text_66 : decode cX5_text 66 = .ok (.goto 4, 3) := dk_167 0 4 (dk_at dksX5_text_2 20 rfl rfl)
theorem dX5_text_69 : decode cX5_text 69 = .ok (.iconst 0, 1) := dk_3 (dk_at dksX5_text_2 23 rfl rfl)
theorem dX5_text_70 : decode cX5_text 70 = .ok (.iconst 4, 1) := dk_7 (dk_at dksX5_text_3 0 rfl rfl)
theorem dX5_text_71 : decode cX5_text 71 = .ok (.invokevirtual 92, 3) := dk_182 0 92 (dk_at dksX5_text_3 1 rfl rfl)
theorem dX5_text_74 : decode cX5_text 74 = .ok (.iconst 0, 1) := dk_3 (dk_at dksX5_text_3 4 rfl rfl)
theorem dX5_text_75 : decode cX5_text 75 = .ok (.istore_n 1, 1) := dk_60 (dk_at dksX5_text_3 5 rfl rfl)
theorem dX5_text_76 : decode cX5_text 76 = .ok (.iload_n 1, 1) := dk_27 (dk_at dksX5_text_3 6 rfl rfl)
theorem dX5_text_77 : decode cX5_text 77 = .ok (.aload_n 0, 1) := dk_42 (dk_at dksX5_text_3 7 rfl rfl)
theorem dX5_text_78 : decode cX5_text 78 = .ok (.getfield 24, 3) := dk_180 0 24 (dk_at dksX5_text_3 8 rfl rfl)
theorem dX5_text_81 : decode cX5_text 81 = .ok (.invokevirtual 107, 3) := dk_182 0 107 (dk_at dksX5_text_3 11 rfl rfl)
theorem dX5_text_84 : decode cX5_text 84 = .ok (.if_icmp .ge 27, 3) := dk_162 0 27 (dk_at dksX5_text_3 14 rfl rfl)
theorem dX5_text_87 : decode cX5_text 87 = .ok (.aload_n 0, 1) := dk_42 (dk_at dksX5_text_3 17 rfl rfl)
theorem dX5_text_88 : decode cX5_text 88 = .ok (.getfield 31, 3) := dk_180 0 31 (dk_at dksX5_text_3 18 rfl rfl)
theorem dX5_text_91 : decode cX5_text 91 = .ok (.aload_n 0, 1) := dk_42 (dk_at dksX5_text_3 21 rfl rfl)
theorem dX5_text_92 : decode cX5_text 92 = .ok (.getfield 24, 3) := dk_180 0 24 (dk_at dksX5_text_4 0 rfl rfl)
theorem dX5_text_95 : decode cX5_text 95 = .ok (.iload_n 1, 1) := dk_27 (dk_at dksX5_text_4 3 rfl rfl)
theorem dX5_text_96 : decode cX5_text 96 = .ok (.invokevirtual 111, 3) := dk_182 0 111 (dk_at dksX5_text_4 4 rfl rfl)
theorem dX5_text_99 : decode cX5_text 99 = .ok (.bipush 97, 2) := dk_16 97 (dk_at dksX5_text_4 7 rfl rfl)
theorem dX5_text_101 : decode cX5_text 101 = .ok (.isub, 1) := dk_100 (dk_at dksX5_text_4 9 rfl rfl)
theorem dX5_text_102 : decode cX5_text 102 = .ok (.invokevirtual 115, 3) := dk_182 0 115 (dk_at dksX5_text_4 10 rfl rfl)
theorem dX5_text_105 : decode cX5_text 105 = .ok (.iinc 1 1, 3) := dk_132 1 1 (dk_at dksX5_text_4 13 rfl rfl)
theorem dX5_text_108 : decode cX5_text 108 = .ok (.goto (-32), 3) := dk_167 255 224 (dk_at dksX5_text_4 16 rfl rfl)
theorem dX5_text_111 : decode cX5_text 111 = .ok (.aload_n 0, 1) := dk_42 (dk_at dksX5_text_4 19 rfl rfl)
theorem dX5_text_112 : decode cX5_text 112 = .ok (.invokevirtual 35, 3) := dk_182 0 35 (dk_at dksX5_text_4 20 rfl rfl)
theorem dX5_text_115 : decode cX5_text 115 = .ok (.goto (-79), 3) := dk_167 255 177 (dk_at dksX5_text_5 0 rfl rfl)
theorem dX5_text_118 : decode cX5_text 118 = .ok (.return_, 1) := dk_177 (dk_at dksX5_text_5 3 rfl rfl)
abbrev cX5_must : ByteArray := prog_7_method_6_code
def yX5_must : MethodName := ⟨RX5, "must", "(ZI)V"⟩
def dkwX5_must_0 : List UInt8 := [27, 154, 0, 16, 187, 0, 87, 89, 28, 42, 180, 0, 49, 183, 0, 89, 191, 177]
abbrev dktX5_must_0 : List UInt8 := dkwX5_must_0 ++ []
theorem dksX5_must_0 : cX5_must.data.toList.drop 0 = dktX5_must_0 := by decide +kernel
theorem dX5_must_0 : decode cX5_must 0 = .ok (.iload_n 1, 1) := dk_27 (dk_at dksX5_must_0 0 rfl rfl)
theorem dX5_must_1 : decode cX5_must 1 = .ok (.ifCond .ne 16, 3) := dk_154 0 16 (dk_at dksX5_must_0 1 rfl rfl)
theorem dX5_must_4 : decode cX5_must 4 = .ok (.new 87, 3) := dk_187 0 87 (dk_at dksX5_must_0 4 rfl rfl)
theorem dX5_must_7 : decode cX5_must 7 = .ok (.dup, 1) := dk_89 (dk_at dksX5_must_0 7 rfl rfl)
theorem dX5_must_8 : decode cX5_must 8 = .ok (.iload_n 2, 1) := dk_28 (dk_at dksX5_must_0 8 rfl rfl)
theorem dX5_must_9 : decode cX5_must 9 = .ok (.aload_n 0, 1) := dk_42 (dk_at dksX5_must_0 9 rfl rfl)
theorem dX5_must_10 : decode cX5_must 10 = .ok (.getfield 49, 3) := dk_180 0 49 (dk_at dksX5_must_0 10 rfl rfl)
theorem dX5_must_13 : decode cX5_must 13 = .ok (.invokespecial 89, 3) := dk_183 0 89 (dk_at dksX5_must_0 13 rfl rfl)
theorem dX5_must_16 : decode cX5_must 16 = .ok (.athrow, 1) := dk_191 (dk_at dksX5_must_0 16 rfl rfl)
theorem dX5_must_17 : decode cX5_must 17 = .ok (.return_, 1) := dk_177 (dk_at dksX5_must_0 17 rfl rfl)
abbrev cX5_semicolon : ByteArray := prog_7_method_13_code
def yX5_semicolon : MethodName := ⟨RX5, "semicolon", "()V"⟩
def dkwX5_semicolon_0 : List UInt8 := [42, 42, 180, 0, 67, 6, 160, 0, 7, 4, 167, 0, 4, 3, 4, 182, 0, 92, 42, 182, 0, 35, 177]
abbrev dktX5_semicolon_0 : List UInt8 := dkwX5_semicolon_0 ++ []
theorem dksX5_semicolon_0 : cX5_semicolon.data.toList.drop 0 = dktX5_semicolon_0 := by decide +kernel
theorem dX5_semicolon_0 : decode cX5_semicolon 0 = .ok (.aload_n 0, 1) := dk_42 (dk_at dksX5_semicolon_0 0 rfl rfl)
theorem dX5_semicolon_1 : decode cX5_semicolon 1 = .ok (.aload_n 0, 1) := dk_42 (dk_at dksX5_semicolon_0 1 rfl rfl)
theorem dX5_semicolon_2 : decode cX5_semicolon 2 = .ok (.getfield 67, 3) := dk_180 0 67 (dk_at dksX5_semicolon_0 2 rfl rfl)
theorem dX5_semicolon_5 : decode cX5_semicolon 5 = .ok (.iconst 3, 1) := dk_6 (dk_at dksX5_semicolon_0 5 rfl rfl)
theorem dX5_semicolon_6 : decode cX5_semicolon 6 = .ok (.if_icmp .ne 7, 3) := dk_160 0 7 (dk_at dksX5_semicolon_0 6 rfl rfl)
theorem dX5_semicolon_9 : decode cX5_semicolon 9 = .ok (.iconst 1, 1) := dk_4 (dk_at dksX5_semicolon_0 9 rfl rfl)
theorem dX5_semicolon_10 : decode cX5_semicolon 10 = .ok (.goto 4, 3) := dk_167 0 4 (dk_at dksX5_semicolon_0 10 rfl rfl)
theorem dX5_semicolon_13 : decode cX5_semicolon 13 = .ok (.iconst 0, 1) := dk_3 (dk_at dksX5_semicolon_0 13 rfl rfl)
theorem dX5_semicolon_14 : decode cX5_semicolon 14 = .ok (.iconst 1, 1) := dk_4 (dk_at dksX5_semicolon_0 14 rfl rfl)
theorem dX5_semicolon_15 : decode cX5_semicolon 15 = .ok (.invokevirtual 92, 3) := dk_182 0 92 (dk_at dksX5_semicolon_0 15 rfl rfl)
theorem dX5_semicolon_18 : decode cX5_semicolon 18 = .ok (.aload_n 0, 1) := dk_42 (dk_at dksX5_semicolon_0 18 rfl rfl)
theorem dX5_semicolon_19 : decode cX5_semicolon 19 = .ok (.invokevirtual 35, 3) := dk_182 0 35 (dk_at dksX5_semicolon_0 19 rfl rfl)
theorem dX5_semicolon_22 : decode cX5_semicolon 22 = .ok (.return_, 1) := dk_177 (dk_at dksX5_semicolon_0 22 rfl rfl)
abbrev cX5_letter : ByteArray := prog_7_method_9_code
def yX5_letter : MethodName := ⟨RX5, "letter", "()V"⟩
def dkwX5_letter_4 : List UInt8 := [16, 40, 182, 0, 125, 79, 177]
abbrev dktX5_letter_4 : List UInt8 := dkwX5_letter_4 ++ []
def dkwX5_letter_3 : List UInt8 := [4, 27, 120, 128, 181, 0, 119, 42, 182, 0, 35, 42, 180, 0, 31, 180, 0, 121, 8, 27, 96, 42, 3]
abbrev dktX5_letter_3 : List UInt8 := dkwX5_letter_3 ++ dktX5_letter_4
def dkwX5_letter_2 : List UInt8 := [180, 0, 119, 27, 122, 4, 126, 154, 0, 7, 4, 167, 0, 4, 3, 6, 182, 0, 92, 42, 89, 180, 0, 119]
abbrev dktX5_letter_2 : List UInt8 := dkwX5_letter_2 ++ dktX5_letter_3
def dkwX5_letter_1 : List UInt8 := [4, 167, 0, 4, 3, 4, 182, 0, 92, 42, 180, 0, 24, 3, 182, 0, 111, 16, 97, 100, 60, 42, 42]
abbrev dktX5_letter_1 : List UInt8 := dkwX5_letter_1 ++ dktX5_letter_2
def dkwX5_letter_0 : List UInt8 := [42, 182, 0, 35, 42, 42, 180, 0, 67, 4, 160, 0, 18, 42, 180, 0, 24, 182, 0, 107, 4, 160, 0, 7]
abbrev dktX5_letter_0 : List UInt8 := dkwX5_letter_0 ++ dktX5_letter_1
theorem dksX5_letter_0 : cX5_letter.data.toList.drop 0 = dktX5_letter_0 := by decide +kernel
theorem dksX5_letter_1 : cX5_letter.data.toList.drop 24 = dktX5_letter_1 := dk_seg dksX5_letter_0 24 rfl rfl
theorem dksX5_letter_2 : cX5_letter.data.toList.drop 47 = dktX5_letter_2 := dk_seg dksX5_letter_1 23 rfl rfl
theorem dksX5_letter_3 : cX5_letter.data.toList.drop 71 = dktX5_letter_3 := dk_seg dksX5_letter_2 24 rfl rfl
theorem dksX5_letter_4 : cX5_letter.data.toList.drop 94 = dktX5_letter_4 := dk_seg dksX5_letter_3 23 rfl rfl
theorem dX5_letter_0 : decode cX5_letter 0 = .ok (.aload_n 0, 1) := dk_42 (dk_at dksX5_letter_0 0 rfl rfl)
theorem dX5_letter_1 : decode cX5_letter 1 = .ok (.invokevirtual 35, 3) := dk_182 0 35 (dk_at dksX5_letter_0 1 rfl rfl)
theorem dX5_letter_4 : decode cX5_letter 4 = .ok (.aload_n 0, 1) := dk_42 (dk_at dksX5_letter_0 4 rfl rfl)
theorem dX5_letter_5 : decode cX5_letter 5 = .ok (.aload_n 0, 1) := dk_42 (dk_at dksX5_letter_0 5 rfl rfl)
theorem dX5_letter_6 : decode cX5_letter 6 = .ok (.getfield 67, 3) := dk_180 0 67 (dk_at dksX5_letter_0 6 rfl rfl)
theorem dX5_letter_9 : decode cX5_letter 9 = .ok (.iconst 1, 1) := dk_4 (dk_at dksX5_letter_0 9 rfl rfl)
theorem dX5_letter_10 : decode cX5_letter 10 = .ok (.if_icmp .ne 18, 3) := dk_160 0 18 (dk_at dksX5_letter_0 10 rfl rfl)
theorem dX5_letter_13 : decode cX5_letter 13 = .ok (.aload_n 0, 1) := dk_42 (dk_at dksX5_letter_0 13 rfl rfl)
theorem dX5_letter_14 : decode cX5_letter 14 = .ok (.getfield 24, 3) := dk_180 0 24 (dk_at dksX5_letter_0 14 rfl rfl)
theorem dX5_letter_17 : decode cX5_letter 17 = .ok (.invokevirtual 107, 3) := dk_182 0 107 (dk_at dksX5_letter_0 17 rfl rfl)
theorem dX5_letter_20 : decode cX5_letter 20 = .ok (.iconst 1, 1) := dk_4 (dk_at dksX5_letter_0 20 rfl rfl)
theorem dX5_letter_21 : decode cX5_letter 21 = .ok (.if_icmp .ne 7, 3) := dk_160 0 7 (dk_at dksX5_letter_0 21 rfl rfl)
theorem dX5_letter_24 : decode cX5_letter 24 = .ok (.iconst 1, 1) := dk_4 (dk_at dksX5_letter_1 0 rfl rfl)
theorem dX5_letter_25 : decode cX5_letter 25 = .ok (.goto 4, 3) := dk_167 0 4 (dk_at dksX5_letter_1 1 rfl rfl)
theorem dX5_letter_28 : decode cX5_letter 28 = .ok (.iconst 0, 1) := dk_3 (dk_at dksX5_letter_1 4 rfl rfl)
theorem dX5_letter_29 : decode cX5_letter 29 = .ok (.iconst 1, 1) := dk_4 (dk_at dksX5_letter_1 5 rfl rfl)
theorem dX5_letter_30 : decode cX5_letter 30 = .ok (.invokevirtual 92, 3) := dk_182 0 92 (dk_at dksX5_letter_1 6 rfl rfl)
theorem dX5_letter_33 : decode cX5_letter 33 = .ok (.aload_n 0, 1) := dk_42 (dk_at dksX5_letter_1 9 rfl rfl)
theorem dX5_letter_34 : decode cX5_letter 34 = .ok (.getfield 24, 3) := dk_180 0 24 (dk_at dksX5_letter_1 10 rfl rfl)
theorem dX5_letter_37 : decode cX5_letter 37 = .ok (.iconst 0, 1) := dk_3 (dk_at dksX5_letter_1 13 rfl rfl)
theorem dX5_letter_38 : decode cX5_letter 38 = .ok (.invokevirtual 111, 3) := dk_182 0 111 (dk_at dksX5_letter_1 14 rfl rfl)
theorem dX5_letter_41 : decode cX5_letter 41 = .ok (.bipush 97, 2) := dk_16 97 (dk_at dksX5_letter_1 17 rfl rfl)
theorem dX5_letter_43 : decode cX5_letter 43 = .ok (.isub, 1) := dk_100 (dk_at dksX5_letter_1 19 rfl rfl)
theorem dX5_letter_44 : decode cX5_letter 44 = .ok (.istore_n 1, 1) := dk_60 (dk_at dksX5_letter_1 20 rfl rfl)
theorem dX5_letter_45 : decode cX5_letter 45 = .ok (.aload_n 0, 1) := dk_42 (dk_at dksX5_letter_1 21 rfl rfl)
theorem dX5_letter_46 : decode cX5_letter 46 = .ok (.aload_n 0, 1) := dk_42 (dk_at dksX5_letter_1 22 rfl rfl)
theorem dX5_letter_47 : decode cX5_letter 47 = .ok (.getfield 119, 3) := dk_180 0 119 (dk_at dksX5_letter_2 0 rfl rfl)
theorem dX5_letter_50 : decode cX5_letter 50 = .ok (.iload_n 1, 1) := dk_27 (dk_at dksX5_letter_2 3 rfl rfl)
theorem dX5_letter_51 : decode cX5_letter 51 = .ok (.ishr, 1) := dk_122 (dk_at dksX5_letter_2 4 rfl rfl)
theorem dX5_letter_52 : decode cX5_letter 52 = .ok (.iconst 1, 1) := dk_4 (dk_at dksX5_letter_2 5 rfl rfl)
theorem dX5_letter_53 : decode cX5_letter 53 = .ok (.iand, 1) := dk_126 (dk_at dksX5_letter_2 6 rfl rfl)
theorem dX5_letter_54 : decode cX5_letter 54 = .ok (.ifCond .ne 7, 3) := dk_154 0 7 (dk_at dksX5_letter_2 7 rfl rfl)
theorem dX5_letter_57 : decode cX5_letter 57 = .ok (.iconst 1, 1) := dk_4 (dk_at dksX5_letter_2 10 rfl rfl)
theorem dX5_letter_58 : decode cX5_letter 58 = .ok (.goto 4, 3) := dk_167 0 4 (dk_at dksX5_letter_2 11 rfl rfl)
theorem dX5_letter_61 : decode cX5_letter 61 = .ok (.iconst 0, 1) := dk_3 (dk_at dksX5_letter_2 14 rfl rfl)
theorem dX5_letter_62 : decode cX5_letter 62 = .ok (.iconst 3, 1) := dk_6 (dk_at dksX5_letter_2 15 rfl rfl)
theorem dX5_letter_63 : decode cX5_letter 63 = .ok (.invokevirtual 92, 3) := dk_182 0 92 (dk_at dksX5_letter_2 16 rfl rfl)
theorem dX5_letter_66 : decode cX5_letter 66 = .ok (.aload_n 0, 1) := dk_42 (dk_at dksX5_letter_2 19 rfl rfl)
theorem dX5_letter_67 : decode cX5_letter 67 = .ok (.dup, 1) := dk_89 (dk_at dksX5_letter_2 20 rfl rfl)
theorem dX5_letter_68 : decode cX5_letter 68 = .ok (.getfield 119, 3) := dk_180 0 119 (dk_at dksX5_letter_2 21 rfl rfl)
theorem dX5_letter_71 : decode cX5_letter 71 = .ok (.iconst 1, 1) := dk_4 (dk_at dksX5_letter_3 0 rfl rfl)
theorem dX5_letter_72 : decode cX5_letter 72 = .ok (.iload_n 1, 1) := dk_27 (dk_at dksX5_letter_3 1 rfl rfl)
theorem dX5_letter_73 : decode cX5_letter 73 = .ok (.ishl, 1) := dk_120 (dk_at dksX5_letter_3 2 rfl rfl)
theorem dX5_letter_74 : decode cX5_letter 74 = .ok (.ior, 1) := dk_128 (dk_at dksX5_letter_3 3 rfl rfl)
theorem dX5_letter_75 : decode cX5_letter 75 = .ok (.putfield 119, 3) := dk_181 0 119 (dk_at dksX5_letter_3 4 rfl rfl)
theorem dX5_letter_78 : decode cX5_letter 78 = .ok (.aload_n 0, 1) := dk_42 (dk_at dksX5_letter_3 7 rfl rfl)
theorem dX5_letter_79 : decode cX5_letter 79 = .ok (.invokevirtual 35, 3) := dk_182 0 35 (dk_at dksX5_letter_3 8 rfl rfl)
theorem dX5_letter_82 : decode cX5_letter 82 = .ok (.aload_n 0, 1) := dk_42 (dk_at dksX5_letter_3 11 rfl rfl)
theorem dX5_letter_83 : decode cX5_letter 83 = .ok (.getfield 31, 3) := dk_180 0 31 (dk_at dksX5_letter_3 12 rfl rfl)
theorem dX5_letter_86 : decode cX5_letter 86 = .ok (.getfield 121, 3) := dk_180 0 121 (dk_at dksX5_letter_3 15 rfl rfl)
theorem dX5_letter_89 : decode cX5_letter 89 = .ok (.iconst 5, 1) := dk_8 (dk_at dksX5_letter_3 18 rfl rfl)
theorem dX5_letter_90 : decode cX5_letter 90 = .ok (.iload_n 1, 1) := dk_27 (dk_at dksX5_letter_3 19 rfl rfl)
theorem dX5_letter_91 : decode cX5_letter 91 = .ok (.iadd, 1) := dk_96 (dk_at dksX5_letter_3 20 rfl rfl)
theorem dX5_letter_92 : decode cX5_letter 92 = .ok (.aload_n 0, 1) := dk_42 (dk_at dksX5_letter_3 21 rfl rfl)
theorem dX5_letter_93 : decode cX5_letter 93 = .ok (.iconst 0, 1) := dk_3 (dk_at dksX5_letter_3 22 rfl rfl)
theorem dX5_letter_94 : decode cX5_letter 94 = .ok (.bipush 40, 2) := dk_16 40 (dk_at dksX5_letter_4 0 rfl rfl)
theorem dX5_letter_96 : decode cX5_letter 96 = .ok (.invokevirtual 125, 3) := dk_182 0 125 (dk_at dksX5_letter_4 2 rfl rfl)
theorem dX5_letter_99 : decode cX5_letter 99 = .ok (.iastore, 1) := dk_79 (dk_at dksX5_letter_4 5 rfl rfl)
theorem dX5_letter_100 : decode cX5_letter 100 = .ok (.return_, 1) := dk_177 (dk_at dksX5_letter_4 6 rfl rfl)
abbrev cX5_number : ByteArray := prog_7_method_7_code
def yX5_number : MethodName := ⟨RX5, "number", "(II)I"⟩
def dkwX5_number_1 : List UInt8 := [27, 133, 28, 133, 184, 0, 59, 5, 182, 0, 92, 42, 180, 0, 52, 62, 42, 182, 0, 35, 29, 172]
abbrev dktX5_number_1 : List UInt8 := dkwX5_number_1 ++ []
def dkwX5_number_0 : List UInt8 := [42, 42, 180, 0, 67, 5, 160, 0, 7, 4, 167, 0, 4, 3, 4, 182, 0, 92, 42, 42, 180, 0, 52, 133]
abbrev dktX5_number_0 : List UInt8 := dkwX5_number_0 ++ dktX5_number_1
theorem dksX5_number_0 : cX5_number.data.toList.drop 0 = dktX5_number_0 := by decide +kernel
theorem dksX5_number_1 : cX5_number.data.toList.drop 24 = dktX5_number_1 := dk_seg dksX5_number_0 24 rfl rfl
theorem dX5_number_0 : decode cX5_number 0 = .ok (.aload_n 0, 1) := dk_42 (dk_at dksX5_number_0 0 rfl rfl)
theorem dX5_number_1 : decode cX5_number 1 = .ok (.aload_n 0, 1) := dk_42 (dk_at dksX5_number_0 1 rfl rfl)
theorem dX5_number_2 : decode cX5_number 2 = .ok (.getfield 67, 3) := dk_180 0 67 (dk_at dksX5_number_0 2 rfl rfl)
theorem dX5_number_5 : decode cX5_number 5 = .ok (.iconst 2, 1) := dk_5 (dk_at dksX5_number_0 5 rfl rfl)
theorem dX5_number_6 : decode cX5_number 6 = .ok (.if_icmp .ne 7, 3) := dk_160 0 7 (dk_at dksX5_number_0 6 rfl rfl)
theorem dX5_number_9 : decode cX5_number 9 = .ok (.iconst 1, 1) := dk_4 (dk_at dksX5_number_0 9 rfl rfl)
theorem dX5_number_10 : decode cX5_number 10 = .ok (.goto 4, 3) := dk_167 0 4 (dk_at dksX5_number_0 10 rfl rfl)
theorem dX5_number_13 : decode cX5_number 13 = .ok (.iconst 0, 1) := dk_3 (dk_at dksX5_number_0 13 rfl rfl)
theorem dX5_number_14 : decode cX5_number 14 = .ok (.iconst 1, 1) := dk_4 (dk_at dksX5_number_0 14 rfl rfl)
theorem dX5_number_15 : decode cX5_number 15 = .ok (.invokevirtual 92, 3) := dk_182 0 92 (dk_at dksX5_number_0 15 rfl rfl)
theorem dX5_number_18 : decode cX5_number 18 = .ok (.aload_n 0, 1) := dk_42 (dk_at dksX5_number_0 18 rfl rfl)
theorem dX5_number_19 : decode cX5_number 19 = .ok (.aload_n 0, 1) := dk_42 (dk_at dksX5_number_0 19 rfl rfl)
theorem dX5_number_20 : decode cX5_number 20 = .ok (.getfield 52, 3) := dk_180 0 52 (dk_at dksX5_number_0 20 rfl rfl)
theorem dX5_number_23 : decode cX5_number 23 = .ok (.i2l, 1) := dk_133 (dk_at dksX5_number_0 23 rfl rfl)
theorem dX5_number_24 : decode cX5_number 24 = .ok (.iload_n 1, 1) := dk_27 (dk_at dksX5_number_1 0 rfl rfl)
theorem dX5_number_25 : decode cX5_number 25 = .ok (.i2l, 1) := dk_133 (dk_at dksX5_number_1 1 rfl rfl)
theorem dX5_number_26 : decode cX5_number 26 = .ok (.iload_n 2, 1) := dk_28 (dk_at dksX5_number_1 2 rfl rfl)
theorem dX5_number_27 : decode cX5_number 27 = .ok (.i2l, 1) := dk_133 (dk_at dksX5_number_1 3 rfl rfl)
theorem dX5_number_28 : decode cX5_number 28 = .ok (.invokestatic 59, 3) := dk_184 0 59 (dk_at dksX5_number_1 4 rfl rfl)
theorem dX5_number_31 : decode cX5_number 31 = .ok (.iconst 2, 1) := dk_5 (dk_at dksX5_number_1 7 rfl rfl)
theorem dX5_number_32 : decode cX5_number 32 = .ok (.invokevirtual 92, 3) := dk_182 0 92 (dk_at dksX5_number_1 8 rfl rfl)
theorem dX5_number_35 : decode cX5_number 35 = .ok (.aload_n 0, 1) := dk_42 (dk_at dksX5_number_1 11 rfl rfl)
theorem dX5_number_36 : decode cX5_number 36 = .ok (.getfield 52, 3) := dk_180 0 52 (dk_at dksX5_number_1 12 rfl rfl)
theorem dX5_number_39 : decode cX5_number 39 = .ok (.istore_n 3, 1) := dk_62 (dk_at dksX5_number_1 15 rfl rfl)
theorem dX5_number_40 : decode cX5_number 40 = .ok (.aload_n 0, 1) := dk_42 (dk_at dksX5_number_1 16 rfl rfl)
theorem dX5_number_41 : decode cX5_number 41 = .ok (.invokevirtual 35, 3) := dk_182 0 35 (dk_at dksX5_number_1 17 rfl rfl)
theorem dX5_number_44 : decode cX5_number 44 = .ok (.iload_n 3, 1) := dk_29 (dk_at dksX5_number_1 20 rfl rfl)
theorem dX5_number_45 : decode cX5_number 45 = .ok (.ireturn, 1) := dk_172 (dk_at dksX5_number_1 21 rfl rfl)
abbrev cX5_pin : ByteArray := prog_7_method_10_code
def yX5_pin : MethodName := ⟨RX5, "pin", "()V"⟩
def dkwX5_pin_5 : List UInt8 := [182, 0, 35, 177]
abbrev dktX5_pin_5 : List UInt8 := dkwX5_pin_5 ++ []
def dkwX5_pin_4 : List UInt8 := [180, 0, 136, 10, 42, 180, 0, 52, 121, 129, 181, 0, 136, 42, 89, 180, 0, 129, 4, 96, 181, 0, 129, 42]
abbrev dktX5_pin_4 : List UInt8 := dkwX5_pin_4 ++ dktX5_pin_5
def dkwX5_pin_3 : List UInt8 := [180, 0, 52, 182, 0, 132, 154, 0, 7, 4, 167, 0, 4, 3, 6, 182, 0, 92, 42, 180, 0, 31, 89]
abbrev dktX5_pin_3 : List UInt8 := dkwX5_pin_3 ++ dktX5_pin_4
def dkwX5_pin_2 : List UInt8 := [180, 0, 31, 180, 0, 104, 162, 0, 7, 4, 167, 0, 4, 3, 5, 182, 0, 92, 42, 42, 180, 0, 31, 42]
abbrev dktX5_pin_2 : List UInt8 := dkwX5_pin_2 ++ dktX5_pin_3
def dkwX5_pin_1 : List UInt8 := [42, 180, 0, 67, 5, 160, 0, 7, 4, 167, 0, 4, 3, 4, 182, 0, 92, 42, 42, 180, 0, 52, 42]
abbrev dktX5_pin_1 : List UInt8 := dkwX5_pin_1 ++ dktX5_pin_2
def dkwX5_pin_0 : List UInt8 := [42, 42, 180, 0, 129, 16, 16, 162, 0, 7, 4, 167, 0, 4, 3, 7, 182, 0, 92, 42, 182, 0, 35, 42]
abbrev dktX5_pin_0 : List UInt8 := dkwX5_pin_0 ++ dktX5_pin_1
theorem dksX5_pin_0 : cX5_pin.data.toList.drop 0 = dktX5_pin_0 := by decide +kernel
theorem dksX5_pin_1 : cX5_pin.data.toList.drop 24 = dktX5_pin_1 := dk_seg dksX5_pin_0 24 rfl rfl
theorem dksX5_pin_2 : cX5_pin.data.toList.drop 47 = dktX5_pin_2 := dk_seg dksX5_pin_1 23 rfl rfl
theorem dksX5_pin_3 : cX5_pin.data.toList.drop 71 = dktX5_pin_3 := dk_seg dksX5_pin_2 24 rfl rfl
theorem dksX5_pin_4 : cX5_pin.data.toList.drop 94 = dktX5_pin_4 := dk_seg dksX5_pin_3 23 rfl rfl
theorem dksX5_pin_5 : cX5_pin.data.toList.drop 118 = dktX5_pin_5 := dk_seg dksX5_pin_4 24 rfl rfl
theorem dX5_pin_0 : decode cX5_pin 0 = .ok (.aload_n 0, 1) := dk_42 (dk_at dksX5_pin_0 0 rfl rfl)
theorem dX5_pin_1 : decode cX5_pin 1 = .ok (.aload_n 0, 1) := dk_42 (dk_at dksX5_pin_0 1 rfl rfl)
theorem dX5_pin_2 : decode cX5_pin 2 = .ok (.getfield 129, 3) := dk_180 0 129 (dk_at dksX5_pin_0 2 rfl rfl)
theorem dX5_pin_5 : decode cX5_pin 5 = .ok (.bipush 16, 2) := dk_16 16 (dk_at dksX5_pin_0 5 rfl rfl)
theorem dX5_pin_7 : decode cX5_pin 7 = .ok (.if_icmp .ge 7, 3) := dk_162 0 7 (dk_at dksX5_pin_0 7 rfl rfl)
theorem dX5_pin_10 : decode cX5_pin 10 = .ok (.iconst 1, 1) := dk_4 (dk_at dksX5_pin_0 10 rfl rfl)
theorem dX5_pin_11 : decode cX5_pin 11 = .ok (.goto 4, 3) := dk_167 0 4 (dk_at dksX5_pin_0 11 rfl rfl)
theorem dX5_pin_14 : decode cX5_pin 14 = .ok (.iconst 0, 1) := dk_3 (dk_at dksX5_pin_0 14 rfl rfl)
theorem dX5_pin_15 : decode cX5_pin 15 = .ok (.iconst 4, 1) := dk_7 (dk_at dksX5_pin_0 15 rfl rfl)
theorem dX5_pin_16 : decode cX5_pin 16 = .ok (.invokevirtual 92, 3) := dk_182 0 92 (dk_at dksX5_pin_0 16 rfl rfl)
theorem dX5_pin_19 : decode cX5_pin 19 = .ok (.aload_n 0, 1) := dk_42 (dk_at dksX5_pin_0 19 rfl rfl)
theorem dX5_pin_20 : decode cX5_pin 20 = .ok (.invokevirtual 35, 3) := dk_182 0 35 (dk_at dksX5_pin_0 20 rfl rfl)
theorem dX5_pin_23 : decode cX5_pin 23 = .ok (.aload_n 0, 1) := dk_42 (dk_at dksX5_pin_0 23 rfl rfl)
theorem dX5_pin_24 : decode cX5_pin 24 = .ok (.aload_n 0, 1) := dk_42 (dk_at dksX5_pin_1 0 rfl rfl)
theorem dX5_pin_25 : decode cX5_pin 25 = .ok (.getfield 67, 3) := dk_180 0 67 (dk_at dksX5_pin_1 1 rfl rfl)
theorem dX5_pin_28 : decode cX5_pin 28 = .ok (.iconst 2, 1) := dk_5 (dk_at dksX5_pin_1 4 rfl rfl)
theorem dX5_pin_29 : decode cX5_pin 29 = .ok (.if_icmp .ne 7, 3) := dk_160 0 7 (dk_at dksX5_pin_1 5 rfl rfl)
theorem dX5_pin_32 : decode cX5_pin 32 = .ok (.iconst 1, 1) := dk_4 (dk_at dksX5_pin_1 8 rfl rfl)
theorem dX5_pin_33 : decode cX5_pin 33 = .ok (.goto 4, 3) := dk_167 0 4 (dk_at dksX5_pin_1 9 rfl rfl)
theorem dX5_pin_36 : decode cX5_pin 36 = .ok (.iconst 0, 1) := dk_3 (dk_at dksX5_pin_1 12 rfl rfl)
theorem dX5_pin_37 : decode cX5_pin 37 = .ok (.iconst 1, 1) := dk_4 (dk_at dksX5_pin_1 13 rfl rfl)
theorem dX5_pin_38 : decode cX5_pin 38 = .ok (.invokevirtual 92, 3) := dk_182 0 92 (dk_at dksX5_pin_1 14 rfl rfl)
theorem dX5_pin_41 : decode cX5_pin 41 = .ok (.aload_n 0, 1) := dk_42 (dk_at dksX5_pin_1 17 rfl rfl)
theorem dX5_pin_42 : decode cX5_pin 42 = .ok (.aload_n 0, 1) := dk_42 (dk_at dksX5_pin_1 18 rfl rfl)
theorem dX5_pin_43 : decode cX5_pin 43 = .ok (.getfield 52, 3) := dk_180 0 52 (dk_at dksX5_pin_1 19 rfl rfl)
theorem dX5_pin_46 : decode cX5_pin 46 = .ok (.aload_n 0, 1) := dk_42 (dk_at dksX5_pin_1 22 rfl rfl)
theorem dX5_pin_47 : decode cX5_pin 47 = .ok (.getfield 31, 3) := dk_180 0 31 (dk_at dksX5_pin_2 0 rfl rfl)
theorem dX5_pin_50 : decode cX5_pin 50 = .ok (.getfield 104, 3) := dk_180 0 104 (dk_at dksX5_pin_2 3 rfl rfl)
theorem dX5_pin_53 : decode cX5_pin 53 = .ok (.if_icmp .ge 7, 3) := dk_162 0 7 (dk_at dksX5_pin_2 6 rfl rfl)
theorem dX5_pin_56 : decode cX5_pin 56 = .ok (.iconst 1, 1) := dk_4 (dk_at dksX5_pin_2 9 rfl rfl)
theorem dX5_pin_57 : decode cX5_pin 57 = .ok (.goto 4, 3) := dk_167 0 4 (dk_at dksX5_pin_2 10 rfl rfl)
theorem dX5_pin_60 : decode cX5_pin 60 = .ok (.iconst 0, 1) := dk_3 (dk_at dksX5_pin_2 13 rfl rfl)
theorem dX5_pin_61 : decode cX5_pin 61 = .ok (.iconst 2, 1) := dk_5 (dk_at dksX5_pin_2 14 rfl rfl)
theorem dX5_pin_62 : decode cX5_pin 62 = .ok (.invokevirtual 92, 3) := dk_182 0 92 (dk_at dksX5_pin_2 15 rfl rfl)
theorem dX5_pin_65 : decode cX5_pin 65 = .ok (.aload_n 0, 1) := dk_42 (dk_at dksX5_pin_2 18 rfl rfl)
theorem dX5_pin_66 : decode cX5_pin 66 = .ok (.aload_n 0, 1) := dk_42 (dk_at dksX5_pin_2 19 rfl rfl)
theorem dX5_pin_67 : decode cX5_pin 67 = .ok (.getfield 31, 3) := dk_180 0 31 (dk_at dksX5_pin_2 20 rfl rfl)
theorem dX5_pin_70 : decode cX5_pin 70 = .ok (.aload_n 0, 1) := dk_42 (dk_at dksX5_pin_2 23 rfl rfl)
theorem dX5_pin_71 : decode cX5_pin 71 = .ok (.getfield 52, 3) := dk_180 0 52 (dk_at dksX5_pin_3 0 rfl rfl)
theorem dX5_pin_74 : decode cX5_pin 74 = .ok (.invokevirtual 132, 3) := dk_182 0 132 (dk_at dksX5_pin_3 3 rfl rfl)
theorem dX5_pin_77 : decode cX5_pin 77 = .ok (.ifCond .ne 7, 3) := dk_154 0 7 (dk_at dksX5_pin_3 6 rfl rfl)
theorem dX5_pin_80 : decode cX5_pin 80 = .ok (.iconst 1, 1) := dk_4 (dk_at dksX5_pin_3 9 rfl rfl)
theorem dX5_pin_81 : decode cX5_pin 81 = .ok (.goto 4, 3) := dk_167 0 4 (dk_at dksX5_pin_3 10 rfl rfl)
theorem dX5_pin_84 : decode cX5_pin 84 = .ok (.iconst 0, 1) := dk_3 (dk_at dksX5_pin_3 13 rfl rfl)
theorem dX5_pin_85 : decode cX5_pin 85 = .ok (.iconst 3, 1) := dk_6 (dk_at dksX5_pin_3 14 rfl rfl)
theorem dX5_pin_86 : decode cX5_pin 86 = .ok (.invokevirtual 92, 3) := dk_182 0 92 (dk_at dksX5_pin_3 15 rfl rfl)
theorem dX5_pin_89 : decode cX5_pin 89 = .ok (.aload_n 0, 1) := dk_42 (dk_at dksX5_pin_3 18 rfl rfl)
theorem dX5_pin_90 : decode cX5_pin 90 = .ok (.getfield 31, 3) := dk_180 0 31 (dk_at dksX5_pin_3 19 rfl rfl)
theorem dX5_pin_93 : decode cX5_pin 93 = .ok (.dup, 1) := dk_89 (dk_at dksX5_pin_3 22 rfl rfl)
theorem dX5_pin_94 : decode cX5_pin 94 = .ok (.getfield 136, 3) := dk_180 0 136 (dk_at dksX5_pin_4 0 rfl rfl)
theorem dX5_pin_97 : decode cX5_pin 97 = .ok (.lconst 1, 1) := dk_10 (dk_at dksX5_pin_4 3 rfl rfl)
theorem dX5_pin_98 : decode cX5_pin 98 = .ok (.aload_n 0, 1) := dk_42 (dk_at dksX5_pin_4 4 rfl rfl)
theorem dX5_pin_99 : decode cX5_pin 99 = .ok (.getfield 52, 3) := dk_180 0 52 (dk_at dksX5_pin_4 5 rfl rfl)
theorem dX5_pin_102 : decode cX5_pin 102 = .ok (.lshl, 1) := dk_121 (dk_at dksX5_pin_4 8 rfl rfl)
theorem dX5_pin_103 : decode cX5_pin 103 = .ok (.lor, 1) := dk_129 (dk_at dksX5_pin_4 9 rfl rfl)
theorem dX5_pin_104 : decode cX5_pin 104 = .ok (.putfield 136, 3) := dk_181 0 136 (dk_at dksX5_pin_4 10 rfl rfl)
theorem dX5_pin_107 : decode cX5_pin 107 = .ok (.aload_n 0, 1) := dk_42 (dk_at dksX5_pin_4 13 rfl rfl)
theorem dX5_pin_108 : decode cX5_pin 108 = .ok (.dup, 1) := dk_89 (dk_at dksX5_pin_4 14 rfl rfl)
theorem dX5_pin_109 : decode cX5_pin 109 = .ok (.getfield 129, 3) := dk_180 0 129 (dk_at dksX5_pin_4 15 rfl rfl)
theorem dX5_pin_112 : decode cX5_pin 112 = .ok (.iconst 1, 1) := dk_4 (dk_at dksX5_pin_4 18 rfl rfl)
theorem dX5_pin_113 : decode cX5_pin 113 = .ok (.iadd, 1) := dk_96 (dk_at dksX5_pin_4 19 rfl rfl)
theorem dX5_pin_114 : decode cX5_pin 114 = .ok (.putfield 129, 3) := dk_181 0 129 (dk_at dksX5_pin_4 20 rfl rfl)
theorem dX5_pin_117 : decode cX5_pin 117 = .ok (.aload_n 0, 1) := dk_42 (dk_at dksX5_pin_4 23 rfl rfl)
theorem dX5_pin_118 : decode cX5_pin 118 = .ok (.invokevirtual 35, 3) := dk_182 0 35 (dk_at dksX5_pin_5 0 rfl rfl)
theorem dX5_pin_121 : decode cX5_pin 121 = .ok (.return_, 1) := dk_177 (dk_at dksX5_pin_5 3 rfl rfl)
abbrev cX5_named : ByteArray := prog_7_method_12_code
def yX5_named : MethodName := ⟨RX5, "named", "()I"⟩
def dkwX5_named_13 : List UInt8 := [191, 172]
abbrev dktX5_named_13 : List UInt8 := dkwX5_named_13 ++ []
def dkwX5_named_12 : List UInt8 := [42, 180, 0, 24, 18, 96, 182, 0, 98, 153, 0, 7, 6, 167, 0, 4, 4, 42, 180, 0, 49, 183, 0, 89]
abbrev dktX5_named_12 : List UInt8 := dkwX5_named_12 ++ dktX5_named_13
def dkwX5_named_11 : List UInt8 := [16, 6, 167, 0, 47, 16, 7, 167, 0, 42, 16, 8, 167, 0, 37, 16, 9, 167, 0, 32, 187, 0, 87, 89]
abbrev dktX5_named_11 : List UInt8 := dkwX5_named_11 ++ dktX5_named_12
def dkwX5_named_10 : List UInt8 := [3, 167, 0, 72, 4, 167, 0, 68, 5, 167, 0, 64, 6, 167, 0, 60, 7, 167, 0, 56, 8, 167, 0, 52]
abbrev dktX5_named_10 : List UInt8 := dkwX5_named_10 ++ dktX5_named_11
def dkwX5_named_9 : List UInt8 := [170, 0, 0, 0, 0, 98, 0, 0, 0, 0, 0, 0, 0, 9, 0, 0, 0, 54, 0, 0, 0, 58, 0, 0, 0, 62, 0, 0, 0, 66, 0, 0, 0, 70, 0, 0, 0, 74, 0, 0, 0, 78, 0, 0, 0, 83, 0, 0, 0, 88, 0, 0, 0, 93]
abbrev dktX5_named_9 : List UInt8 := dkwX5_named_9 ++ dktX5_named_10
def dkwX5_named_8 : List UInt8 := [28]
abbrev dktX5_named_8 : List UInt8 := dkwX5_named_8 ++ dktX5_named_9
def dkwX5_named_7 : List UInt8 := [182, 0, 98, 153, 0, 21, 16, 8, 61, 167, 0, 15, 43, 18, 172, 182, 0, 98, 153, 0, 6, 16, 9, 61]
abbrev dktX5_named_7 : List UInt8 := dkwX5_named_7 ++ dktX5_named_8
def dkwX5_named_6 : List UInt8 := [61, 167, 0, 45, 43, 18, 168, 182, 0, 98, 153, 0, 36, 16, 7, 61, 167, 0, 30, 43, 18, 170]
abbrev dktX5_named_6 : List UInt8 := dkwX5_named_6 ++ dktX5_named_7
def dkwX5_named_5 : List UInt8 := [18, 164, 182, 0, 98, 153, 0, 65, 8, 61, 167, 0, 60, 43, 18, 166, 182, 0, 98, 153, 0, 51, 16, 6]
abbrev dktX5_named_5 : List UInt8 := dkwX5_named_5 ++ dktX5_named_6
def dkwX5_named_4 : List UInt8 := [153, 0, 93, 6, 61, 167, 0, 88, 43, 18, 162, 182, 0, 98, 153, 0, 79, 7, 61, 167, 0, 74, 43]
abbrev dktX5_named_4 : List UInt8 := dkwX5_named_4 ++ dktX5_named_5
def dkwX5_named_3 : List UInt8 := [61, 167, 0, 116, 43, 18, 158, 182, 0, 98, 153, 0, 107, 5, 61, 167, 0, 102, 43, 18, 160, 182, 0, 98]
abbrev dktX5_named_3 : List UInt8 := dkwX5_named_3 ++ dktX5_named_4
def dkwX5_named_2 : List UInt8 := [43, 18, 154, 182, 0, 98, 153, 0, 135, 3, 61, 167, 0, 130, 43, 18, 156, 182, 0, 98, 153, 0, 121, 4]
abbrev dktX5_named_2 : List UInt8 := dkwX5_named_2 ++ dktX5_named_3
def dkwX5_named_1 : List UInt8 := [171, 0, 0, 0, 230, 0, 0, 0, 10, 209, 11, 219, 240, 0, 0, 0, 89, 0, 1, 139, 23, 0, 0, 0, 188, 0, 1, 186, 139, 0, 0, 0, 159, 0, 46, 175, 117, 0, 0, 0, 173, 0, 50, 198, 124, 0, 0, 0, 203, 0, 51, 59, 131, 0, 0, 0, 131, 0, 55, 145, 117, 0, 0, 0, 145, 5, 135, 51, 96, 0, 0, 0, 218, 5, 176, 202, 195, 0, 0, 0, 103, 6, 33, 78, 105, 0, 0, 0, 117]
abbrev dktX5_named_1 : List UInt8 := dkwX5_named_1 ++ dktX5_named_2
def dkwX5_named_0 : List UInt8 := [42, 180, 0, 24, 76, 2, 61, 43, 182, 0, 151]
abbrev dktX5_named_0 : List UInt8 := dkwX5_named_0 ++ dktX5_named_1
theorem dksX5_named_0 : cX5_named.data.toList.drop 0 = dktX5_named_0 := by decide +kernel
theorem dksX5_named_1 : cX5_named.data.toList.drop 11 = dktX5_named_1 := dk_seg dksX5_named_0 11 rfl rfl
theorem dksX5_named_2 : cX5_named.data.toList.drop 100 = dktX5_named_2 := dk_seg dksX5_named_1 89 rfl rfl
theorem dksX5_named_3 : cX5_named.data.toList.drop 124 = dktX5_named_3 := dk_seg dksX5_named_2 24 rfl rfl
theorem dksX5_named_4 : cX5_named.data.toList.drop 148 = dktX5_named_4 := dk_seg dksX5_named_3 24 rfl rfl
theorem dksX5_named_5 : cX5_named.data.toList.drop 171 = dktX5_named_5 := dk_seg dksX5_named_4 23 rfl rfl
theorem dksX5_named_6 : cX5_named.data.toList.drop 195 = dktX5_named_6 := dk_seg dksX5_named_5 24 rfl rfl
theorem dksX5_named_7 : cX5_named.data.toList.drop 217 = dktX5_named_7 := dk_seg dksX5_named_6 22 rfl rfl
theorem dksX5_named_8 : cX5_named.data.toList.drop 241 = dktX5_named_8 := dk_seg dksX5_named_7 24 rfl rfl
theorem dksX5_named_9 : cX5_named.data.toList.drop 242 = dktX5_named_9 := dk_seg dksX5_named_8 1 rfl rfl
theorem dksX5_named_10 : cX5_named.data.toList.drop 296 = dktX5_named_10 := dk_seg dksX5_named_9 54 rfl rfl
theorem dksX5_named_11 : cX5_named.data.toList.drop 320 = dktX5_named_11 := dk_seg dksX5_named_10 24 rfl rfl
theorem dksX5_named_12 : cX5_named.data.toList.drop 344 = dktX5_named_12 := dk_seg dksX5_named_11 24 rfl rfl
theorem dksX5_named_13 : cX5_named.data.toList.drop 368 = dktX5_named_13 := dk_seg dksX5_named_12 24 rfl rfl
theorem dX5_named_0 : decode cX5_named 0 = .ok (.aload_n 0, 1) := dk_42 (dk_at dksX5_named_0 0 rfl rfl)
theorem dX5_named_1 : decode cX5_named 1 = .ok (.getfield 24, 3) := dk_180 0 24 (dk_at dksX5_named_0 1 rfl rfl)
theorem dX5_named_4 : decode cX5_named 4 = .ok (.astore_n 1, 1) := dk_76 (dk_at dksX5_named_0 4 rfl rfl)
theorem dX5_named_5 : decode cX5_named 5 = .ok (.iconst (-1), 1) := dk_2 (dk_at dksX5_named_0 5 rfl rfl)
theorem dX5_named_6 : decode cX5_named 6 = .ok (.istore_n 2, 1) := dk_61 (dk_at dksX5_named_0 6 rfl rfl)
theorem dX5_named_7 : decode cX5_named 7 = .ok (.aload_n 1, 1) := dk_43 (dk_at dksX5_named_0 7 rfl rfl)
theorem dX5_named_8 : decode cX5_named 8 = .ok (.invokevirtual 151, 3) := dk_182 0 151 (dk_at dksX5_named_0 8 rfl rfl)
theorem dX5_named_11 : decode cX5_named 11 = .ok (.lookupswitch 230 #[(-787751952, 89), (101143, 188), (113291, 159), (3059573, 173), (3327612, 203), (3357571, 131), (3641717, 145), (92746592, 218), (95472323, 103), (102846057, 117)], 89) := by decide +kernel
theorem dX5_named_100 : decode cX5_named 100 = .ok (.aload_n 1, 1) := dk_43 (dk_at dksX5_named_2 0 rfl rfl)
theorem dX5_named_101 : decode cX5_named 101 = .ok (.ldc 154, 2) := dk_18 154 (dk_at dksX5_named_2 1 rfl rfl)
theorem dX5_named_103 : decode cX5_named 103 = .ok (.invokevirtual 98, 3) := dk_182 0 98 (dk_at dksX5_named_2 3 rfl rfl)
theorem dX5_named_106 : decode cX5_named 106 = .ok (.ifCond .eq 135, 3) := dk_153 0 135 (dk_at dksX5_named_2 6 rfl rfl)
theorem dX5_named_109 : decode cX5_named 109 = .ok (.iconst 0, 1) := dk_3 (dk_at dksX5_named_2 9 rfl rfl)
theorem dX5_named_110 : decode cX5_named 110 = .ok (.istore_n 2, 1) := dk_61 (dk_at dksX5_named_2 10 rfl rfl)
theorem dX5_named_111 : decode cX5_named 111 = .ok (.goto 130, 3) := dk_167 0 130 (dk_at dksX5_named_2 11 rfl rfl)
theorem dX5_named_114 : decode cX5_named 114 = .ok (.aload_n 1, 1) := dk_43 (dk_at dksX5_named_2 14 rfl rfl)
theorem dX5_named_115 : decode cX5_named 115 = .ok (.ldc 156, 2) := dk_18 156 (dk_at dksX5_named_2 15 rfl rfl)
theorem dX5_named_117 : decode cX5_named 117 = .ok (.invokevirtual 98, 3) := dk_182 0 98 (dk_at dksX5_named_2 17 rfl rfl)
theorem dX5_named_120 : decode cX5_named 120 = .ok (.ifCond .eq 121, 3) := dk_153 0 121 (dk_at dksX5_named_2 20 rfl rfl)
theorem dX5_named_123 : decode cX5_named 123 = .ok (.iconst 1, 1) := dk_4 (dk_at dksX5_named_2 23 rfl rfl)
theorem dX5_named_124 : decode cX5_named 124 = .ok (.istore_n 2, 1) := dk_61 (dk_at dksX5_named_3 0 rfl rfl)
theorem dX5_named_125 : decode cX5_named 125 = .ok (.goto 116, 3) := dk_167 0 116 (dk_at dksX5_named_3 1 rfl rfl)
theorem dX5_named_128 : decode cX5_named 128 = .ok (.aload_n 1, 1) := dk_43 (dk_at dksX5_named_3 4 rfl rfl)
theorem dX5_named_129 : decode cX5_named 129 = .ok (.ldc 158, 2) := dk_18 158 (dk_at dksX5_named_3 5 rfl rfl)
theorem dX5_named_131 : decode cX5_named 131 = .ok (.invokevirtual 98, 3) := dk_182 0 98 (dk_at dksX5_named_3 7 rfl rfl)
theorem dX5_named_134 : decode cX5_named 134 = .ok (.ifCond .eq 107, 3) := dk_153 0 107 (dk_at dksX5_named_3 10 rfl rfl)
theorem dX5_named_137 : decode cX5_named 137 = .ok (.iconst 2, 1) := dk_5 (dk_at dksX5_named_3 13 rfl rfl)
theorem dX5_named_138 : decode cX5_named 138 = .ok (.istore_n 2, 1) := dk_61 (dk_at dksX5_named_3 14 rfl rfl)
theorem dX5_named_139 : decode cX5_named 139 = .ok (.goto 102, 3) := dk_167 0 102 (dk_at dksX5_named_3 15 rfl rfl)
theorem dX5_named_142 : decode cX5_named 142 = .ok (.aload_n 1, 1) := dk_43 (dk_at dksX5_named_3 18 rfl rfl)
theorem dX5_named_143 : decode cX5_named 143 = .ok (.ldc 160, 2) := dk_18 160 (dk_at dksX5_named_3 19 rfl rfl)
theorem dX5_named_145 : decode cX5_named 145 = .ok (.invokevirtual 98, 3) := dk_182 0 98 (dk_at dksX5_named_3 21 rfl rfl)
theorem dX5_named_148 : decode cX5_named 148 = .ok (.ifCond .eq 93, 3) := dk_153 0 93 (dk_at dksX5_named_4 0 rfl rfl)
theorem dX5_named_151 : decode cX5_named 151 = .ok (.iconst 3, 1) := dk_6 (dk_at dksX5_named_4 3 rfl rfl)
theorem dX5_named_152 : decode cX5_named 152 = .ok (.istore_n 2, 1) := dk_61 (dk_at dksX5_named_4 4 rfl rfl)
theorem dX5_named_153 : decode cX5_named 153 = .ok (.goto 88, 3) := dk_167 0 88 (dk_at dksX5_named_4 5 rfl rfl)
theorem dX5_named_156 : decode cX5_named 156 = .ok (.aload_n 1, 1) := dk_43 (dk_at dksX5_named_4 8 rfl rfl)
theorem dX5_named_157 : decode cX5_named 157 = .ok (.ldc 162, 2) := dk_18 162 (dk_at dksX5_named_4 9 rfl rfl)
theorem dX5_named_159 : decode cX5_named 159 = .ok (.invokevirtual 98, 3) := dk_182 0 98 (dk_at dksX5_named_4 11 rfl rfl)
theorem dX5_named_162 : decode cX5_named 162 = .ok (.ifCond .eq 79, 3) := dk_153 0 79 (dk_at dksX5_named_4 14 rfl rfl)
theorem dX5_named_165 : decode cX5_named 165 = .ok (.iconst 4, 1) := dk_7 (dk_at dksX5_named_4 17 rfl rfl)
theorem dX5_named_166 : decode cX5_named 166 = .ok (.istore_n 2, 1) := dk_61 (dk_at dksX5_named_4 18 rfl rfl)
theorem dX5_named_167 : decode cX5_named 167 = .ok (.goto 74, 3) := dk_167 0 74 (dk_at dksX5_named_4 19 rfl rfl)
theorem dX5_named_170 : decode cX5_named 170 = .ok (.aload_n 1, 1) := dk_43 (dk_at dksX5_named_4 22 rfl rfl)
theorem dX5_named_171 : decode cX5_named 171 = .ok (.ldc 164, 2) := dk_18 164 (dk_at dksX5_named_5 0 rfl rfl)
theorem dX5_named_173 : decode cX5_named 173 = .ok (.invokevirtual 98, 3) := dk_182 0 98 (dk_at dksX5_named_5 2 rfl rfl)
theorem dX5_named_176 : decode cX5_named 176 = .ok (.ifCond .eq 65, 3) := dk_153 0 65 (dk_at dksX5_named_5 5 rfl rfl)
theorem dX5_named_179 : decode cX5_named 179 = .ok (.iconst 5, 1) := dk_8 (dk_at dksX5_named_5 8 rfl rfl)
theorem dX5_named_180 : decode cX5_named 180 = .ok (.istore_n 2, 1) := dk_61 (dk_at dksX5_named_5 9 rfl rfl)
theorem dX5_named_181 : decode cX5_named 181 = .ok (.goto 60, 3) := dk_167 0 60 (dk_at dksX5_named_5 10 rfl rfl)
theorem dX5_named_184 : decode cX5_named 184 = .ok (.aload_n 1, 1) := dk_43 (dk_at dksX5_named_5 13 rfl rfl)
theorem dX5_named_185 : decode cX5_named 185 = .ok (.ldc 166, 2) := dk_18 166 (dk_at dksX5_named_5 14 rfl rfl)
theorem dX5_named_187 : decode cX5_named 187 = .ok (.invokevirtual 98, 3) := dk_182 0 98 (dk_at dksX5_named_5 16 rfl rfl)
theorem dX5_named_190 : decode cX5_named 190 = .ok (.ifCond .eq 51, 3) := dk_153 0 51 (dk_at dksX5_named_5 19 rfl rfl)
theorem dX5_named_193 : decode cX5_named 193 = .ok (.bipush 6, 2) := dk_16 6 (dk_at dksX5_named_5 22 rfl rfl)
theorem dX5_named_195 : decode cX5_named 195 = .ok (.istore_n 2, 1) := dk_61 (dk_at dksX5_named_6 0 rfl rfl)
theorem dX5_named_196 : decode cX5_named 196 = .ok (.goto 45, 3) := dk_167 0 45 (dk_at dksX5_named_6 1 rfl rfl)
theorem dX5_named_199 : decode cX5_named 199 = .ok (.aload_n 1, 1) := dk_43 (dk_at dksX5_named_6 4 rfl rfl)
theorem dX5_named_200 : decode cX5_named 200 = .ok (.ldc 168, 2) := dk_18 168 (dk_at dksX5_named_6 5 rfl rfl)
theorem dX5_named_202 : decode cX5_named 202 = .ok (.invokevirtual 98, 3) := dk_182 0 98 (dk_at dksX5_named_6 7 rfl rfl)
theorem dX5_named_205 : decode cX5_named 205 = .ok (.ifCond .eq 36, 3) := dk_153 0 36 (dk_at dksX5_named_6 10 rfl rfl)
theorem dX5_named_208 : decode cX5_named 208 = .ok (.bipush 7, 2) := dk_16 7 (dk_at dksX5_named_6 13 rfl rfl)
theorem dX5_named_210 : decode cX5_named 210 = .ok (.istore_n 2, 1) := dk_61 (dk_at dksX5_named_6 15 rfl rfl)
theorem dX5_named_211 : decode cX5_named 211 = .ok (.goto 30, 3) := dk_167 0 30 (dk_at dksX5_named_6 16 rfl rfl)
theorem dX5_named_214 : decode cX5_named 214 = .ok (.aload_n 1, 1) := dk_43 (dk_at dksX5_named_6 19 rfl rfl)
theorem dX5_named_215 : decode cX5_named 215 = .ok (.ldc 170, 2) := dk_18 170 (dk_at dksX5_named_6 20 rfl rfl)
theorem dX5_named_217 : decode cX5_named 217 = .ok (.invokevirtual 98, 3) := dk_182 0 98 (dk_at dksX5_named_7 0 rfl rfl)
theorem dX5_named_220 : decode cX5_named 220 = .ok (.ifCond .eq 21, 3) := dk_153 0 21 (dk_at dksX5_named_7 3 rfl rfl)
theorem dX5_named_223 : decode cX5_named 223 = .ok (.bipush 8, 2) := dk_16 8 (dk_at dksX5_named_7 6 rfl rfl)
theorem dX5_named_225 : decode cX5_named 225 = .ok (.istore_n 2, 1) := dk_61 (dk_at dksX5_named_7 8 rfl rfl)
theorem dX5_named_226 : decode cX5_named 226 = .ok (.goto 15, 3) := dk_167 0 15 (dk_at dksX5_named_7 9 rfl rfl)
theorem dX5_named_229 : decode cX5_named 229 = .ok (.aload_n 1, 1) := dk_43 (dk_at dksX5_named_7 12 rfl rfl)
theorem dX5_named_230 : decode cX5_named 230 = .ok (.ldc 172, 2) := dk_18 172 (dk_at dksX5_named_7 13 rfl rfl)
theorem dX5_named_232 : decode cX5_named 232 = .ok (.invokevirtual 98, 3) := dk_182 0 98 (dk_at dksX5_named_7 15 rfl rfl)
theorem dX5_named_235 : decode cX5_named 235 = .ok (.ifCond .eq 6, 3) := dk_153 0 6 (dk_at dksX5_named_7 18 rfl rfl)
theorem dX5_named_238 : decode cX5_named 238 = .ok (.bipush 9, 2) := dk_16 9 (dk_at dksX5_named_7 21 rfl rfl)
theorem dX5_named_240 : decode cX5_named 240 = .ok (.istore_n 2, 1) := dk_61 (dk_at dksX5_named_7 23 rfl rfl)
theorem dX5_named_241 : decode cX5_named 241 = .ok (.iload_n 2, 1) := dk_28 (dk_at dksX5_named_8 0 rfl rfl)
theorem dX5_named_242 : decode cX5_named 242 = .ok (.tableswitch 98 0 9 #[54, 58, 62, 66, 70, 74, 78, 83, 88, 93], 54) := by decide +kernel
theorem dX5_named_296 : decode cX5_named 296 = .ok (.iconst 0, 1) := dk_3 (dk_at dksX5_named_10 0 rfl rfl)
theorem dX5_named_297 : decode cX5_named 297 = .ok (.goto 72, 3) := dk_167 0 72 (dk_at dksX5_named_10 1 rfl rfl)
theorem dX5_named_300 : decode cX5_named 300 = .ok (.iconst 1, 1) := dk_4 (dk_at dksX5_named_10 4 rfl rfl)
theorem dX5_named_301 : decode cX5_named 301 = .ok (.goto 68, 3) := dk_167 0 68 (dk_at dksX5_named_10 5 rfl rfl)
theorem dX5_named_304 : decode cX5_named 304 = .ok (.iconst 2, 1) := dk_5 (dk_at dksX5_named_10 8 rfl rfl)
theorem dX5_named_305 : decode cX5_named 305 = .ok (.goto 64, 3) := dk_167 0 64 (dk_at dksX5_named_10 9 rfl rfl)
theorem dX5_named_308 : decode cX5_named 308 = .ok (.iconst 3, 1) := dk_6 (dk_at dksX5_named_10 12 rfl rfl)
theorem dX5_named_309 : decode cX5_named 309 = .ok (.goto 60, 3) := dk_167 0 60 (dk_at dksX5_named_10 13 rfl rfl)
theorem dX5_named_312 : decode cX5_named 312 = .ok (.iconst 4, 1) := dk_7 (dk_at dksX5_named_10 16 rfl rfl)
theorem dX5_named_313 : decode cX5_named 313 = .ok (.goto 56, 3) := dk_167 0 56 (dk_at dksX5_named_10 17 rfl rfl)
theorem dX5_named_316 : decode cX5_named 316 = .ok (.iconst 5, 1) := dk_8 (dk_at dksX5_named_10 20 rfl rfl)
theorem dX5_named_317 : decode cX5_named 317 = .ok (.goto 52, 3) := dk_167 0 52 (dk_at dksX5_named_10 21 rfl rfl)
theorem dX5_named_320 : decode cX5_named 320 = .ok (.bipush 6, 2) := dk_16 6 (dk_at dksX5_named_11 0 rfl rfl)
theorem dX5_named_322 : decode cX5_named 322 = .ok (.goto 47, 3) := dk_167 0 47 (dk_at dksX5_named_11 2 rfl rfl)
theorem dX5_named_325 : decode cX5_named 325 = .ok (.bipush 7, 2) := dk_16 7 (dk_at dksX5_named_11 5 rfl rfl)
theorem dX5_named_327 : decode cX5_named 327 = .ok (.goto 42, 3) := dk_167 0 42 (dk_at dksX5_named_11 7 rfl rfl)
theorem dX5_named_330 : decode cX5_named 330 = .ok (.bipush 8, 2) := dk_16 8 (dk_at dksX5_named_11 10 rfl rfl)
theorem dX5_named_332 : decode cX5_named 332 = .ok (.goto 37, 3) := dk_167 0 37 (dk_at dksX5_named_11 12 rfl rfl)
theorem dX5_named_335 : decode cX5_named 335 = .ok (.bipush 9, 2) := dk_16 9 (dk_at dksX5_named_11 15 rfl rfl)
theorem dX5_named_337 : decode cX5_named 337 = .ok (.goto 32, 3) := dk_167 0 32 (dk_at dksX5_named_11 17 rfl rfl)
theorem dX5_named_340 : decode cX5_named 340 = .ok (.new 87, 3) := dk_187 0 87 (dk_at dksX5_named_11 20 rfl rfl)
theorem dX5_named_343 : decode cX5_named 343 = .ok (.dup, 1) := dk_89 (dk_at dksX5_named_11 23 rfl rfl)
theorem dX5_named_344 : decode cX5_named 344 = .ok (.aload_n 0, 1) := dk_42 (dk_at dksX5_named_12 0 rfl rfl)
theorem dX5_named_345 : decode cX5_named 345 = .ok (.getfield 24, 3) := dk_180 0 24 (dk_at dksX5_named_12 1 rfl rfl)
theorem dX5_named_348 : decode cX5_named 348 = .ok (.ldc 96, 2) := dk_18 96 (dk_at dksX5_named_12 4 rfl rfl)
theorem dX5_named_350 : decode cX5_named 350 = .ok (.invokevirtual 98, 3) := dk_182 0 98 (dk_at dksX5_named_12 6 rfl rfl)
theorem dX5_named_353 : decode cX5_named 353 = .ok (.ifCond .eq 7, 3) := dk_153 0 7 (dk_at dksX5_named_12 9 rfl rfl)
theorem dX5_named_356 : decode cX5_named 356 = .ok (.iconst 3, 1) := dk_6 (dk_at dksX5_named_12 12 rfl rfl)
theorem dX5_named_357 : decode cX5_named 357 = .ok (.goto 4, 3) := dk_167 0 4 (dk_at dksX5_named_12 13 rfl rfl)
theorem dX5_named_360 : decode cX5_named 360 = .ok (.iconst 1, 1) := dk_4 (dk_at dksX5_named_12 16 rfl rfl)
theorem dX5_named_361 : decode cX5_named 361 = .ok (.aload_n 0, 1) := dk_42 (dk_at dksX5_named_12 17 rfl rfl)
theorem dX5_named_362 : decode cX5_named 362 = .ok (.getfield 49, 3) := dk_180 0 49 (dk_at dksX5_named_12 18 rfl rfl)
theorem dX5_named_365 : decode cX5_named 365 = .ok (.invokespecial 89, 3) := dk_183 0 89 (dk_at dksX5_named_12 21 rfl rfl)
theorem dX5_named_368 : decode cX5_named 368 = .ok (.athrow, 1) := dk_191 (dk_at dksX5_named_13 0 rfl rfl)
theorem dX5_named_369 : decode cX5_named 369 = .ok (.ireturn, 1) := dk_172 (dk_at dksX5_named_13 1 rfl rfl)
abbrev cX5_once : ByteArray := prog_7_method_11_code
def yX5_once : MethodName := ⟨RX5, "once", "(I)V"⟩
def dkwX5_once_3 : List UInt8 := [180, 0, 121, 27, 8, 100, 42, 3, 16, 40, 182, 0, 125, 79, 177]
abbrev dktX5_once_3 : List UInt8 := dkwX5_once_3 ++ []
def dkwX5_once_2 : List UInt8 := [180, 0, 142, 27, 42, 27, 184, 0, 145, 27, 184, 0, 148, 182, 0, 125, 79, 167, 0, 21, 42, 180, 0, 31]
abbrev dktX5_once_2 : List UInt8 := dkwX5_once_2 ++ dktX5_once_3
def dkwX5_once_1 : List UInt8 := [180, 0, 139, 4, 27, 120, 128, 181, 0, 139, 42, 182, 0, 35, 27, 8, 162, 0, 27, 42, 180, 0, 31]
abbrev dktX5_once_1 : List UInt8 := dkwX5_once_1 ++ dktX5_once_2
def dkwX5_once_0 : List UInt8 := [42, 42, 180, 0, 139, 27, 122, 4, 126, 154, 0, 7, 4, 167, 0, 4, 3, 6, 182, 0, 92, 42, 89]
abbrev dktX5_once_0 : List UInt8 := dkwX5_once_0 ++ dktX5_once_1
theorem dksX5_once_0 : cX5_once.data.toList.drop 0 = dktX5_once_0 := by decide +kernel
theorem dksX5_once_1 : cX5_once.data.toList.drop 23 = dktX5_once_1 := dk_seg dksX5_once_0 23 rfl rfl
theorem dksX5_once_2 : cX5_once.data.toList.drop 46 = dktX5_once_2 := dk_seg dksX5_once_1 23 rfl rfl
theorem dksX5_once_3 : cX5_once.data.toList.drop 70 = dktX5_once_3 := dk_seg dksX5_once_2 24 rfl rfl
theorem dX5_once_0 : decode cX5_once 0 = .ok (.aload_n 0, 1) := dk_42 (dk_at dksX5_once_0 0 rfl rfl)
theorem dX5_once_1 : decode cX5_once 1 = .ok (.aload_n 0, 1) := dk_42 (dk_at dksX5_once_0 1 rfl rfl)
theorem dX5_once_2 : decode cX5_once 2 = .ok (.getfield 139, 3) := dk_180 0 139 (dk_at dksX5_once_0 2 rfl rfl)
theorem dX5_once_5 : decode cX5_once 5 = .ok (.iload_n 1, 1) := dk_27 (dk_at dksX5_once_0 5 rfl rfl)
theorem dX5_once_6 : decode cX5_once 6 = .ok (.ishr, 1) := dk_122 (dk_at dksX5_once_0 6 rfl rfl)
theorem dX5_once_7 : decode cX5_once 7 = .ok (.iconst 1, 1) := dk_4 (dk_at dksX5_once_0 7 rfl rfl)
theorem dX5_once_8 : decode cX5_once 8 = .ok (.iand, 1) := dk_126 (dk_at dksX5_once_0 8 rfl rfl)
theorem dX5_once_9 : decode cX5_once 9 = .ok (.ifCond .ne 7, 3) := dk_154 0 7 (dk_at dksX5_once_0 9 rfl rfl)
theorem dX5_once_12 : decode cX5_once 12 = .ok (.iconst 1, 1) := dk_4 (dk_at dksX5_once_0 12 rfl rfl)
theorem dX5_once_13 : decode cX5_once 13 = .ok (.goto 4, 3) := dk_167 0 4 (dk_at dksX5_once_0 13 rfl rfl)
theorem dX5_once_16 : decode cX5_once 16 = .ok (.iconst 0, 1) := dk_3 (dk_at dksX5_once_0 16 rfl rfl)
theorem dX5_once_17 : decode cX5_once 17 = .ok (.iconst 3, 1) := dk_6 (dk_at dksX5_once_0 17 rfl rfl)
theorem dX5_once_18 : decode cX5_once 18 = .ok (.invokevirtual 92, 3) := dk_182 0 92 (dk_at dksX5_once_0 18 rfl rfl)
theorem dX5_once_21 : decode cX5_once 21 = .ok (.aload_n 0, 1) := dk_42 (dk_at dksX5_once_0 21 rfl rfl)
theorem dX5_once_22 : decode cX5_once 22 = .ok (.dup, 1) := dk_89 (dk_at dksX5_once_0 22 rfl rfl)
theorem dX5_once_23 : decode cX5_once 23 = .ok (.getfield 139, 3) := dk_180 0 139 (dk_at dksX5_once_1 0 rfl rfl)
theorem dX5_once_26 : decode cX5_once 26 = .ok (.iconst 1, 1) := dk_4 (dk_at dksX5_once_1 3 rfl rfl)
theorem dX5_once_27 : decode cX5_once 27 = .ok (.iload_n 1, 1) := dk_27 (dk_at dksX5_once_1 4 rfl rfl)
theorem dX5_once_28 : decode cX5_once 28 = .ok (.ishl, 1) := dk_120 (dk_at dksX5_once_1 5 rfl rfl)
theorem dX5_once_29 : decode cX5_once 29 = .ok (.ior, 1) := dk_128 (dk_at dksX5_once_1 6 rfl rfl)
theorem dX5_once_30 : decode cX5_once 30 = .ok (.putfield 139, 3) := dk_181 0 139 (dk_at dksX5_once_1 7 rfl rfl)
theorem dX5_once_33 : decode cX5_once 33 = .ok (.aload_n 0, 1) := dk_42 (dk_at dksX5_once_1 10 rfl rfl)
theorem dX5_once_34 : decode cX5_once 34 = .ok (.invokevirtual 35, 3) := dk_182 0 35 (dk_at dksX5_once_1 11 rfl rfl)
theorem dX5_once_37 : decode cX5_once 37 = .ok (.iload_n 1, 1) := dk_27 (dk_at dksX5_once_1 14 rfl rfl)
theorem dX5_once_38 : decode cX5_once 38 = .ok (.iconst 5, 1) := dk_8 (dk_at dksX5_once_1 15 rfl rfl)
theorem dX5_once_39 : decode cX5_once 39 = .ok (.if_icmp .ge 27, 3) := dk_162 0 27 (dk_at dksX5_once_1 16 rfl rfl)
theorem dX5_once_42 : decode cX5_once 42 = .ok (.aload_n 0, 1) := dk_42 (dk_at dksX5_once_1 19 rfl rfl)
theorem dX5_once_43 : decode cX5_once 43 = .ok (.getfield 31, 3) := dk_180 0 31 (dk_at dksX5_once_1 20 rfl rfl)
theorem dX5_once_46 : decode cX5_once 46 = .ok (.getfield 142, 3) := dk_180 0 142 (dk_at dksX5_once_2 0 rfl rfl)
theorem dX5_once_49 : decode cX5_once 49 = .ok (.iload_n 1, 1) := dk_27 (dk_at dksX5_once_2 3 rfl rfl)
theorem dX5_once_50 : decode cX5_once 50 = .ok (.aload_n 0, 1) := dk_42 (dk_at dksX5_once_2 4 rfl rfl)
theorem dX5_once_51 : decode cX5_once 51 = .ok (.iload_n 1, 1) := dk_27 (dk_at dksX5_once_2 5 rfl rfl)
theorem dX5_once_52 : decode cX5_once 52 = .ok (.invokestatic 145, 3) := dk_184 0 145 (dk_at dksX5_once_2 6 rfl rfl)
theorem dX5_once_55 : decode cX5_once 55 = .ok (.iload_n 1, 1) := dk_27 (dk_at dksX5_once_2 9 rfl rfl)
theorem dX5_once_56 : decode cX5_once 56 = .ok (.invokestatic 148, 3) := dk_184 0 148 (dk_at dksX5_once_2 10 rfl rfl)
theorem dX5_once_59 : decode cX5_once 59 = .ok (.invokevirtual 125, 3) := dk_182 0 125 (dk_at dksX5_once_2 13 rfl rfl)
theorem dX5_once_62 : decode cX5_once 62 = .ok (.iastore, 1) := dk_79 (dk_at dksX5_once_2 16 rfl rfl)
theorem dX5_once_63 : decode cX5_once 63 = .ok (.goto 21, 3) := dk_167 0 21 (dk_at dksX5_once_2 17 rfl rfl)
theorem dX5_once_66 : decode cX5_once 66 = .ok (.aload_n 0, 1) := dk_42 (dk_at dksX5_once_2 20 rfl rfl)
theorem dX5_once_67 : decode cX5_once 67 = .ok (.getfield 31, 3) := dk_180 0 31 (dk_at dksX5_once_2 21 rfl rfl)
theorem dX5_once_70 : decode cX5_once 70 = .ok (.getfield 121, 3) := dk_180 0 121 (dk_at dksX5_once_3 0 rfl rfl)
theorem dX5_once_73 : decode cX5_once 73 = .ok (.iload_n 1, 1) := dk_27 (dk_at dksX5_once_3 3 rfl rfl)
theorem dX5_once_74 : decode cX5_once 74 = .ok (.iconst 5, 1) := dk_8 (dk_at dksX5_once_3 4 rfl rfl)
theorem dX5_once_75 : decode cX5_once 75 = .ok (.isub, 1) := dk_100 (dk_at dksX5_once_3 5 rfl rfl)
theorem dX5_once_76 : decode cX5_once 76 = .ok (.aload_n 0, 1) := dk_42 (dk_at dksX5_once_3 6 rfl rfl)
theorem dX5_once_77 : decode cX5_once 77 = .ok (.iconst 0, 1) := dk_3 (dk_at dksX5_once_3 7 rfl rfl)
theorem dX5_once_78 : decode cX5_once 78 = .ok (.bipush 40, 2) := dk_16 40 (dk_at dksX5_once_3 8 rfl rfl)
theorem dX5_once_80 : decode cX5_once 80 = .ok (.invokevirtual 125, 3) := dk_182 0 125 (dk_at dksX5_once_3 10 rfl rfl)
theorem dX5_once_83 : decode cX5_once 83 = .ok (.iastore, 1) := dk_79 (dk_at dksX5_once_3 13 rfl rfl)
theorem dX5_once_84 : decode cX5_once 84 = .ok (.return_, 1) := dk_177 (dk_at dksX5_once_3 14 rfl rfl)
theorem q162 : (Jvm.Cond.initialized "CopyPrices$Reader") ∈ lw_all := lw_g (lw_at lw_m1 25 rfl) rfl
theorem q200 : (Jvm.Cond.fieldLinkNest "CopyPrices$Reader" (142 : Nat) "CopyPrices$World" "settings" "[I" "CopyPrices") ∈ lw_tbl := lw_at lw_m1 63 rfl
theorem q203 : (Jvm.Cond.fieldLinkNest "CopyPrices$Reader" (121 : Nat) "CopyPrices$World" "prices" "[I" "CopyPrices") ∈ lw_tbl := lw_at lw_m1 66 rfl
theorem q209 : (Jvm.Cond.fieldLinkNest "CopyPrices$Reader" (104 : Nat) "CopyPrices$World" "many" "I" "CopyPrices") ∈ lw_tbl := lw_at lw_m1 72 rfl
theorem q212 : (Jvm.Cond.fieldLinkNest "CopyPrices$Reader" (136 : Nat) "CopyPrices$World" "pins" "J" "CopyPrices") ∈ lw_tbl := lw_at lw_m1 75 rfl
theorem q625 : (Jvm.Cond.fieldLinkNest "CopyPrices$Reader" (38 : Nat) "CopyPrices" "buffer" "[B" "CopyPrices") ∈ lw_tbl := lw_at lw_m3 8 rfl
theorem q627 : (Jvm.Cond.fieldLinkNest "CopyPrices$Reader" (15 : Nat) "CopyPrices" "buffered" "I" "CopyPrices") ∈ lw_tbl := lw_at lw_m3 10 rfl
theorem q676 : (Jvm.Cond.instantiable "CopyPrices$Reader" (11 : Nat)) ∈ lw_all := lw_g (lw_at lw_m3 59 rfl) rfl
theorem q678 : (Jvm.Cond.instanceMethod ({ cls := "CopyPrices$Reader", name := "<init>", desc := "(LCopyPrices;)V" } : Jvm.MethodName)) ∈ lw_all := lw_g (lw_at lw_m3 61 rfl) rfl
theorem q679 : (Jvm.Cond.code ({ cls := "CopyPrices$Reader", name := "<init>", desc := "(LCopyPrices;)V" } : Jvm.MethodName) prog_7_method_1_code (2 : Nat) (Option.none : Option Jvm.ClassFile.FieldType)) ∈ lw_all := lw_g (lw_at lw_m3 62 rfl) rfl
theorem q680 : (Jvm.Cond.methodLink "CopyPrices$Reader" (9 : Nat) ({ cls := "java/lang/Object", name := "<init>", desc := "()V" } : Jvm.MethodName)) ∈ lw_all := lw_g (lw_at lw_m3 63 rfl) rfl
theorem q681 : (Jvm.Cond.stringRef "CopyPrices$Reader" (22 : Nat) "") ∈ lw_tbl := lw_at lw_m3 64 rfl
theorem q682 : (Jvm.Cond.classLink "CopyPrices$Reader" (28 : Nat) "CopyPrices$World") ∈ lw_all := lw_g (lw_at lw_m3 65 rfl) rfl
theorem q683 : (Jvm.Cond.methodLink "CopyPrices$Reader" (30 : Nat) ({ cls := "CopyPrices$World", name := "<init>", desc := "()V" } : Jvm.MethodName)) ∈ lw_all := lw_g (lw_at lw_m3 66 rfl) rfl
theorem q684 : (Jvm.Cond.methodLink "CopyPrices$Reader" (35 : Nat) ({ cls := "CopyPrices$Reader", name := "moves", desc := "()V" } : Jvm.MethodName)) ∈ lw_all := lw_g (lw_at lw_m3 67 rfl) rfl
theorem q685 : (Jvm.Cond.privateMethod ({ cls := "CopyPrices$Reader", name := "moves", desc := "()V" } : Jvm.MethodName)) ∈ lw_tbl := lw_at lw_m3 68 rfl
theorem q686 : (Jvm.Cond.instanceMethod ({ cls := "CopyPrices$Reader", name := "moves", desc := "()V" } : Jvm.MethodName)) ∈ lw_all := lw_g (lw_at lw_m3 69 rfl) rfl
theorem q687 : (Jvm.Cond.code ({ cls := "CopyPrices$Reader", name := "moves", desc := "()V" } : Jvm.MethodName) prog_7_method_3_code (2 : Nat) (Option.none : Option Jvm.ClassFile.FieldType)) ∈ lw_all := lw_g (lw_at lw_m3 70 rfl) rfl
theorem q688 : (Jvm.Cond.methodLink "CopyPrices$Reader" (45 : Nat) ({ cls := "CopyPrices$Reader", name := "byteAt", desc := "(I)I" } : Jvm.MethodName)) ∈ lw_all := lw_g (lw_at lw_m3 71 rfl) rfl
theorem q689 : (Jvm.Cond.privateMethod ({ cls := "CopyPrices$Reader", name := "byteAt", desc := "(I)I" } : Jvm.MethodName)) ∈ lw_tbl := lw_at lw_m3 72 rfl
theorem q690 : (Jvm.Cond.instanceMethod ({ cls := "CopyPrices$Reader", name := "byteAt", desc := "(I)I" } : Jvm.MethodName)) ∈ lw_all := lw_g (lw_at lw_m3 73 rfl) rfl
theorem q691 : (Jvm.Cond.code ({ cls := "CopyPrices$Reader", name := "byteAt", desc := "(I)I" } : Jvm.MethodName) prog_7_method_2_code (2 : Nat) (Option.some Jvm.ClassFile.FieldType.int)) ∈ lw_all := lw_g (lw_at lw_m3 74 rfl) rfl
theorem q692 : (Jvm.Cond.constantLong "CopyPrices$Reader" (55 : Nat) (97 : Int64)) ∈ lw_all := lw_g (lw_at lw_m3 75 rfl) rfl
theorem q693 : (Jvm.Cond.constantLong "CopyPrices$Reader" (57 : Nat) (122 : Int64)) ∈ lw_all := lw_g (lw_at lw_m3 76 rfl) rfl
theorem q694 : (Jvm.Cond.methodLinkNest "CopyPrices$Reader" (59 : Nat) ({ cls := "CopyPrices", name := "in", desc := "(JJJ)Z" } : Jvm.MethodName) "CopyPrices") ∈ lw_tbl := lw_at lw_m3 77 rfl
theorem q695 : (Jvm.Cond.constantLong "CopyPrices$Reader" (63 : Nat) (48 : Int64)) ∈ lw_all := lw_g (lw_at lw_m3 78 rfl) rfl
theorem q696 : (Jvm.Cond.constantLong "CopyPrices$Reader" (65 : Nat) (57 : Int64)) ∈ lw_all := lw_g (lw_at lw_m3 79 rfl) rfl
theorem q697 : (Jvm.Cond.methodLink "CopyPrices$Reader" (70 : Nat) ({ cls := "CopyPrices$Reader", name := "letters", desc := "()V" } : Jvm.MethodName)) ∈ lw_all := lw_g (lw_at lw_m3 80 rfl) rfl
theorem q698 : (Jvm.Cond.privateMethod ({ cls := "CopyPrices$Reader", name := "letters", desc := "()V" } : Jvm.MethodName)) ∈ lw_tbl := lw_at lw_m3 81 rfl
theorem q699 : (Jvm.Cond.instanceMethod ({ cls := "CopyPrices$Reader", name := "letters", desc := "()V" } : Jvm.MethodName)) ∈ lw_all := lw_g (lw_at lw_m3 82 rfl) rfl
theorem q700 : (Jvm.Cond.code ({ cls := "CopyPrices$Reader", name := "letters", desc := "()V" } : Jvm.MethodName) prog_7_method_4_code (2 : Nat) (Option.none : Option Jvm.ClassFile.FieldType)) ∈ lw_all := lw_g (lw_at lw_m3 83 rfl) rfl
theorem q701 : (Jvm.Cond.classLink "CopyPrices$Reader" (76 : Nat) "java/lang/StringBuilder") ∈ lw_all := lw_g (lw_at lw_m3 84 rfl) rfl
theorem q702 : (Jvm.Cond.methodLink "CopyPrices$Reader" (78 : Nat) ({ cls := "java/lang/StringBuilder", name := "<init>", desc := "()V" } : Jvm.MethodName)) ∈ lw_all := lw_g (lw_at lw_m3 85 rfl) rfl
theorem q703 : (Jvm.Cond.methodLink "CopyPrices$Reader" (79 : Nat) ({ cls := "java/lang/StringBuilder", name := "append", desc := "(C)Ljava/lang/StringBuilder;" } : Jvm.MethodName)) ∈ lw_all := lw_g (lw_at lw_m3 86 rfl) rfl
theorem q725 : (Jvm.Cond.methodLink "CopyPrices$Reader" (83 : Nat) ({ cls := "java/lang/StringBuilder", name := "toString", desc := "()Ljava/lang/String;" } : Jvm.MethodName)) ∈ lw_all := lw_g (lw_at lw_m3 108 rfl) rfl
theorem q726 : (Jvm.Cond.methodLink "CopyPrices$Reader" (73 : Nat) ({ cls := "CopyPrices$Reader", name := "digits", desc := "()V" } : Jvm.MethodName)) ∈ lw_all := lw_g (lw_at lw_m3 109 rfl) rfl
theorem q727 : (Jvm.Cond.privateMethod ({ cls := "CopyPrices$Reader", name := "digits", desc := "()V" } : Jvm.MethodName)) ∈ lw_tbl := lw_at lw_m3 110 rfl
theorem q728 : (Jvm.Cond.instanceMethod ({ cls := "CopyPrices$Reader", name := "digits", desc := "()V" } : Jvm.MethodName)) ∈ lw_all := lw_g (lw_at lw_m3 111 rfl) rfl
theorem q729 : (Jvm.Cond.code ({ cls := "CopyPrices$Reader", name := "digits", desc := "()V" } : Jvm.MethodName) prog_7_method_5_code (1 : Nat) (Option.none : Option Jvm.ClassFile.FieldType)) ∈ lw_all := lw_g (lw_at lw_m3 112 rfl) rfl
theorem q730 : (Jvm.Cond.fieldLink "CopyPrices$Reader" (19 : Nat) "CopyPrices$Reader" "size" "I") ∈ lw_all := lw_g (lw_at lw_m3 113 rfl) rfl
theorem q731 : (Jvm.Cond.fieldLink "CopyPrices$Reader" (31 : Nat) "CopyPrices$Reader" "made" "LCopyPrices$World;") ∈ lw_all := lw_g (lw_at lw_m3 114 rfl) rfl
theorem q732 : (Jvm.Cond.fieldLink "CopyPrices$Reader" (49 : Nat) "CopyPrices$Reader" "at" "I") ∈ lw_all := lw_g (lw_at lw_m3 115 rfl) rfl
theorem q733 : (Jvm.Cond.fieldLink "CopyPrices$Reader" (42 : Nat) "CopyPrices$Reader" "next" "I") ∈ lw_all := lw_g (lw_at lw_m3 116 rfl) rfl
theorem q734 : (Jvm.Cond.fieldLink "CopyPrices$Reader" (52 : Nat) "CopyPrices$Reader" "value" "I") ∈ lw_all := lw_g (lw_at lw_m3 117 rfl) rfl
theorem q735 : (Jvm.Cond.fieldLink "CopyPrices$Reader" (67 : Nat) "CopyPrices$Reader" "token" "I") ∈ lw_all := lw_g (lw_at lw_m3 118 rfl) rfl
theorem q736 : (Jvm.Cond.fieldLink "CopyPrices$Reader" (139 : Nat) "CopyPrices$Reader" "told" "I") ∈ lw_all := lw_g (lw_at lw_m3 119 rfl) rfl
theorem q737 : (Jvm.Cond.fieldLink "CopyPrices$Reader" (119 : Nat) "CopyPrices$Reader" "letters" "I") ∈ lw_all := lw_g (lw_at lw_m3 120 rfl) rfl
theorem q738 : (Jvm.Cond.fieldLink "CopyPrices$Reader" (129 : Nat) "CopyPrices$Reader" "pins" "I") ∈ lw_all := lw_g (lw_at lw_m3 121 rfl) rfl
theorem q739 : (Jvm.Cond.fieldLink "CopyPrices$Reader" (24 : Nat) "CopyPrices$Reader" "word" "Ljava/lang/String;") ∈ lw_all := lw_g (lw_at lw_m3 122 rfl) rfl
theorem q740 : (Jvm.Cond.fieldLink "CopyPrices$Reader" (3 : Nat) "CopyPrices$Reader" "this$0" "LCopyPrices;") ∈ lw_all := lw_g (lw_at lw_m3 123 rfl) rfl
theorem q741 : (Jvm.Cond.laysFinal "CopyPrices$Reader" "CopyPrices$Reader" "size" "I") ∈ lw_all := lw_g (lw_at lw_m3 124 rfl) rfl
theorem q742 : (Jvm.Cond.soleField "CopyPrices$Reader" "size") ∈ lw_all := lw_g (lw_at lw_m3 125 rfl) rfl
theorem q743 : (Jvm.Cond.laysFinal "CopyPrices$Reader" "CopyPrices$Reader" "made" "LCopyPrices$World;") ∈ lw_all := lw_g (lw_at lw_m3 126 rfl) rfl
theorem q744 : (Jvm.Cond.soleField "CopyPrices$Reader" "made") ∈ lw_all := lw_g (lw_at lw_m3 127 rfl) rfl
theorem q745 : (Jvm.Cond.lays "CopyPrices$Reader" "CopyPrices$Reader" "at" "I") ∈ lw_all := lw_g (lw_at lw_m3 128 rfl) rfl
theorem q746 : (Jvm.Cond.soleField "CopyPrices$Reader" "at") ∈ lw_all := lw_g (lw_at lw_m3 129 rfl) rfl
theorem q747 : (Jvm.Cond.lays "CopyPrices$Reader" "CopyPrices$Reader" "next" "I") ∈ lw_all := lw_g (lw_at lw_m3 130 rfl) rfl
theorem q748 : (Jvm.Cond.soleField "CopyPrices$Reader" "next") ∈ lw_all := lw_g (lw_at lw_m3 131 rfl) rfl
theorem q749 : (Jvm.Cond.lays "CopyPrices$Reader" "CopyPrices$Reader" "value" "I") ∈ lw_all := lw_g (lw_at lw_m3 132 rfl) rfl
theorem q750 : (Jvm.Cond.soleField "CopyPrices$Reader" "value") ∈ lw_all := lw_g (lw_at lw_m3 133 rfl) rfl
theorem q751 : (Jvm.Cond.lays "CopyPrices$Reader" "CopyPrices$Reader" "token" "I") ∈ lw_all := lw_g (lw_at lw_m3 134 rfl) rfl
theorem q752 : (Jvm.Cond.soleField "CopyPrices$Reader" "token") ∈ lw_all := lw_g (lw_at lw_m3 135 rfl) rfl
theorem q753 : (Jvm.Cond.lays "CopyPrices$Reader" "CopyPrices$Reader" "told" "I") ∈ lw_all := lw_g (lw_at lw_m3 136 rfl) rfl
theorem q754 : (Jvm.Cond.soleField "CopyPrices$Reader" "told") ∈ lw_all := lw_g (lw_at lw_m3 137 rfl) rfl
theorem q755 : (Jvm.Cond.lays "CopyPrices$Reader" "CopyPrices$Reader" "letters" "I") ∈ lw_all := lw_g (lw_at lw_m3 138 rfl) rfl
theorem q756 : (Jvm.Cond.soleField "CopyPrices$Reader" "letters") ∈ lw_all := lw_g (lw_at lw_m3 139 rfl) rfl
theorem q757 : (Jvm.Cond.lays "CopyPrices$Reader" "CopyPrices$Reader" "pins" "I") ∈ lw_all := lw_g (lw_at lw_m3 140 rfl) rfl
theorem q758 : (Jvm.Cond.soleField "CopyPrices$Reader" "pins") ∈ lw_all := lw_g (lw_at lw_m3 141 rfl) rfl
theorem q759 : (Jvm.Cond.lays "CopyPrices$Reader" "CopyPrices$Reader" "word" "Ljava/lang/String;") ∈ lw_all := lw_g (lw_at lw_m3 142 rfl) rfl
theorem q760 : (Jvm.Cond.soleField "CopyPrices$Reader" "word") ∈ lw_all := lw_g (lw_at lw_m3 143 rfl) rfl
theorem q761 : (Jvm.Cond.laysFinal "CopyPrices$Reader" "CopyPrices$Reader" "this$0" "LCopyPrices;") ∈ lw_all := lw_g (lw_at lw_m3 144 rfl) rfl
theorem q762 : (Jvm.Cond.soleField "CopyPrices$Reader" "this$0") ∈ lw_all := lw_g (lw_at lw_m3 145 rfl) rfl
theorem q763 : (Jvm.Cond.superclass "CopyPrices$Reader" "java/lang/Object") ∈ lw_all := lw_g (lw_at lw_m3 146 rfl) rfl
theorem q765 : (Jvm.Cond.instanceMethod ({ cls := "CopyPrices$Reader", name := "setup", desc := "()LCopyPrices$World;" } : Jvm.MethodName)) ∈ lw_all := lw_g (lw_at lw_m3 148 rfl) rfl
theorem q766 : (Jvm.Cond.selects "CopyPrices$Reader" ({ cls := "CopyPrices$Reader", name := "setup", desc := "()LCopyPrices$World;" } : Jvm.MethodName) ({ cls := "CopyPrices$Reader", name := "setup", desc := "()LCopyPrices$World;" } : Jvm.MethodName)) ∈ lw_all := lw_g (lw_at lw_m3 149 rfl) rfl
theorem q767 : (Jvm.Cond.codeWith ({ cls := "CopyPrices$Reader", name := "setup", desc := "()LCopyPrices$World;" } : Jvm.MethodName) prog_7_method_14_code (3 : Nat) (Option.some (Jvm.ClassFile.FieldType.object "CopyPrices$World")) [((0 : Nat), (73 : Nat), (83 : Nat), (0 : Nat))]) ∈ lw_all := lw_g (lw_at lw_m3 150 rfl) rfl
theorem q768 : (Jvm.Cond.methodLink "CopyPrices$Reader" (174 : Nat) ({ cls := "CopyPrices$Reader", name := "text", desc := "()V" } : Jvm.MethodName)) ∈ lw_all := lw_g (lw_at lw_m3 151 rfl) rfl
theorem q769 : (Jvm.Cond.privateMethod ({ cls := "CopyPrices$Reader", name := "text", desc := "()V" } : Jvm.MethodName)) ∈ lw_tbl := lw_at lw_m3 152 rfl
theorem q770 : (Jvm.Cond.instanceMethod ({ cls := "CopyPrices$Reader", name := "text", desc := "()V" } : Jvm.MethodName)) ∈ lw_all := lw_g (lw_at lw_m3 153 rfl) rfl
theorem q771 : (Jvm.Cond.code ({ cls := "CopyPrices$Reader", name := "text", desc := "()V" } : Jvm.MethodName) prog_7_method_8_code (2 : Nat) (Option.none : Option Jvm.ClassFile.FieldType)) ∈ lw_all := lw_g (lw_at lw_m3 154 rfl) rfl
theorem q772 : (Jvm.Cond.stringRef "CopyPrices$Reader" (96 : Nat) "text") ∈ lw_tbl := lw_at lw_m3 155 rfl
theorem q773 : (Jvm.Cond.methodLink "CopyPrices$Reader" (98 : Nat) ({ cls := "java/lang/String", name := "equals", desc := "(Ljava/lang/Object;)Z" } : Jvm.MethodName)) ∈ lw_all := lw_g (lw_at lw_m3 156 rfl) rfl
theorem q781 : (Jvm.Cond.methodLink "CopyPrices$Reader" (92 : Nat) ({ cls := "CopyPrices$Reader", name := "must", desc := "(ZI)V" } : Jvm.MethodName)) ∈ lw_all := lw_g (lw_at lw_m3 164 rfl) rfl
theorem q782 : (Jvm.Cond.privateMethod ({ cls := "CopyPrices$Reader", name := "must", desc := "(ZI)V" } : Jvm.MethodName)) ∈ lw_tbl := lw_at lw_m3 165 rfl
theorem q783 : (Jvm.Cond.instanceMethod ({ cls := "CopyPrices$Reader", name := "must", desc := "(ZI)V" } : Jvm.MethodName)) ∈ lw_all := lw_g (lw_at lw_m3 166 rfl) rfl
theorem q784 : (Jvm.Cond.code ({ cls := "CopyPrices$Reader", name := "must", desc := "(ZI)V" } : Jvm.MethodName) prog_7_method_6_code (3 : Nat) (Option.none : Option Jvm.ClassFile.FieldType)) ∈ lw_all := lw_g (lw_at lw_m3 167 rfl) rfl
theorem q785 : (Jvm.Cond.classLink "CopyPrices$Reader" (87 : Nat) "CopyPrices$TextError") ∈ lw_all := lw_g (lw_at lw_m3 168 rfl) rfl
theorem q794 : (Jvm.Cond.methodLink "CopyPrices$Reader" (89 : Nat) ({ cls := "CopyPrices$TextError", name := "<init>", desc := "(II)V" } : Jvm.MethodName)) ∈ lw_all := lw_g (lw_at lw_m3 177 rfl) rfl
theorem q813 : (Jvm.Cond.methodLink "CopyPrices$Reader" (107 : Nat) ({ cls := "java/lang/String", name := "length", desc := "()I" } : Jvm.MethodName)) ∈ lw_all := lw_g (lw_at lw_m3 196 rfl) rfl
theorem q814 : (Jvm.Cond.methodLink "CopyPrices$Reader" (111 : Nat) ({ cls := "java/lang/String", name := "charAt", desc := "(I)C" } : Jvm.MethodName)) ∈ lw_all := lw_g (lw_at lw_m3 197 rfl) rfl
theorem q829 : (Jvm.Cond.methodLink "CopyPrices$Reader" (115 : Nat) ({ cls := "CopyPrices$World", name := "adds", desc := "(I)V" } : Jvm.MethodName)) ∈ lw_all := lw_g (lw_at lw_m3 212 rfl) rfl
theorem q830 : (Jvm.Cond.methodLink "CopyPrices$Reader" (176 : Nat) ({ cls := "CopyPrices$Reader", name := "semicolon", desc := "()V" } : Jvm.MethodName)) ∈ lw_all := lw_g (lw_at lw_m3 213 rfl) rfl
theorem q831 : (Jvm.Cond.privateMethod ({ cls := "CopyPrices$Reader", name := "semicolon", desc := "()V" } : Jvm.MethodName)) ∈ lw_tbl := lw_at lw_m3 214 rfl
theorem q832 : (Jvm.Cond.instanceMethod ({ cls := "CopyPrices$Reader", name := "semicolon", desc := "()V" } : Jvm.MethodName)) ∈ lw_all := lw_g (lw_at lw_m3 215 rfl) rfl
theorem q833 : (Jvm.Cond.code ({ cls := "CopyPrices$Reader", name := "semicolon", desc := "()V" } : Jvm.MethodName) prog_7_method_13_code (1 : Nat) (Option.none : Option Jvm.ClassFile.FieldType)) ∈ lw_all := lw_g (lw_at lw_m3 216 rfl) rfl
theorem q834 : (Jvm.Cond.stringRef "CopyPrices$Reader" (179 : Nat) "letter") ∈ lw_tbl := lw_at lw_m3 217 rfl
theorem q835 : (Jvm.Cond.methodLink "CopyPrices$Reader" (181 : Nat) ({ cls := "CopyPrices$Reader", name := "letter", desc := "()V" } : Jvm.MethodName)) ∈ lw_all := lw_g (lw_at lw_m3 218 rfl) rfl
theorem q836 : (Jvm.Cond.privateMethod ({ cls := "CopyPrices$Reader", name := "letter", desc := "()V" } : Jvm.MethodName)) ∈ lw_tbl := lw_at lw_m3 219 rfl
theorem q837 : (Jvm.Cond.instanceMethod ({ cls := "CopyPrices$Reader", name := "letter", desc := "()V" } : Jvm.MethodName)) ∈ lw_all := lw_g (lw_at lw_m3 220 rfl) rfl
theorem q838 : (Jvm.Cond.code ({ cls := "CopyPrices$Reader", name := "letter", desc := "()V" } : Jvm.MethodName) prog_7_method_9_code (2 : Nat) (Option.none : Option Jvm.ClassFile.FieldType)) ∈ lw_all := lw_g (lw_at lw_m3 221 rfl) rfl
theorem q839 : (Jvm.Cond.methodLink "CopyPrices$Reader" (125 : Nat) ({ cls := "CopyPrices$Reader", name := "number", desc := "(II)I" } : Jvm.MethodName)) ∈ lw_all := lw_g (lw_at lw_m3 222 rfl) rfl
theorem q840 : (Jvm.Cond.privateMethod ({ cls := "CopyPrices$Reader", name := "number", desc := "(II)I" } : Jvm.MethodName)) ∈ lw_tbl := lw_at lw_m3 223 rfl
theorem q841 : (Jvm.Cond.instanceMethod ({ cls := "CopyPrices$Reader", name := "number", desc := "(II)I" } : Jvm.MethodName)) ∈ lw_all := lw_g (lw_at lw_m3 224 rfl) rfl
theorem q842 : (Jvm.Cond.code ({ cls := "CopyPrices$Reader", name := "number", desc := "(II)I" } : Jvm.MethodName) prog_7_method_7_code (4 : Nat) (Option.some Jvm.ClassFile.FieldType.int)) ∈ lw_all := lw_g (lw_at lw_m3 225 rfl) rfl
theorem q843 : (Jvm.Cond.stringRef "CopyPrices$Reader" (183 : Nat) "pin") ∈ lw_tbl := lw_at lw_m3 226 rfl
theorem q844 : (Jvm.Cond.methodLink "CopyPrices$Reader" (185 : Nat) ({ cls := "CopyPrices$Reader", name := "pin", desc := "()V" } : Jvm.MethodName)) ∈ lw_all := lw_g (lw_at lw_m3 227 rfl) rfl
theorem q845 : (Jvm.Cond.privateMethod ({ cls := "CopyPrices$Reader", name := "pin", desc := "()V" } : Jvm.MethodName)) ∈ lw_tbl := lw_at lw_m3 228 rfl
theorem q846 : (Jvm.Cond.instanceMethod ({ cls := "CopyPrices$Reader", name := "pin", desc := "()V" } : Jvm.MethodName)) ∈ lw_all := lw_g (lw_at lw_m3 229 rfl) rfl
theorem q847 : (Jvm.Cond.code ({ cls := "CopyPrices$Reader", name := "pin", desc := "()V" } : Jvm.MethodName) prog_7_method_10_code (1 : Nat) (Option.none : Option Jvm.ClassFile.FieldType)) ∈ lw_all := lw_g (lw_at lw_m3 230 rfl) rfl
theorem q848 : (Jvm.Cond.methodLink "CopyPrices$Reader" (132 : Nat) ({ cls := "CopyPrices$World", name := "isPinned", desc := "(I)Z" } : Jvm.MethodName)) ∈ lw_all := lw_g (lw_at lw_m3 231 rfl) rfl
theorem q852 : (Jvm.Cond.methodLink "CopyPrices$Reader" (187 : Nat) ({ cls := "CopyPrices$Reader", name := "named", desc := "()I" } : Jvm.MethodName)) ∈ lw_all := lw_g (lw_at lw_m3 235 rfl) rfl
theorem q853 : (Jvm.Cond.privateMethod ({ cls := "CopyPrices$Reader", name := "named", desc := "()I" } : Jvm.MethodName)) ∈ lw_tbl := lw_at lw_m3 236 rfl
theorem q854 : (Jvm.Cond.instanceMethod ({ cls := "CopyPrices$Reader", name := "named", desc := "()I" } : Jvm.MethodName)) ∈ lw_all := lw_g (lw_at lw_m3 237 rfl) rfl
theorem q855 : (Jvm.Cond.code ({ cls := "CopyPrices$Reader", name := "named", desc := "()I" } : Jvm.MethodName) prog_7_method_12_code (3 : Nat) (Option.some Jvm.ClassFile.FieldType.int)) ∈ lw_all := lw_g (lw_at lw_m3 238 rfl) rfl
theorem q856 : (Jvm.Cond.methodLink "CopyPrices$Reader" (151 : Nat) ({ cls := "java/lang/String", name := "hashCode", desc := "()I" } : Jvm.MethodName)) ∈ lw_all := lw_g (lw_at lw_m3 239 rfl) rfl
theorem q913 : (Jvm.Cond.stringRef "CopyPrices$Reader" (154 : Nat) "window") ∈ lw_tbl := lw_at lw_m4 56 rfl
theorem q914 : (Jvm.Cond.stringRef "CopyPrices$Reader" (156 : Nat) "depth") ∈ lw_tbl := lw_at lw_m4 57 rfl
theorem q915 : (Jvm.Cond.stringRef "CopyPrices$Reader" (158 : Nat) "least") ∈ lw_tbl := lw_at lw_m4 58 rfl
theorem q916 : (Jvm.Cond.stringRef "CopyPrices$Reader" (160 : Nat) "most") ∈ lw_tbl := lw_at lw_m4 59 rfl
theorem q917 : (Jvm.Cond.stringRef "CopyPrices$Reader" (162 : Nat) "wait") ∈ lw_tbl := lw_at lw_m4 60 rfl
theorem q918 : (Jvm.Cond.stringRef "CopyPrices$Reader" (164 : Nat) "run") ∈ lw_tbl := lw_at lw_m4 61 rfl
theorem q919 : (Jvm.Cond.stringRef "CopyPrices$Reader" (166 : Nat) "copy") ∈ lw_tbl := lw_at lw_m4 62 rfl
theorem q920 : (Jvm.Cond.stringRef "CopyPrices$Reader" (168 : Nat) "far") ∈ lw_tbl := lw_at lw_m4 63 rfl
theorem q921 : (Jvm.Cond.stringRef "CopyPrices$Reader" (170 : Nat) "long") ∈ lw_tbl := lw_at lw_m4 64 rfl
theorem q922 : (Jvm.Cond.stringRef "CopyPrices$Reader" (172 : Nat) "again") ∈ lw_tbl := lw_at lw_m4 65 rfl
theorem q923 : (Jvm.Cond.methodLink "CopyPrices$Reader" (190 : Nat) ({ cls := "CopyPrices$Reader", name := "once", desc := "(I)V" } : Jvm.MethodName)) ∈ lw_all := lw_g (lw_at lw_m4 66 rfl) rfl
theorem q924 : (Jvm.Cond.privateMethod ({ cls := "CopyPrices$Reader", name := "once", desc := "(I)V" } : Jvm.MethodName)) ∈ lw_tbl := lw_at lw_m4 67 rfl
theorem q925 : (Jvm.Cond.instanceMethod ({ cls := "CopyPrices$Reader", name := "once", desc := "(I)V" } : Jvm.MethodName)) ∈ lw_all := lw_g (lw_at lw_m4 68 rfl) rfl
theorem q926 : (Jvm.Cond.code ({ cls := "CopyPrices$Reader", name := "once", desc := "(I)V" } : Jvm.MethodName) prog_7_method_11_code (2 : Nat) (Option.none : Option Jvm.ClassFile.FieldType)) ∈ lw_all := lw_g (lw_at lw_m4 69 rfl) rfl
theorem q927 : (Jvm.Cond.methodLinkNest "CopyPrices$Reader" (145 : Nat) ({ cls := "CopyPrices", name := "leastOf", desc := "(I)I" } : Jvm.MethodName) "CopyPrices") ∈ lw_tbl := lw_at lw_m4 70 rfl
theorem q930 : (Jvm.Cond.methodLinkNest "CopyPrices$Reader" (148 : Nat) ({ cls := "CopyPrices", name := "mostOf", desc := "(I)I" } : Jvm.MethodName) "CopyPrices") ∈ lw_tbl := lw_at lw_m4 73 rfl
theorem q1773 : (Jvm.Cond.selects "CopyPrices$Reader" ({ cls := "java/lang/Object", name := "getClass", desc := "()Ljava/lang/Class;" } : Jvm.MethodName) ({ cls := "java/lang/Object", name := "getClass", desc := "()Ljava/lang/Class;" } : Jvm.MethodName)) ∈ lw_all := lw_g (lw_at lw_m7 196 rfl) rfl
theorem q2605 : (Jvm.Cond.castable "CopyPrices$Reader" "java/lang/Object") ∈ lw_tbl := lw_at lw_m11 68 rfl
theorem in_X5 : ∀ w ∈ wsX50, w ∈ lw_all := lw_in wsX50 [741, 743, 745, 747, 749, 751, 753, 755, 757, 759, 761] (by decide +kernel) (by decide +kernel)
/-! CopyPrices$TextError -/
set_option maxRecDepth 100000
def RX6 : String := "CopyPrices$TextError"
def TX6 : u_T := fun k => match k with
  | 0 => ("java/lang/Throwable", "cause", "Ljava/lang/Throwable;", false)
  | 1 => ("java/lang/Throwable", "stackTrace", "[Ljava/lang/StackTraceElement;", false)
  | 2 => ("java/lang/Throwable", "suppressedExceptions", "Ljava/util/List;", false)
  | 3 => ("java/lang/Throwable", "detailMessage", "Ljava/lang/String;", false)
  | 4 => ("java/lang/Throwable", "backtrace", "Ljava/lang/Object;", false)
  | 5 => ("java/lang/Throwable", "depth", "I", false)
  | 6 => ("CopyPrices$TextError", "code", "I", true)
  | _ => ("CopyPrices$TextError", "offset", "I", true)
def tyX6 : Nat → FieldType := fun k => match k with
  | 0 => .object "java/lang/Throwable"
  | 1 => .array (.object "java/lang/StackTraceElement")
  | 2 => .object "java/util/List"
  | 3 => .object "java/lang/String"
  | 4 => .object "java/lang/Object"
  | 5 => .int
  | 6 => .int
  | _ => .int
abbrev wsX60 : List Cond := u_ws RX6 TX6 8
theorem nmX6 : ∀ a, a < 8 → ∀ b, b < 8 → a ≠ b → (TX6 a).2.1 ≠ (TX6 b).2.1 := by decide +kernel
theorem tyX6_ok : ∀ k, k < 8 → parseFieldDescriptor (TX6 k).2.2.1 = some (tyX6 k) := by decide +kernel
abbrev cX6_init : ByteArray := prog_11_method_1_code
def yX6_init : MethodName := ⟨RX6, "<init>", "(II)V"⟩
def dkwX6_init_0 : List UInt8 := [42, 1, 1, 3, 3, 183, 0, 1, 42, 27, 181, 0, 7, 42, 28, 181, 0, 13, 177]
abbrev dktX6_init_0 : List UInt8 := dkwX6_init_0 ++ []
theorem dksX6_init_0 : cX6_init.data.toList.drop 0 = dktX6_init_0 := by decide +kernel
theorem dX6_init_0 : decode cX6_init 0 = .ok (.aload_n 0, 1) := dk_42 (dk_at dksX6_init_0 0 rfl rfl)
theorem dX6_init_1 : decode cX6_init 1 = .ok (.aconst_null, 1) := dk_1 (dk_at dksX6_init_0 1 rfl rfl)
theorem dX6_init_2 : decode cX6_init 2 = .ok (.aconst_null, 1) := dk_1 (dk_at dksX6_init_0 2 rfl rfl)
theorem dX6_init_3 : decode cX6_init 3 = .ok (.iconst 0, 1) := dk_3 (dk_at dksX6_init_0 3 rfl rfl)
theorem dX6_init_4 : decode cX6_init 4 = .ok (.iconst 0, 1) := dk_3 (dk_at dksX6_init_0 4 rfl rfl)
theorem dX6_init_5 : decode cX6_init 5 = .ok (.invokespecial 1, 3) := dk_183 0 1 (dk_at dksX6_init_0 5 rfl rfl)
theorem dX6_init_8 : decode cX6_init 8 = .ok (.aload_n 0, 1) := dk_42 (dk_at dksX6_init_0 8 rfl rfl)
theorem dX6_init_9 : decode cX6_init 9 = .ok (.iload_n 1, 1) := dk_27 (dk_at dksX6_init_0 9 rfl rfl)
theorem dX6_init_10 : decode cX6_init 10 = .ok (.putfield 7, 3) := dk_181 0 7 (dk_at dksX6_init_0 10 rfl rfl)
theorem dX6_init_13 : decode cX6_init 13 = .ok (.aload_n 0, 1) := dk_42 (dk_at dksX6_init_0 13 rfl rfl)
theorem dX6_init_14 : decode cX6_init 14 = .ok (.iload_n 2, 1) := dk_28 (dk_at dksX6_init_0 14 rfl rfl)
theorem dX6_init_15 : decode cX6_init 15 = .ok (.putfield 13, 3) := dk_181 0 13 (dk_at dksX6_init_0 15 rfl rfl)
theorem dX6_init_18 : decode cX6_init 18 = .ok (.return_, 1) := dk_177 (dk_at dksX6_init_0 18 rfl rfl)
theorem q163 : (Jvm.Cond.initialized "CopyPrices$TextError") ∈ lw_all := lw_g (lw_at lw_m1 26 rfl) rfl
theorem q271 : (Jvm.Cond.selects "CopyPrices$TextError" ({ cls := "java/lang/Throwable", name := "fillInStackTrace", desc := "()Ljava/lang/Throwable;" } : Jvm.MethodName) ({ cls := "java/lang/Throwable", name := "fillInStackTrace", desc := "()Ljava/lang/Throwable;" } : Jvm.MethodName)) ∈ lw_all := lw_g (lw_at lw_m1 134 rfl) rfl
theorem q786 : (Jvm.Cond.instantiable "CopyPrices$TextError" (8 : Nat)) ∈ lw_all := lw_g (lw_at lw_m3 169 rfl) rfl
theorem q787 : (Jvm.Cond.castable "CopyPrices$TextError" "CopyPrices$TextError") ∈ lw_tbl := lw_at lw_m3 170 rfl
theorem q788 : (Jvm.Cond.selects "CopyPrices$TextError" ({ cls := "java/lang/Throwable", name := "fillInStackTrace", desc := "(I)Ljava/lang/Throwable;" } : Jvm.MethodName) ({ cls := "java/lang/Throwable", name := "fillInStackTrace", desc := "(I)Ljava/lang/Throwable;" } : Jvm.MethodName)) ∈ lw_all := lw_g (lw_at lw_m3 171 rfl) rfl
theorem q789 : (Jvm.Cond.lays "CopyPrices$TextError" "java/lang/Throwable" "cause" "Ljava/lang/Throwable;") ∈ lw_all := lw_g (lw_at lw_m3 172 rfl) rfl
theorem q790 : (Jvm.Cond.lays "CopyPrices$TextError" "java/lang/Throwable" "stackTrace" "[Ljava/lang/StackTraceElement;") ∈ lw_all := lw_g (lw_at lw_m3 173 rfl) rfl
theorem q791 : (Jvm.Cond.lays "CopyPrices$TextError" "java/lang/Throwable" "suppressedExceptions" "Ljava/util/List;") ∈ lw_all := lw_g (lw_at lw_m3 174 rfl) rfl
theorem q792 : (Jvm.Cond.lays "CopyPrices$TextError" "java/lang/Throwable" "detailMessage" "Ljava/lang/String;") ∈ lw_all := lw_g (lw_at lw_m3 175 rfl) rfl
theorem q793 : (Jvm.Cond.lays "CopyPrices$TextError" "java/lang/Throwable" "backtrace" "Ljava/lang/Object;") ∈ lw_all := lw_g (lw_at lw_m3 176 rfl) rfl
theorem q795 : (Jvm.Cond.instanceMethod ({ cls := "CopyPrices$TextError", name := "<init>", desc := "(II)V" } : Jvm.MethodName)) ∈ lw_all := lw_g (lw_at lw_m3 178 rfl) rfl
theorem q796 : (Jvm.Cond.code ({ cls := "CopyPrices$TextError", name := "<init>", desc := "(II)V" } : Jvm.MethodName) prog_11_method_1_code (3 : Nat) (Option.none : Option Jvm.ClassFile.FieldType)) ∈ lw_all := lw_g (lw_at lw_m3 179 rfl) rfl
theorem q797 : (Jvm.Cond.methodLink "CopyPrices$TextError" (1 : Nat) ({ cls := "java/lang/Exception", name := "<init>", desc := "(Ljava/lang/String;Ljava/lang/Throwable;ZZ)V" } : Jvm.MethodName)) ∈ lw_all := lw_g (lw_at lw_m3 180 rfl) rfl
theorem q803 : (Jvm.Cond.fieldLink "CopyPrices$TextError" (7 : Nat) "CopyPrices$TextError" "code" "I") ∈ lw_all := lw_g (lw_at lw_m3 186 rfl) rfl
theorem q805 : (Jvm.Cond.fieldLink "CopyPrices$TextError" (13 : Nat) "CopyPrices$TextError" "offset" "I") ∈ lw_all := lw_g (lw_at lw_m3 188 rfl) rfl
theorem q807 : (Jvm.Cond.laysFinal "CopyPrices$TextError" "CopyPrices$TextError" "code" "I") ∈ lw_all := lw_g (lw_at lw_m3 190 rfl) rfl
theorem q808 : (Jvm.Cond.soleField "CopyPrices$TextError" "code") ∈ lw_all := lw_g (lw_at lw_m3 191 rfl) rfl
theorem q809 : (Jvm.Cond.laysFinal "CopyPrices$TextError" "CopyPrices$TextError" "offset" "I") ∈ lw_all := lw_g (lw_at lw_m3 192 rfl) rfl
theorem q810 : (Jvm.Cond.soleField "CopyPrices$TextError" "offset") ∈ lw_all := lw_g (lw_at lw_m3 193 rfl) rfl
theorem q811 : (Jvm.Cond.lays "CopyPrices$TextError" "java/lang/Throwable" "depth" "I") ∈ lw_all := lw_g (lw_at lw_m3 194 rfl) rfl
theorem q812 : (Jvm.Cond.superclass "CopyPrices$TextError" "java/lang/Exception") ∈ lw_all := lw_g (lw_at lw_m3 195 rfl) rfl
theorem q1775 : (Jvm.Cond.selects "CopyPrices$TextError" ({ cls := "java/lang/Object", name := "getClass", desc := "()Ljava/lang/Class;" } : Jvm.MethodName) ({ cls := "java/lang/Object", name := "getClass", desc := "()Ljava/lang/Class;" } : Jvm.MethodName)) ∈ lw_all := lw_g (lw_at lw_m7 198 rfl) rfl
theorem q2606 : (Jvm.Cond.castable "CopyPrices$TextError" "java/lang/Object") ∈ lw_tbl := lw_at lw_m11 69 rfl
theorem in_X6 : ∀ w ∈ wsX60, w ∈ lw_all := lw_in wsX60 [789, 790, 791, 792, 793, 811, 807, 809] (by decide +kernel) (by decide +kernel)
/-! CopyPrices$Link -/
set_option maxRecDepth 100000
def RX7 : String := "CopyPrices$Link"
def TX7 : u_T := fun k => match k with
  | 0 => ("CopyPrices$Link", "place", "I", true)
  | _ => ("CopyPrices$Link", "ahead", "LCopyPrices$Link;", true)
def tyX7 : Nat → FieldType := fun k => match k with
  | 0 => .int
  | _ => .object "CopyPrices$Link"
abbrev wsX70 : List Cond := u_ws RX7 TX7 2
theorem nmX7 : ∀ a, a < 2 → ∀ b, b < 2 → a ≠ b → (TX7 a).2.1 ≠ (TX7 b).2.1 := by decide +kernel
theorem tyX7_ok : ∀ k, k < 2 → parseFieldDescriptor (TX7 k).2.2.1 = some (tyX7 k) := by decide +kernel
abbrev cX7_init : ByteArray := prog_5_method_1_code
def yX7_init : MethodName := ⟨RX7, "<init>", "(ILCopyPrices$Link;)V"⟩
def dkwX7_init_0 : List UInt8 := [42, 183, 0, 1, 42, 27, 181, 0, 7, 42, 44, 181, 0, 13, 177]
abbrev dktX7_init_0 : List UInt8 := dkwX7_init_0 ++ []
theorem dksX7_init_0 : cX7_init.data.toList.drop 0 = dktX7_init_0 := by decide +kernel
theorem dX7_init_0 : decode cX7_init 0 = .ok (.aload_n 0, 1) := dk_42 (dk_at dksX7_init_0 0 rfl rfl)
theorem dX7_init_1 : decode cX7_init 1 = .ok (.invokespecial 1, 3) := dk_183 0 1 (dk_at dksX7_init_0 1 rfl rfl)
theorem dX7_init_4 : decode cX7_init 4 = .ok (.aload_n 0, 1) := dk_42 (dk_at dksX7_init_0 4 rfl rfl)
theorem dX7_init_5 : decode cX7_init 5 = .ok (.iload_n 1, 1) := dk_27 (dk_at dksX7_init_0 5 rfl rfl)
theorem dX7_init_6 : decode cX7_init 6 = .ok (.putfield 7, 3) := dk_181 0 7 (dk_at dksX7_init_0 6 rfl rfl)
theorem dX7_init_9 : decode cX7_init 9 = .ok (.aload_n 0, 1) := dk_42 (dk_at dksX7_init_0 9 rfl rfl)
theorem dX7_init_10 : decode cX7_init 10 = .ok (.aload_n 2, 1) := dk_44 (dk_at dksX7_init_0 10 rfl rfl)
theorem dX7_init_11 : decode cX7_init 11 = .ok (.putfield 13, 3) := dk_181 0 13 (dk_at dksX7_init_0 11 rfl rfl)
theorem dX7_init_14 : decode cX7_init 14 = .ok (.return_, 1) := dk_177 (dk_at dksX7_init_0 14 rfl rfl)
abbrev cX7_many : ByteArray := prog_5_method_2_code
def yX7_many : MethodName := ⟨RX7, "many", "(I)I"⟩
def dkwX7_many_1 : List UInt8 := [42, 180, 0, 13, 27, 182, 0, 17, 96, 172]
abbrev dktX7_many_1 : List UInt8 := dkwX7_many_1 ++ []
def dkwX7_many_0 : List UInt8 := [42, 180, 0, 7, 27, 162, 0, 7, 3, 167, 0, 24, 4, 42, 180, 0, 13, 199, 0, 7, 3, 167, 0, 11]
abbrev dktX7_many_0 : List UInt8 := dkwX7_many_0 ++ dktX7_many_1
theorem dksX7_many_0 : cX7_many.data.toList.drop 0 = dktX7_many_0 := by decide +kernel
theorem dksX7_many_1 : cX7_many.data.toList.drop 24 = dktX7_many_1 := dk_seg dksX7_many_0 24 rfl rfl
theorem dX7_many_0 : decode cX7_many 0 = .ok (.aload_n 0, 1) := dk_42 (dk_at dksX7_many_0 0 rfl rfl)
theorem dX7_many_1 : decode cX7_many 1 = .ok (.getfield 7, 3) := dk_180 0 7 (dk_at dksX7_many_0 1 rfl rfl)
theorem dX7_many_4 : decode cX7_many 4 = .ok (.iload_n 1, 1) := dk_27 (dk_at dksX7_many_0 4 rfl rfl)
theorem dX7_many_5 : decode cX7_many 5 = .ok (.if_icmp .ge 7, 3) := dk_162 0 7 (dk_at dksX7_many_0 5 rfl rfl)
theorem dX7_many_8 : decode cX7_many 8 = .ok (.iconst 0, 1) := dk_3 (dk_at dksX7_many_0 8 rfl rfl)
theorem dX7_many_9 : decode cX7_many 9 = .ok (.goto 24, 3) := dk_167 0 24 (dk_at dksX7_many_0 9 rfl rfl)
theorem dX7_many_12 : decode cX7_many 12 = .ok (.iconst 1, 1) := dk_4 (dk_at dksX7_many_0 12 rfl rfl)
theorem dX7_many_13 : decode cX7_many 13 = .ok (.aload_n 0, 1) := dk_42 (dk_at dksX7_many_0 13 rfl rfl)
theorem dX7_many_14 : decode cX7_many 14 = .ok (.getfield 13, 3) := dk_180 0 13 (dk_at dksX7_many_0 14 rfl rfl)
theorem dX7_many_17 : decode cX7_many 17 = .ok (.ifnonnull 7, 3) := dk_199 0 7 (dk_at dksX7_many_0 17 rfl rfl)
theorem dX7_many_20 : decode cX7_many 20 = .ok (.iconst 0, 1) := dk_3 (dk_at dksX7_many_0 20 rfl rfl)
theorem dX7_many_21 : decode cX7_many 21 = .ok (.goto 11, 3) := dk_167 0 11 (dk_at dksX7_many_0 21 rfl rfl)
theorem dX7_many_24 : decode cX7_many 24 = .ok (.aload_n 0, 1) := dk_42 (dk_at dksX7_many_1 0 rfl rfl)
theorem dX7_many_25 : decode cX7_many 25 = .ok (.getfield 13, 3) := dk_180 0 13 (dk_at dksX7_many_1 1 rfl rfl)
theorem dX7_many_28 : decode cX7_many 28 = .ok (.iload_n 1, 1) := dk_27 (dk_at dksX7_many_1 4 rfl rfl)
theorem dX7_many_29 : decode cX7_many 29 = .ok (.invokevirtual 17, 3) := dk_182 0 17 (dk_at dksX7_many_1 5 rfl rfl)
theorem dX7_many_32 : decode cX7_many 32 = .ok (.iadd, 1) := dk_96 (dk_at dksX7_many_1 8 rfl rfl)
theorem dX7_many_33 : decode cX7_many 33 = .ok (.ireturn, 1) := dk_172 (dk_at dksX7_many_1 9 rfl rfl)
abbrev cX7_at : ByteArray := prog_5_method_3_code
def yX7_at : MethodName := ⟨RX7, "at", "(I)LCopyPrices$Link;"⟩
def dkwX7_at_0 : List UInt8 := [27, 154, 0, 7, 42, 167, 0, 13, 42, 180, 0, 13, 27, 4, 100, 182, 0, 21, 176]
abbrev dktX7_at_0 : List UInt8 := dkwX7_at_0 ++ []
theorem dksX7_at_0 : cX7_at.data.toList.drop 0 = dktX7_at_0 := by decide +kernel
theorem dX7_at_0 : decode cX7_at 0 = .ok (.iload_n 1, 1) := dk_27 (dk_at dksX7_at_0 0 rfl rfl)
theorem dX7_at_1 : decode cX7_at 1 = .ok (.ifCond .ne 7, 3) := dk_154 0 7 (dk_at dksX7_at_0 1 rfl rfl)
theorem dX7_at_4 : decode cX7_at 4 = .ok (.aload_n 0, 1) := dk_42 (dk_at dksX7_at_0 4 rfl rfl)
theorem dX7_at_5 : decode cX7_at 5 = .ok (.goto 13, 3) := dk_167 0 13 (dk_at dksX7_at_0 5 rfl rfl)
theorem dX7_at_8 : decode cX7_at 8 = .ok (.aload_n 0, 1) := dk_42 (dk_at dksX7_at_0 8 rfl rfl)
theorem dX7_at_9 : decode cX7_at 9 = .ok (.getfield 13, 3) := dk_180 0 13 (dk_at dksX7_at_0 9 rfl rfl)
theorem dX7_at_12 : decode cX7_at 12 = .ok (.iload_n 1, 1) := dk_27 (dk_at dksX7_at_0 12 rfl rfl)
theorem dX7_at_13 : decode cX7_at 13 = .ok (.iconst 1, 1) := dk_4 (dk_at dksX7_at_0 13 rfl rfl)
theorem dX7_at_14 : decode cX7_at 14 = .ok (.isub, 1) := dk_100 (dk_at dksX7_at_0 14 rfl rfl)
theorem dX7_at_15 : decode cX7_at 15 = .ok (.invokevirtual 21, 3) := dk_182 0 21 (dk_at dksX7_at_0 15 rfl rfl)
theorem dX7_at_18 : decode cX7_at 18 = .ok (.areturn, 1) := dk_176 (dk_at dksX7_at_0 18 rfl rfl)
abbrev cX7_has : ByteArray := prog_5_method_4_code
def yX7_has : MethodName := ⟨RX7, "has", "(II)Z"⟩
def dkwX7_has_1 : List UInt8 := [28, 4, 100, 182, 0, 25, 153, 0, 7, 4, 167, 0, 4, 3, 172]
abbrev dktX7_has_1 : List UInt8 := dkwX7_has_1 ++ []
def dkwX7_has_0 : List UInt8 := [28, 158, 0, 36, 42, 180, 0, 7, 27, 159, 0, 24, 42, 180, 0, 13, 198, 0, 21, 42, 180, 0, 13, 27]
abbrev dktX7_has_0 : List UInt8 := dkwX7_has_0 ++ dktX7_has_1
theorem dksX7_has_0 : cX7_has.data.toList.drop 0 = dktX7_has_0 := by decide +kernel
theorem dksX7_has_1 : cX7_has.data.toList.drop 24 = dktX7_has_1 := dk_seg dksX7_has_0 24 rfl rfl
theorem dX7_has_0 : decode cX7_has 0 = .ok (.iload_n 2, 1) := dk_28 (dk_at dksX7_has_0 0 rfl rfl)
theorem dX7_has_1 : decode cX7_has 1 = .ok (.ifCond .le 36, 3) := dk_158 0 36 (dk_at dksX7_has_0 1 rfl rfl)
theorem dX7_has_4 : decode cX7_has 4 = .ok (.aload_n 0, 1) := dk_42 (dk_at dksX7_has_0 4 rfl rfl)
theorem dX7_has_5 : decode cX7_has 5 = .ok (.getfield 7, 3) := dk_180 0 7 (dk_at dksX7_has_0 5 rfl rfl)
theorem dX7_has_8 : decode cX7_has 8 = .ok (.iload_n 1, 1) := dk_27 (dk_at dksX7_has_0 8 rfl rfl)
theorem dX7_has_9 : decode cX7_has 9 = .ok (.if_icmp .eq 24, 3) := dk_159 0 24 (dk_at dksX7_has_0 9 rfl rfl)
theorem dX7_has_12 : decode cX7_has 12 = .ok (.aload_n 0, 1) := dk_42 (dk_at dksX7_has_0 12 rfl rfl)
theorem dX7_has_13 : decode cX7_has 13 = .ok (.getfield 13, 3) := dk_180 0 13 (dk_at dksX7_has_0 13 rfl rfl)
theorem dX7_has_16 : decode cX7_has 16 = .ok (.ifnull 21, 3) := dk_198 0 21 (dk_at dksX7_has_0 16 rfl rfl)
theorem dX7_has_19 : decode cX7_has 19 = .ok (.aload_n 0, 1) := dk_42 (dk_at dksX7_has_0 19 rfl rfl)
theorem dX7_has_20 : decode cX7_has 20 = .ok (.getfield 13, 3) := dk_180 0 13 (dk_at dksX7_has_0 20 rfl rfl)
theorem dX7_has_23 : decode cX7_has 23 = .ok (.iload_n 1, 1) := dk_27 (dk_at dksX7_has_0 23 rfl rfl)
theorem dX7_has_24 : decode cX7_has 24 = .ok (.iload_n 2, 1) := dk_28 (dk_at dksX7_has_1 0 rfl rfl)
theorem dX7_has_25 : decode cX7_has 25 = .ok (.iconst 1, 1) := dk_4 (dk_at dksX7_has_1 1 rfl rfl)
theorem dX7_has_26 : decode cX7_has 26 = .ok (.isub, 1) := dk_100 (dk_at dksX7_has_1 2 rfl rfl)
theorem dX7_has_27 : decode cX7_has 27 = .ok (.invokevirtual 25, 3) := dk_182 0 25 (dk_at dksX7_has_1 3 rfl rfl)
theorem dX7_has_30 : decode cX7_has 30 = .ok (.ifCond .eq 7, 3) := dk_153 0 7 (dk_at dksX7_has_1 6 rfl rfl)
theorem dX7_has_33 : decode cX7_has 33 = .ok (.iconst 1, 1) := dk_4 (dk_at dksX7_has_1 9 rfl rfl)
theorem dX7_has_34 : decode cX7_has 34 = .ok (.goto 4, 3) := dk_167 0 4 (dk_at dksX7_has_1 10 rfl rfl)
theorem dX7_has_37 : decode cX7_has 37 = .ok (.iconst 0, 1) := dk_3 (dk_at dksX7_has_1 13 rfl rfl)
theorem dX7_has_38 : decode cX7_has 38 = .ok (.ireturn, 1) := dk_172 (dk_at dksX7_has_1 14 rfl rfl)
theorem q165 : (Jvm.Cond.initialized "CopyPrices$Link") ∈ lw_all := lw_g (lw_at lw_m1 28 rfl) rfl
theorem q989 : (Jvm.Cond.instantiable "CopyPrices$Link" (2 : Nat)) ∈ lw_all := lw_g (lw_at lw_m4 132 rfl) rfl
theorem q991 : (Jvm.Cond.instanceMethod ({ cls := "CopyPrices$Link", name := "<init>", desc := "(ILCopyPrices$Link;)V" } : Jvm.MethodName)) ∈ lw_all := lw_g (lw_at lw_m4 134 rfl) rfl
theorem q992 : (Jvm.Cond.code ({ cls := "CopyPrices$Link", name := "<init>", desc := "(ILCopyPrices$Link;)V" } : Jvm.MethodName) prog_5_method_1_code (3 : Nat) (Option.none : Option Jvm.ClassFile.FieldType)) ∈ lw_all := lw_g (lw_at lw_m4 135 rfl) rfl
theorem q993 : (Jvm.Cond.methodLink "CopyPrices$Link" (1 : Nat) ({ cls := "java/lang/Object", name := "<init>", desc := "()V" } : Jvm.MethodName)) ∈ lw_all := lw_g (lw_at lw_m4 136 rfl) rfl
theorem q994 : (Jvm.Cond.fieldLink "CopyPrices$Link" (7 : Nat) "CopyPrices$Link" "place" "I") ∈ lw_all := lw_g (lw_at lw_m4 137 rfl) rfl
theorem q996 : (Jvm.Cond.fieldLink "CopyPrices$Link" (13 : Nat) "CopyPrices$Link" "ahead" "LCopyPrices$Link;") ∈ lw_all := lw_g (lw_at lw_m4 139 rfl) rfl
theorem q997 : (Jvm.Cond.laysFinal "CopyPrices$Link" "CopyPrices$Link" "place" "I") ∈ lw_all := lw_g (lw_at lw_m4 140 rfl) rfl
theorem q998 : (Jvm.Cond.soleField "CopyPrices$Link" "place") ∈ lw_all := lw_g (lw_at lw_m4 141 rfl) rfl
theorem q999 : (Jvm.Cond.laysFinal "CopyPrices$Link" "CopyPrices$Link" "ahead" "LCopyPrices$Link;") ∈ lw_all := lw_g (lw_at lw_m4 142 rfl) rfl
theorem q1000 : (Jvm.Cond.soleField "CopyPrices$Link" "ahead") ∈ lw_all := lw_g (lw_at lw_m4 143 rfl) rfl
theorem q1001 : (Jvm.Cond.superclass "CopyPrices$Link" "java/lang/Object") ∈ lw_all := lw_g (lw_at lw_m4 144 rfl) rfl
theorem q1003 : (Jvm.Cond.instanceMethod ({ cls := "CopyPrices$Link", name := "many", desc := "(I)I" } : Jvm.MethodName)) ∈ lw_all := lw_g (lw_at lw_m4 146 rfl) rfl
theorem q1004 : (Jvm.Cond.selects "CopyPrices$Link" ({ cls := "CopyPrices$Link", name := "many", desc := "(I)I" } : Jvm.MethodName) ({ cls := "CopyPrices$Link", name := "many", desc := "(I)I" } : Jvm.MethodName)) ∈ lw_all := lw_g (lw_at lw_m4 147 rfl) rfl
theorem q1005 : (Jvm.Cond.code ({ cls := "CopyPrices$Link", name := "many", desc := "(I)I" } : Jvm.MethodName) prog_5_method_2_code (2 : Nat) (Option.some Jvm.ClassFile.FieldType.int)) ∈ lw_all := lw_g (lw_at lw_m4 148 rfl) rfl
theorem q1006 : (Jvm.Cond.methodLink "CopyPrices$Link" (17 : Nat) ({ cls := "CopyPrices$Link", name := "many", desc := "(I)I" } : Jvm.MethodName)) ∈ lw_all := lw_g (lw_at lw_m4 149 rfl) rfl
theorem q1013 : (Jvm.Cond.instanceMethod ({ cls := "CopyPrices$Link", name := "at", desc := "(I)LCopyPrices$Link;" } : Jvm.MethodName)) ∈ lw_all := lw_g (lw_at lw_m4 156 rfl) rfl
theorem q1014 : (Jvm.Cond.selects "CopyPrices$Link" ({ cls := "CopyPrices$Link", name := "at", desc := "(I)LCopyPrices$Link;" } : Jvm.MethodName) ({ cls := "CopyPrices$Link", name := "at", desc := "(I)LCopyPrices$Link;" } : Jvm.MethodName)) ∈ lw_all := lw_g (lw_at lw_m4 157 rfl) rfl
theorem q1015 : (Jvm.Cond.code ({ cls := "CopyPrices$Link", name := "at", desc := "(I)LCopyPrices$Link;" } : Jvm.MethodName) prog_5_method_3_code (2 : Nat) (Option.some (Jvm.ClassFile.FieldType.object "CopyPrices$Link"))) ∈ lw_all := lw_g (lw_at lw_m4 158 rfl) rfl
theorem q1016 : (Jvm.Cond.methodLink "CopyPrices$Link" (21 : Nat) ({ cls := "CopyPrices$Link", name := "at", desc := "(I)LCopyPrices$Link;" } : Jvm.MethodName)) ∈ lw_all := lw_g (lw_at lw_m4 159 rfl) rfl
theorem q1550 : (Jvm.Cond.instanceMethod ({ cls := "CopyPrices$Link", name := "has", desc := "(II)Z" } : Jvm.MethodName)) ∈ lw_all := lw_g (lw_at lw_m6 213 rfl) rfl
theorem q1551 : (Jvm.Cond.selects "CopyPrices$Link" ({ cls := "CopyPrices$Link", name := "has", desc := "(II)Z" } : Jvm.MethodName) ({ cls := "CopyPrices$Link", name := "has", desc := "(II)Z" } : Jvm.MethodName)) ∈ lw_all := lw_g (lw_at lw_m6 214 rfl) rfl
theorem q1552 : (Jvm.Cond.code ({ cls := "CopyPrices$Link", name := "has", desc := "(II)Z" } : Jvm.MethodName) prog_5_method_4_code (3 : Nat) (Option.some Jvm.ClassFile.FieldType.boolean)) ∈ lw_all := lw_g (lw_at lw_m6 215 rfl) rfl
theorem q1553 : (Jvm.Cond.methodLink "CopyPrices$Link" (25 : Nat) ({ cls := "CopyPrices$Link", name := "has", desc := "(II)Z" } : Jvm.MethodName)) ∈ lw_all := lw_g (lw_at lw_m6 216 rfl) rfl
theorem q1771 : (Jvm.Cond.selects "CopyPrices$Link" ({ cls := "java/lang/Object", name := "getClass", desc := "()Ljava/lang/Class;" } : Jvm.MethodName) ({ cls := "java/lang/Object", name := "getClass", desc := "()Ljava/lang/Class;" } : Jvm.MethodName)) ∈ lw_all := lw_g (lw_at lw_m7 194 rfl) rfl
theorem q2595 : (Jvm.Cond.castable "CopyPrices$Link" "java/lang/Object") ∈ lw_tbl := lw_at lw_m11 58 rfl
theorem in_X7 : ∀ w ∈ wsX70, w ∈ lw_all := lw_in wsX70 [997, 999] (by decide +kernel) (by decide +kernel)
/-! CopyPrices$Step -/
set_option maxRecDepth 100000
def RX8 : String := "CopyPrices$Step"
abbrev cX8_init : ByteArray := prog_9_method_1_code
def yX8_init : MethodName := ⟨RX8, "<init>", "(III)V"⟩
def dkwX8_init_0 : List UInt8 := [42, 183, 0, 1, 42, 27, 181, 0, 7, 42, 28, 181, 0, 13, 42, 29, 181, 0, 16, 177]
abbrev dktX8_init_0 : List UInt8 := dkwX8_init_0 ++ []
theorem dksX8_init_0 : cX8_init.data.toList.drop 0 = dktX8_init_0 := by decide +kernel
theorem dX8_init_0 : decode cX8_init 0 = .ok (.aload_n 0, 1) := dk_42 (dk_at dksX8_init_0 0 rfl rfl)
theorem dX8_init_1 : decode cX8_init 1 = .ok (.invokespecial 1, 3) := dk_183 0 1 (dk_at dksX8_init_0 1 rfl rfl)
theorem dX8_init_4 : decode cX8_init 4 = .ok (.aload_n 0, 1) := dk_42 (dk_at dksX8_init_0 4 rfl rfl)
theorem dX8_init_5 : decode cX8_init 5 = .ok (.iload_n 1, 1) := dk_27 (dk_at dksX8_init_0 5 rfl rfl)
theorem dX8_init_6 : decode cX8_init 6 = .ok (.putfield 7, 3) := dk_181 0 7 (dk_at dksX8_init_0 6 rfl rfl)
theorem dX8_init_9 : decode cX8_init 9 = .ok (.aload_n 0, 1) := dk_42 (dk_at dksX8_init_0 9 rfl rfl)
theorem dX8_init_10 : decode cX8_init 10 = .ok (.iload_n 2, 1) := dk_28 (dk_at dksX8_init_0 10 rfl rfl)
theorem dX8_init_11 : decode cX8_init 11 = .ok (.putfield 13, 3) := dk_181 0 13 (dk_at dksX8_init_0 11 rfl rfl)
theorem dX8_init_14 : decode cX8_init 14 = .ok (.aload_n 0, 1) := dk_42 (dk_at dksX8_init_0 14 rfl rfl)
theorem dX8_init_15 : decode cX8_init 15 = .ok (.iload_n 3, 1) := dk_29 (dk_at dksX8_init_0 15 rfl rfl)
theorem dX8_init_16 : decode cX8_init 16 = .ok (.putfield 16, 3) := dk_181 0 16 (dk_at dksX8_init_0 16 rfl rfl)
theorem dX8_init_19 : decode cX8_init 19 = .ok (.return_, 1) := dk_177 (dk_at dksX8_init_0 19 rfl rfl)
abbrev cX8_sum : ByteArray := prog_9_method_5_code
def yX8_sum : MethodName := ⟨RX8, "sum", "(LCopyPrices$Asked;)I"⟩
def dkwX8_sum_1 : List UInt8 := [182, 0, 29, 96, 172]
abbrev dktX8_sum_1 : List UInt8 := dkwX8_sum_1 ++ []
def dkwX8_sum_0 : List UInt8 := [43, 42, 185, 0, 19, 2, 0, 42, 180, 0, 25, 199, 0, 7, 3, 167, 0, 11, 42, 180, 0, 25, 43]
abbrev dktX8_sum_0 : List UInt8 := dkwX8_sum_0 ++ dktX8_sum_1
theorem dksX8_sum_0 : cX8_sum.data.toList.drop 0 = dktX8_sum_0 := by decide +kernel
theorem dksX8_sum_1 : cX8_sum.data.toList.drop 23 = dktX8_sum_1 := dk_seg dksX8_sum_0 23 rfl rfl
theorem dX8_sum_0 : decode cX8_sum 0 = .ok (.aload_n 1, 1) := dk_43 (dk_at dksX8_sum_0 0 rfl rfl)
theorem dX8_sum_1 : decode cX8_sum 1 = .ok (.aload_n 0, 1) := dk_42 (dk_at dksX8_sum_0 1 rfl rfl)
theorem dX8_sum_2 : decode cX8_sum 2 = .ok (.invokeinterface 19 2, 5) := by decide +kernel
theorem dX8_sum_7 : decode cX8_sum 7 = .ok (.aload_n 0, 1) := dk_42 (dk_at dksX8_sum_0 7 rfl rfl)
theorem dX8_sum_8 : decode cX8_sum 8 = .ok (.getfield 25, 3) := dk_180 0 25 (dk_at dksX8_sum_0 8 rfl rfl)
theorem dX8_sum_11 : decode cX8_sum 11 = .ok (.ifnonnull 7, 3) := dk_199 0 7 (dk_at dksX8_sum_0 11 rfl rfl)
theorem dX8_sum_14 : decode cX8_sum 14 = .ok (.iconst 0, 1) := dk_3 (dk_at dksX8_sum_0 14 rfl rfl)
theorem dX8_sum_15 : decode cX8_sum 15 = .ok (.goto 11, 3) := dk_167 0 11 (dk_at dksX8_sum_0 15 rfl rfl)
theorem dX8_sum_18 : decode cX8_sum 18 = .ok (.aload_n 0, 1) := dk_42 (dk_at dksX8_sum_0 18 rfl rfl)
theorem dX8_sum_19 : decode cX8_sum 19 = .ok (.getfield 25, 3) := dk_180 0 25 (dk_at dksX8_sum_0 19 rfl rfl)
theorem dX8_sum_22 : decode cX8_sum 22 = .ok (.aload_n 1, 1) := dk_43 (dk_at dksX8_sum_0 22 rfl rfl)
theorem dX8_sum_23 : decode cX8_sum 23 = .ok (.invokevirtual 29, 3) := dk_182 0 29 (dk_at dksX8_sum_1 0 rfl rfl)
theorem dX8_sum_26 : decode cX8_sum 26 = .ok (.iadd, 1) := dk_96 (dk_at dksX8_sum_1 3 rfl rfl)
theorem dX8_sum_27 : decode cX8_sum 27 = .ok (.ireturn, 1) := dk_172 (dk_at dksX8_sum_1 4 rfl rfl)
abbrev cX8_at : ByteArray := prog_9_method_6_code
def yX8_at : MethodName := ⟨RX8, "at", "(I)LCopyPrices$Step;"⟩
def dkwX8_at_1 : List UInt8 := [4, 100, 182, 0, 33, 176]
abbrev dktX8_at_1 : List UInt8 := dkwX8_at_1 ++ []
def dkwX8_at_0 : List UInt8 := [27, 154, 0, 7, 42, 167, 0, 24, 42, 180, 0, 25, 199, 0, 7, 1, 167, 0, 13, 42, 180, 0, 25, 27]
abbrev dktX8_at_0 : List UInt8 := dkwX8_at_0 ++ dktX8_at_1
theorem dksX8_at_0 : cX8_at.data.toList.drop 0 = dktX8_at_0 := by decide +kernel
theorem dksX8_at_1 : cX8_at.data.toList.drop 24 = dktX8_at_1 := dk_seg dksX8_at_0 24 rfl rfl
theorem dX8_at_0 : decode cX8_at 0 = .ok (.iload_n 1, 1) := dk_27 (dk_at dksX8_at_0 0 rfl rfl)
theorem dX8_at_1 : decode cX8_at 1 = .ok (.ifCond .ne 7, 3) := dk_154 0 7 (dk_at dksX8_at_0 1 rfl rfl)
theorem dX8_at_4 : decode cX8_at 4 = .ok (.aload_n 0, 1) := dk_42 (dk_at dksX8_at_0 4 rfl rfl)
theorem dX8_at_5 : decode cX8_at 5 = .ok (.goto 24, 3) := dk_167 0 24 (dk_at dksX8_at_0 5 rfl rfl)
theorem dX8_at_8 : decode cX8_at 8 = .ok (.aload_n 0, 1) := dk_42 (dk_at dksX8_at_0 8 rfl rfl)
theorem dX8_at_9 : decode cX8_at 9 = .ok (.getfield 25, 3) := dk_180 0 25 (dk_at dksX8_at_0 9 rfl rfl)
theorem dX8_at_12 : decode cX8_at 12 = .ok (.ifnonnull 7, 3) := dk_199 0 7 (dk_at dksX8_at_0 12 rfl rfl)
theorem dX8_at_15 : decode cX8_at 15 = .ok (.aconst_null, 1) := dk_1 (dk_at dksX8_at_0 15 rfl rfl)
theorem dX8_at_16 : decode cX8_at 16 = .ok (.goto 13, 3) := dk_167 0 13 (dk_at dksX8_at_0 16 rfl rfl)
theorem dX8_at_19 : decode cX8_at 19 = .ok (.aload_n 0, 1) := dk_42 (dk_at dksX8_at_0 19 rfl rfl)
theorem dX8_at_20 : decode cX8_at 20 = .ok (.getfield 25, 3) := dk_180 0 25 (dk_at dksX8_at_0 20 rfl rfl)
theorem dX8_at_23 : decode cX8_at 23 = .ok (.iload_n 1, 1) := dk_27 (dk_at dksX8_at_0 23 rfl rfl)
theorem dX8_at_24 : decode cX8_at 24 = .ok (.iconst 1, 1) := dk_4 (dk_at dksX8_at_1 0 rfl rfl)
theorem dX8_at_25 : decode cX8_at 25 = .ok (.isub, 1) := dk_100 (dk_at dksX8_at_1 1 rfl rfl)
theorem dX8_at_26 : decode cX8_at 26 = .ok (.invokevirtual 33, 3) := dk_182 0 33 (dk_at dksX8_at_1 2 rfl rfl)
theorem dX8_at_29 : decode cX8_at 29 = .ok (.areturn, 1) := dk_176 (dk_at dksX8_at_1 5 rfl rfl)
theorem q166 : (Jvm.Cond.initialized "CopyPrices$Step") ∈ lw_all := lw_g (lw_at lw_m1 29 rfl) rfl
theorem q1097 : (Jvm.Cond.instanceMethod ({ cls := "CopyPrices$Step", name := "<init>", desc := "(III)V" } : Jvm.MethodName)) ∈ lw_all := lw_g (lw_at lw_m5 0 rfl) rfl
theorem q1098 : (Jvm.Cond.code ({ cls := "CopyPrices$Step", name := "<init>", desc := "(III)V" } : Jvm.MethodName) prog_9_method_1_code (4 : Nat) (Option.none : Option Jvm.ClassFile.FieldType)) ∈ lw_all := lw_g (lw_at lw_m5 1 rfl) rfl
theorem q1099 : (Jvm.Cond.methodLink "CopyPrices$Step" (1 : Nat) ({ cls := "java/lang/Object", name := "<init>", desc := "()V" } : Jvm.MethodName)) ∈ lw_all := lw_g (lw_at lw_m5 2 rfl) rfl
theorem q1100 : (Jvm.Cond.fieldLink "CopyPrices$Step" (7 : Nat) "CopyPrices$Step" "place" "I") ∈ lw_all := lw_g (lw_at lw_m5 3 rfl) rfl
theorem q1104 : (Jvm.Cond.fieldLink "CopyPrices$Step" (13 : Nat) "CopyPrices$Step" "last" "I") ∈ lw_all := lw_g (lw_at lw_m5 7 rfl) rfl
theorem q1106 : (Jvm.Cond.fieldLink "CopyPrices$Step" (16 : Nat) "CopyPrices$Step" "price" "I") ∈ lw_all := lw_g (lw_at lw_m5 9 rfl) rfl
theorem q1109 : (Jvm.Cond.fieldLink "CopyPrices$Step" (25 : Nat) "CopyPrices$Step" "next" "LCopyPrices$Step;") ∈ lw_all := lw_g (lw_at lw_m5 12 rfl) rfl
theorem q1113 : (Jvm.Cond.soleField "CopyPrices$Step" "place") ∈ lw_all := lw_g (lw_at lw_m5 16 rfl) rfl
theorem q1115 : (Jvm.Cond.soleField "CopyPrices$Step" "last") ∈ lw_all := lw_g (lw_at lw_m5 18 rfl) rfl
theorem q1117 : (Jvm.Cond.soleField "CopyPrices$Step" "price") ∈ lw_all := lw_g (lw_at lw_m5 20 rfl) rfl
theorem q1119 : (Jvm.Cond.soleField "CopyPrices$Step" "next") ∈ lw_all := lw_g (lw_at lw_m5 22 rfl) rfl
theorem q1190 : (Jvm.Cond.declares ({ cls := "CopyPrices$Step", name := "distance", desc := "()I" } : Jvm.MethodName)) ∈ lw_tbl := lw_at lw_m5 93 rfl
theorem q1191 : (Jvm.Cond.sameMethod "CopyPrices$Step" "CopyPrices$Step" "distance" "()I") ∈ lw_all := lw_g (lw_at lw_m5 94 rfl) rfl
theorem q1199 : (Jvm.Cond.declares ({ cls := "CopyPrices$Step", name := "length", desc := "()I" } : Jvm.MethodName)) ∈ lw_tbl := lw_at lw_m5 102 rfl
theorem q1200 : (Jvm.Cond.sameMethod "CopyPrices$Step" "CopyPrices$Step" "length" "()I") ∈ lw_all := lw_g (lw_at lw_m5 103 rfl) rfl
theorem q1210 : (Jvm.Cond.instanceMethod ({ cls := "CopyPrices$Step", name := "sum", desc := "(LCopyPrices$Asked;)I" } : Jvm.MethodName)) ∈ lw_all := lw_g (lw_at lw_m5 113 rfl) rfl
theorem q1211 : (Jvm.Cond.sameMethod "CopyPrices$Step" "CopyPrices$Step" "sum" "(LCopyPrices$Asked;)I") ∈ lw_all := lw_g (lw_at lw_m5 114 rfl) rfl
theorem q1214 : (Jvm.Cond.code ({ cls := "CopyPrices$Step", name := "sum", desc := "(LCopyPrices$Asked;)I" } : Jvm.MethodName) prog_9_method_5_code (2 : Nat) (Option.some Jvm.ClassFile.FieldType.int)) ∈ lw_all := lw_g (lw_at lw_m5 117 rfl) rfl
theorem q1215 : (Jvm.Cond.interfaceEntry "CopyPrices$Step" (19 : Nat)) ∈ lw_tbl := lw_at lw_m5 118 rfl
theorem q1216 : (Jvm.Cond.methodLink "CopyPrices$Step" (19 : Nat) ({ cls := "CopyPrices$Asked", name := "of", desc := "(LCopyPrices$Step;)I" } : Jvm.MethodName)) ∈ lw_all := lw_g (lw_at lw_m5 119 rfl) rfl
theorem q1219 : (Jvm.Cond.methodLink "CopyPrices$Step" (29 : Nat) ({ cls := "CopyPrices$Step", name := "sum", desc := "(LCopyPrices$Asked;)I" } : Jvm.MethodName)) ∈ lw_all := lw_g (lw_at lw_m5 122 rfl) rfl
theorem q1592 : (Jvm.Cond.instanceMethod ({ cls := "CopyPrices$Step", name := "at", desc := "(I)LCopyPrices$Step;" } : Jvm.MethodName)) ∈ lw_all := lw_g (lw_at lw_m7 15 rfl) rfl
theorem q1593 : (Jvm.Cond.sameMethod "CopyPrices$Step" "CopyPrices$Step" "at" "(I)LCopyPrices$Step;") ∈ lw_all := lw_g (lw_at lw_m7 16 rfl) rfl
theorem q1596 : (Jvm.Cond.code ({ cls := "CopyPrices$Step", name := "at", desc := "(I)LCopyPrices$Step;" } : Jvm.MethodName) prog_9_method_6_code (2 : Nat) (Option.some (Jvm.ClassFile.FieldType.object "CopyPrices$Step"))) ∈ lw_all := lw_g (lw_at lw_m7 19 rfl) rfl
theorem q1597 : (Jvm.Cond.methodLink "CopyPrices$Step" (33 : Nat) ({ cls := "CopyPrices$Step", name := "at", desc := "(I)LCopyPrices$Step;" } : Jvm.MethodName)) ∈ lw_all := lw_g (lw_at lw_m7 20 rfl) rfl
theorem q1874 : (Jvm.Cond.declares ({ cls := "CopyPrices$Step", name := "prints", desc := "([BLjava/lang/StringBuilder;)V" } : Jvm.MethodName)) ∈ lw_tbl := lw_at lw_m8 57 rfl
theorem q1875 : (Jvm.Cond.sameMethod "CopyPrices$Step" "CopyPrices$Step" "prints" "([BLjava/lang/StringBuilder;)V") ∈ lw_all := lw_g (lw_at lw_m8 58 rfl) rfl
/-! CopyPrices$Literal -/
set_option maxRecDepth 100000
def RX9 : String := "CopyPrices$Literal"
def TX9 : u_T := fun k => match k with
  | 0 => ("CopyPrices$Step", "place", "I", true)
  | 1 => ("CopyPrices$Step", "last", "I", true)
  | 2 => ("CopyPrices$Step", "price", "I", true)
  | _ => ("CopyPrices$Step", "next", "LCopyPrices$Step;", false)
def tyX9 : Nat → FieldType := fun k => match k with
  | 0 => .int
  | 1 => .int
  | 2 => .int
  | _ => .object "CopyPrices$Step"
abbrev wsX90 : List Cond := u_ws RX9 TX9 4
theorem nmX9 : ∀ a, a < 4 → ∀ b, b < 4 → a ≠ b → (TX9 a).2.1 ≠ (TX9 b).2.1 := by decide +kernel
theorem tyX9_ok : ∀ k, k < 4 → parseFieldDescriptor (TX9 k).2.2.1 = some (tyX9 k) := by decide +kernel
abbrev cX9_init : ByteArray := prog_6_method_1_code
def yX9_init : MethodName := ⟨RX9, "<init>", "(III)V"⟩
def dkwX9_init_0 : List UInt8 := [42, 27, 28, 29, 183, 0, 1, 177]
abbrev dktX9_init_0 : List UInt8 := dkwX9_init_0 ++ []
theorem dksX9_init_0 : cX9_init.data.toList.drop 0 = dktX9_init_0 := by decide +kernel
theorem dX9_init_0 : decode cX9_init 0 = .ok (.aload_n 0, 1) := dk_42 (dk_at dksX9_init_0 0 rfl rfl)
theorem dX9_init_1 : decode cX9_init 1 = .ok (.iload_n 1, 1) := dk_27 (dk_at dksX9_init_0 1 rfl rfl)
theorem dX9_init_2 : decode cX9_init 2 = .ok (.iload_n 2, 1) := dk_28 (dk_at dksX9_init_0 2 rfl rfl)
theorem dX9_init_3 : decode cX9_init 3 = .ok (.iload_n 3, 1) := dk_29 (dk_at dksX9_init_0 3 rfl rfl)
theorem dX9_init_4 : decode cX9_init 4 = .ok (.invokespecial 1, 3) := dk_183 0 1 (dk_at dksX9_init_0 4 rfl rfl)
theorem dX9_init_7 : decode cX9_init 7 = .ok (.return_, 1) := dk_177 (dk_at dksX9_init_0 7 rfl rfl)
abbrev cX9_distance : ByteArray := prog_6_method_3_code
def yX9_distance : MethodName := ⟨RX9, "distance", "()I"⟩
theorem dX9_distance_0 : decode cX9_distance 0 = .ok (.iconst 0, 1) := by decide +kernel
theorem dX9_distance_1 : decode cX9_distance 1 = .ok (.ireturn, 1) := by decide +kernel
abbrev cX9_length : ByteArray := prog_6_method_2_code
def yX9_length : MethodName := ⟨RX9, "length", "()I"⟩
theorem dX9_length_0 : decode cX9_length 0 = .ok (.iconst 1, 1) := by decide +kernel
theorem dX9_length_1 : decode cX9_length 1 = .ok (.ireturn, 1) := by decide +kernel
abbrev cX9_prints : ByteArray := prog_6_method_4_code
def yX9_prints : MethodName := ⟨RX9, "prints", "([BLjava/lang/StringBuilder;)V"⟩
def dkwX9_prints_0 : List UInt8 := [44, 16, 97, 43, 42, 180, 0, 7, 51, 96, 146, 182, 0, 13, 87, 177]
abbrev dktX9_prints_0 : List UInt8 := dkwX9_prints_0 ++ []
theorem dksX9_prints_0 : cX9_prints.data.toList.drop 0 = dktX9_prints_0 := by decide +kernel
theorem dX9_prints_0 : decode cX9_prints 0 = .ok (.aload_n 2, 1) := dk_44 (dk_at dksX9_prints_0 0 rfl rfl)
theorem dX9_prints_1 : decode cX9_prints 1 = .ok (.bipush 97, 2) := dk_16 97 (dk_at dksX9_prints_0 1 rfl rfl)
theorem dX9_prints_3 : decode cX9_prints 3 = .ok (.aload_n 1, 1) := dk_43 (dk_at dksX9_prints_0 3 rfl rfl)
theorem dX9_prints_4 : decode cX9_prints 4 = .ok (.aload_n 0, 1) := dk_42 (dk_at dksX9_prints_0 4 rfl rfl)
theorem dX9_prints_5 : decode cX9_prints 5 = .ok (.getfield 7, 3) := dk_180 0 7 (dk_at dksX9_prints_0 5 rfl rfl)
theorem dX9_prints_8 : decode cX9_prints 8 = .ok (.baload, 1) := dk_51 (dk_at dksX9_prints_0 8 rfl rfl)
theorem dX9_prints_9 : decode cX9_prints 9 = .ok (.iadd, 1) := dk_96 (dk_at dksX9_prints_0 9 rfl rfl)
theorem dX9_prints_10 : decode cX9_prints 10 = .ok (.i2c, 1) := dk_146 (dk_at dksX9_prints_0 10 rfl rfl)
theorem dX9_prints_11 : decode cX9_prints 11 = .ok (.invokevirtual 13, 3) := dk_182 0 13 (dk_at dksX9_prints_0 11 rfl rfl)
theorem dX9_prints_14 : decode cX9_prints 14 = .ok (.pop, 1) := dk_87 (dk_at dksX9_prints_0 14 rfl rfl)
theorem dX9_prints_15 : decode cX9_prints 15 = .ok (.return_, 1) := dk_177 (dk_at dksX9_prints_0 15 rfl rfl)
theorem q167 : (Jvm.Cond.initialized "CopyPrices$Literal") ∈ lw_all := lw_g (lw_at lw_m1 30 rfl) rfl
theorem q1091 : (Jvm.Cond.instantiable "CopyPrices$Literal" (4 : Nat)) ∈ lw_all := lw_g (lw_at lw_m4 234 rfl) rfl
theorem q1094 : (Jvm.Cond.instanceMethod ({ cls := "CopyPrices$Literal", name := "<init>", desc := "(III)V" } : Jvm.MethodName)) ∈ lw_all := lw_g (lw_at lw_m4 237 rfl) rfl
theorem q1095 : (Jvm.Cond.code ({ cls := "CopyPrices$Literal", name := "<init>", desc := "(III)V" } : Jvm.MethodName) prog_6_method_1_code (4 : Nat) (Option.none : Option Jvm.ClassFile.FieldType)) ∈ lw_all := lw_g (lw_at lw_m4 238 rfl) rfl
theorem q1096 : (Jvm.Cond.methodLink "CopyPrices$Literal" (1 : Nat) ({ cls := "CopyPrices$Step", name := "<init>", desc := "(III)V" } : Jvm.MethodName)) ∈ lw_all := lw_g (lw_at lw_m4 239 rfl) rfl
theorem q1101 : (Jvm.Cond.fieldLink "CopyPrices$Literal" (7 : Nat) "CopyPrices$Literal" "place" "I") ∈ lw_all := lw_g (lw_at lw_m5 4 rfl) rfl
theorem q1102 : (Jvm.Cond.sameField "CopyPrices$Literal" "CopyPrices$Step" "place" "I") ∈ lw_all := lw_g (lw_at lw_m5 5 rfl) rfl
theorem q1112 : (Jvm.Cond.laysFinal "CopyPrices$Literal" "CopyPrices$Step" "place" "I") ∈ lw_all := lw_g (lw_at lw_m5 15 rfl) rfl
theorem q1114 : (Jvm.Cond.laysFinal "CopyPrices$Literal" "CopyPrices$Step" "last" "I") ∈ lw_all := lw_g (lw_at lw_m5 17 rfl) rfl
theorem q1116 : (Jvm.Cond.laysFinal "CopyPrices$Literal" "CopyPrices$Step" "price" "I") ∈ lw_all := lw_g (lw_at lw_m5 19 rfl) rfl
theorem q1118 : (Jvm.Cond.lays "CopyPrices$Literal" "CopyPrices$Step" "next" "LCopyPrices$Step;") ∈ lw_all := lw_g (lw_at lw_m5 21 rfl) rfl
theorem q1120 : (Jvm.Cond.superclass "CopyPrices$Literal" "CopyPrices$Step") ∈ lw_all := lw_g (lw_at lw_m5 23 rfl) rfl
theorem q1195 : (Jvm.Cond.selects "CopyPrices$Literal" ({ cls := "CopyPrices$Step", name := "distance", desc := "()I" } : Jvm.MethodName) ({ cls := "CopyPrices$Literal", name := "distance", desc := "()I" } : Jvm.MethodName)) ∈ lw_all := lw_g (lw_at lw_m5 98 rfl) rfl
theorem q1196 : (Jvm.Cond.instanceMethod ({ cls := "CopyPrices$Literal", name := "distance", desc := "()I" } : Jvm.MethodName)) ∈ lw_all := lw_g (lw_at lw_m5 99 rfl) rfl
theorem q1197 : (Jvm.Cond.code ({ cls := "CopyPrices$Literal", name := "distance", desc := "()I" } : Jvm.MethodName) prog_6_method_3_code (1 : Nat) (Option.some Jvm.ClassFile.FieldType.int)) ∈ lw_all := lw_g (lw_at lw_m5 100 rfl) rfl
theorem q1204 : (Jvm.Cond.selects "CopyPrices$Literal" ({ cls := "CopyPrices$Step", name := "length", desc := "()I" } : Jvm.MethodName) ({ cls := "CopyPrices$Literal", name := "length", desc := "()I" } : Jvm.MethodName)) ∈ lw_all := lw_g (lw_at lw_m5 107 rfl) rfl
theorem q1205 : (Jvm.Cond.instanceMethod ({ cls := "CopyPrices$Literal", name := "length", desc := "()I" } : Jvm.MethodName)) ∈ lw_all := lw_g (lw_at lw_m5 108 rfl) rfl
theorem q1206 : (Jvm.Cond.code ({ cls := "CopyPrices$Literal", name := "length", desc := "()I" } : Jvm.MethodName) prog_6_method_2_code (1 : Nat) (Option.some Jvm.ClassFile.FieldType.int)) ∈ lw_all := lw_g (lw_at lw_m5 109 rfl) rfl
theorem q1213 : (Jvm.Cond.selects "CopyPrices$Literal" ({ cls := "CopyPrices$Step", name := "sum", desc := "(LCopyPrices$Asked;)I" } : Jvm.MethodName) ({ cls := "CopyPrices$Step", name := "sum", desc := "(LCopyPrices$Asked;)I" } : Jvm.MethodName)) ∈ lw_all := lw_g (lw_at lw_m5 116 rfl) rfl
theorem q1595 : (Jvm.Cond.selects "CopyPrices$Literal" ({ cls := "CopyPrices$Step", name := "at", desc := "(I)LCopyPrices$Step;" } : Jvm.MethodName) ({ cls := "CopyPrices$Step", name := "at", desc := "(I)LCopyPrices$Step;" } : Jvm.MethodName)) ∈ lw_all := lw_g (lw_at lw_m7 18 rfl) rfl
theorem q1772 : (Jvm.Cond.selects "CopyPrices$Literal" ({ cls := "java/lang/Object", name := "getClass", desc := "()Ljava/lang/Class;" } : Jvm.MethodName) ({ cls := "java/lang/Object", name := "getClass", desc := "()Ljava/lang/Class;" } : Jvm.MethodName)) ∈ lw_all := lw_g (lw_at lw_m7 195 rfl) rfl
theorem q1881 : (Jvm.Cond.selects "CopyPrices$Literal" ({ cls := "CopyPrices$Step", name := "prints", desc := "([BLjava/lang/StringBuilder;)V" } : Jvm.MethodName) ({ cls := "CopyPrices$Literal", name := "prints", desc := "([BLjava/lang/StringBuilder;)V" } : Jvm.MethodName)) ∈ lw_all := lw_g (lw_at lw_m8 64 rfl) rfl
theorem q1882 : (Jvm.Cond.instanceMethod ({ cls := "CopyPrices$Literal", name := "prints", desc := "([BLjava/lang/StringBuilder;)V" } : Jvm.MethodName)) ∈ lw_all := lw_g (lw_at lw_m8 65 rfl) rfl
theorem q1883 : (Jvm.Cond.code ({ cls := "CopyPrices$Literal", name := "prints", desc := "([BLjava/lang/StringBuilder;)V" } : Jvm.MethodName) prog_6_method_4_code (3 : Nat) (Option.none : Option Jvm.ClassFile.FieldType)) ∈ lw_all := lw_g (lw_at lw_m8 66 rfl) rfl
theorem q1884 : (Jvm.Cond.methodLink "CopyPrices$Literal" (13 : Nat) ({ cls := "java/lang/StringBuilder", name := "append", desc := "(C)Ljava/lang/StringBuilder;" } : Jvm.MethodName)) ∈ lw_all := lw_g (lw_at lw_m8 67 rfl) rfl
theorem q2609 : (Jvm.Cond.castable "CopyPrices$Literal" "java/lang/Object") ∈ lw_tbl := lw_at lw_m11 72 rfl
theorem in_X9 : ∀ w ∈ wsX90, w ∈ lw_all := lw_in wsX90 [1112, 1114, 1116, 1118] (by decide +kernel) (by decide +kernel)
/-! CopyPrices$Copy -/
set_option maxRecDepth 100000
def RX10 : String := "CopyPrices$Copy"
def TX10 : u_T := fun k => match k with
  | 0 => ("CopyPrices$Step", "place", "I", true)
  | 1 => ("CopyPrices$Step", "last", "I", true)
  | 2 => ("CopyPrices$Step", "price", "I", true)
  | 3 => ("CopyPrices$Step", "next", "LCopyPrices$Step;", false)
  | 4 => ("CopyPrices$Copy", "length", "I", true)
  | _ => ("CopyPrices$Copy", "distance", "I", true)
def tyX10 : Nat → FieldType := fun k => match k with
  | 0 => .int
  | 1 => .int
  | 2 => .int
  | 3 => .object "CopyPrices$Step"
  | 4 => .int
  | _ => .int
abbrev wsX100 : List Cond := u_ws RX10 TX10 6
theorem nmX10 : ∀ a, a < 6 → ∀ b, b < 6 → a ≠ b → (TX10 a).2.1 ≠ (TX10 b).2.1 := by decide +kernel
theorem tyX10_ok : ∀ k, k < 6 → parseFieldDescriptor (TX10 k).2.2.1 = some (tyX10 k) := by decide +kernel
abbrev cX10_init : ByteArray := prog_4_method_1_code
def yX10_init : MethodName := ⟨RX10, "<init>", "(III[I)V"⟩
def dkwX10_init_0 : List UInt8 := [42, 27, 28, 29, 183, 0, 1, 42, 25, 4, 3, 46, 181, 0, 7, 42, 25, 4, 4, 46, 181, 0, 13, 177]
abbrev dktX10_init_0 : List UInt8 := dkwX10_init_0 ++ []
theorem dksX10_init_0 : cX10_init.data.toList.drop 0 = dktX10_init_0 := by decide +kernel
theorem dX10_init_0 : decode cX10_init 0 = .ok (.aload_n 0, 1) := dk_42 (dk_at dksX10_init_0 0 rfl rfl)
theorem dX10_init_1 : decode cX10_init 1 = .ok (.iload_n 1, 1) := dk_27 (dk_at dksX10_init_0 1 rfl rfl)
theorem dX10_init_2 : decode cX10_init 2 = .ok (.iload_n 2, 1) := dk_28 (dk_at dksX10_init_0 2 rfl rfl)
theorem dX10_init_3 : decode cX10_init 3 = .ok (.iload_n 3, 1) := dk_29 (dk_at dksX10_init_0 3 rfl rfl)
theorem dX10_init_4 : decode cX10_init 4 = .ok (.invokespecial 1, 3) := dk_183 0 1 (dk_at dksX10_init_0 4 rfl rfl)
theorem dX10_init_7 : decode cX10_init 7 = .ok (.aload_n 0, 1) := dk_42 (dk_at dksX10_init_0 7 rfl rfl)
theorem dX10_init_8 : decode cX10_init 8 = .ok (.aload 4, 2) := dk_25 4 (dk_at dksX10_init_0 8 rfl rfl)
theorem dX10_init_10 : decode cX10_init 10 = .ok (.iconst 0, 1) := dk_3 (dk_at dksX10_init_0 10 rfl rfl)
theorem dX10_init_11 : decode cX10_init 11 = .ok (.iaload, 1) := dk_46 (dk_at dksX10_init_0 11 rfl rfl)
theorem dX10_init_12 : decode cX10_init 12 = .ok (.putfield 7, 3) := dk_181 0 7 (dk_at dksX10_init_0 12 rfl rfl)
theorem dX10_init_15 : decode cX10_init 15 = .ok (.aload_n 0, 1) := dk_42 (dk_at dksX10_init_0 15 rfl rfl)
theorem dX10_init_16 : decode cX10_init 16 = .ok (.aload 4, 2) := dk_25 4 (dk_at dksX10_init_0 16 rfl rfl)
theorem dX10_init_18 : decode cX10_init 18 = .ok (.iconst 1, 1) := dk_4 (dk_at dksX10_init_0 18 rfl rfl)
theorem dX10_init_19 : decode cX10_init 19 = .ok (.iaload, 1) := dk_46 (dk_at dksX10_init_0 19 rfl rfl)
theorem dX10_init_20 : decode cX10_init 20 = .ok (.putfield 13, 3) := dk_181 0 13 (dk_at dksX10_init_0 20 rfl rfl)
theorem dX10_init_23 : decode cX10_init 23 = .ok (.return_, 1) := dk_177 (dk_at dksX10_init_0 23 rfl rfl)
abbrev cX10_distance : ByteArray := prog_4_method_3_code
def yX10_distance : MethodName := ⟨RX10, "distance", "()I"⟩
theorem dX10_distance_0 : decode cX10_distance 0 = .ok (.aload_n 0, 1) := by decide +kernel
theorem dX10_distance_1 : decode cX10_distance 1 = .ok (.getfield 13, 3) := by decide +kernel
theorem dX10_distance_4 : decode cX10_distance 4 = .ok (.ireturn, 1) := by decide +kernel
abbrev cX10_length : ByteArray := prog_4_method_2_code
def yX10_length : MethodName := ⟨RX10, "length", "()I"⟩
theorem dX10_length_0 : decode cX10_length 0 = .ok (.aload_n 0, 1) := by decide +kernel
theorem dX10_length_1 : decode cX10_length 1 = .ok (.getfield 7, 3) := by decide +kernel
theorem dX10_length_4 : decode cX10_length 4 = .ok (.ireturn, 1) := by decide +kernel
abbrev cX10_prints : ByteArray := prog_4_method_4_code
def yX10_prints : MethodName := ⟨RX10, "prints", "([BLjava/lang/StringBuilder;)V"⟩
def dkwX10_prints_1 : List UInt8 := [182, 0, 22, 16, 41, 182, 0, 16, 87, 177]
abbrev dktX10_prints_1 : List UInt8 := dkwX10_prints_1 ++ []
def dkwX10_prints_0 : List UInt8 := [44, 16, 40, 182, 0, 16, 42, 180, 0, 7, 182, 0, 22, 16, 44, 182, 0, 16, 42, 180, 0, 13]
abbrev dktX10_prints_0 : List UInt8 := dkwX10_prints_0 ++ dktX10_prints_1
theorem dksX10_prints_0 : cX10_prints.data.toList.drop 0 = dktX10_prints_0 := by decide +kernel
theorem dksX10_prints_1 : cX10_prints.data.toList.drop 22 = dktX10_prints_1 := dk_seg dksX10_prints_0 22 rfl rfl
theorem dX10_prints_0 : decode cX10_prints 0 = .ok (.aload_n 2, 1) := dk_44 (dk_at dksX10_prints_0 0 rfl rfl)
theorem dX10_prints_1 : decode cX10_prints 1 = .ok (.bipush 40, 2) := dk_16 40 (dk_at dksX10_prints_0 1 rfl rfl)
theorem dX10_prints_3 : decode cX10_prints 3 = .ok (.invokevirtual 16, 3) := dk_182 0 16 (dk_at dksX10_prints_0 3 rfl rfl)
theorem dX10_prints_6 : decode cX10_prints 6 = .ok (.aload_n 0, 1) := dk_42 (dk_at dksX10_prints_0 6 rfl rfl)
theorem dX10_prints_7 : decode cX10_prints 7 = .ok (.getfield 7, 3) := dk_180 0 7 (dk_at dksX10_prints_0 7 rfl rfl)
theorem dX10_prints_10 : decode cX10_prints 10 = .ok (.invokevirtual 22, 3) := dk_182 0 22 (dk_at dksX10_prints_0 10 rfl rfl)
theorem dX10_prints_13 : decode cX10_prints 13 = .ok (.bipush 44, 2) := dk_16 44 (dk_at dksX10_prints_0 13 rfl rfl)
theorem dX10_prints_15 : decode cX10_prints 15 = .ok (.invokevirtual 16, 3) := dk_182 0 16 (dk_at dksX10_prints_0 15 rfl rfl)
theorem dX10_prints_18 : decode cX10_prints 18 = .ok (.aload_n 0, 1) := dk_42 (dk_at dksX10_prints_0 18 rfl rfl)
theorem dX10_prints_19 : decode cX10_prints 19 = .ok (.getfield 13, 3) := dk_180 0 13 (dk_at dksX10_prints_0 19 rfl rfl)
theorem dX10_prints_22 : decode cX10_prints 22 = .ok (.invokevirtual 22, 3) := dk_182 0 22 (dk_at dksX10_prints_1 0 rfl rfl)
theorem dX10_prints_25 : decode cX10_prints 25 = .ok (.bipush 41, 2) := dk_16 41 (dk_at dksX10_prints_1 3 rfl rfl)
theorem dX10_prints_27 : decode cX10_prints 27 = .ok (.invokevirtual 16, 3) := dk_182 0 16 (dk_at dksX10_prints_1 5 rfl rfl)
theorem dX10_prints_30 : decode cX10_prints 30 = .ok (.pop, 1) := dk_87 (dk_at dksX10_prints_1 8 rfl rfl)
theorem dX10_prints_31 : decode cX10_prints 31 = .ok (.return_, 1) := dk_177 (dk_at dksX10_prints_1 9 rfl rfl)
theorem q168 : (Jvm.Cond.initialized "CopyPrices$Copy") ∈ lw_all := lw_g (lw_at lw_m1 31 rfl) rfl
theorem q1140 : (Jvm.Cond.instantiable "CopyPrices$Copy" (6 : Nat)) ∈ lw_all := lw_g (lw_at lw_m5 43 rfl) rfl
theorem q1143 : (Jvm.Cond.instanceMethod ({ cls := "CopyPrices$Copy", name := "<init>", desc := "(III[I)V" } : Jvm.MethodName)) ∈ lw_all := lw_g (lw_at lw_m5 46 rfl) rfl
theorem q1144 : (Jvm.Cond.code ({ cls := "CopyPrices$Copy", name := "<init>", desc := "(III[I)V" } : Jvm.MethodName) prog_4_method_1_code (5 : Nat) (Option.none : Option Jvm.ClassFile.FieldType)) ∈ lw_all := lw_g (lw_at lw_m5 47 rfl) rfl
theorem q1145 : (Jvm.Cond.methodLink "CopyPrices$Copy" (1 : Nat) ({ cls := "CopyPrices$Step", name := "<init>", desc := "(III)V" } : Jvm.MethodName)) ∈ lw_all := lw_g (lw_at lw_m5 48 rfl) rfl
theorem q1146 : (Jvm.Cond.fieldLink "CopyPrices$Copy" (7 : Nat) "CopyPrices$Copy" "length" "I") ∈ lw_all := lw_g (lw_at lw_m5 49 rfl) rfl
theorem q1147 : (Jvm.Cond.fieldLink "CopyPrices$Copy" (13 : Nat) "CopyPrices$Copy" "distance" "I") ∈ lw_all := lw_g (lw_at lw_m5 50 rfl) rfl
theorem q1148 : (Jvm.Cond.laysFinal "CopyPrices$Copy" "CopyPrices$Copy" "length" "I") ∈ lw_all := lw_g (lw_at lw_m5 51 rfl) rfl
theorem q1149 : (Jvm.Cond.soleField "CopyPrices$Copy" "length") ∈ lw_all := lw_g (lw_at lw_m5 52 rfl) rfl
theorem q1150 : (Jvm.Cond.laysFinal "CopyPrices$Copy" "CopyPrices$Copy" "distance" "I") ∈ lw_all := lw_g (lw_at lw_m5 53 rfl) rfl
theorem q1151 : (Jvm.Cond.soleField "CopyPrices$Copy" "distance") ∈ lw_all := lw_g (lw_at lw_m5 54 rfl) rfl
theorem q1152 : (Jvm.Cond.laysFinal "CopyPrices$Copy" "CopyPrices$Step" "place" "I") ∈ lw_all := lw_g (lw_at lw_m5 55 rfl) rfl
theorem q1153 : (Jvm.Cond.laysFinal "CopyPrices$Copy" "CopyPrices$Step" "last" "I") ∈ lw_all := lw_g (lw_at lw_m5 56 rfl) rfl
theorem q1154 : (Jvm.Cond.laysFinal "CopyPrices$Copy" "CopyPrices$Step" "price" "I") ∈ lw_all := lw_g (lw_at lw_m5 57 rfl) rfl
theorem q1155 : (Jvm.Cond.lays "CopyPrices$Copy" "CopyPrices$Step" "next" "LCopyPrices$Step;") ∈ lw_all := lw_g (lw_at lw_m5 58 rfl) rfl
theorem q1156 : (Jvm.Cond.superclass "CopyPrices$Copy" "CopyPrices$Step") ∈ lw_all := lw_g (lw_at lw_m5 59 rfl) rfl
theorem q1192 : (Jvm.Cond.selects "CopyPrices$Copy" ({ cls := "CopyPrices$Step", name := "distance", desc := "()I" } : Jvm.MethodName) ({ cls := "CopyPrices$Copy", name := "distance", desc := "()I" } : Jvm.MethodName)) ∈ lw_all := lw_g (lw_at lw_m5 95 rfl) rfl
theorem q1193 : (Jvm.Cond.instanceMethod ({ cls := "CopyPrices$Copy", name := "distance", desc := "()I" } : Jvm.MethodName)) ∈ lw_all := lw_g (lw_at lw_m5 96 rfl) rfl
theorem q1194 : (Jvm.Cond.code ({ cls := "CopyPrices$Copy", name := "distance", desc := "()I" } : Jvm.MethodName) prog_4_method_3_code (1 : Nat) (Option.some Jvm.ClassFile.FieldType.int)) ∈ lw_all := lw_g (lw_at lw_m5 97 rfl) rfl
theorem q1201 : (Jvm.Cond.selects "CopyPrices$Copy" ({ cls := "CopyPrices$Step", name := "length", desc := "()I" } : Jvm.MethodName) ({ cls := "CopyPrices$Copy", name := "length", desc := "()I" } : Jvm.MethodName)) ∈ lw_all := lw_g (lw_at lw_m5 104 rfl) rfl
theorem q1202 : (Jvm.Cond.instanceMethod ({ cls := "CopyPrices$Copy", name := "length", desc := "()I" } : Jvm.MethodName)) ∈ lw_all := lw_g (lw_at lw_m5 105 rfl) rfl
theorem q1203 : (Jvm.Cond.code ({ cls := "CopyPrices$Copy", name := "length", desc := "()I" } : Jvm.MethodName) prog_4_method_2_code (1 : Nat) (Option.some Jvm.ClassFile.FieldType.int)) ∈ lw_all := lw_g (lw_at lw_m5 106 rfl) rfl
theorem q1212 : (Jvm.Cond.selects "CopyPrices$Copy" ({ cls := "CopyPrices$Step", name := "sum", desc := "(LCopyPrices$Asked;)I" } : Jvm.MethodName) ({ cls := "CopyPrices$Step", name := "sum", desc := "(LCopyPrices$Asked;)I" } : Jvm.MethodName)) ∈ lw_all := lw_g (lw_at lw_m5 115 rfl) rfl
theorem q1594 : (Jvm.Cond.selects "CopyPrices$Copy" ({ cls := "CopyPrices$Step", name := "at", desc := "(I)LCopyPrices$Step;" } : Jvm.MethodName) ({ cls := "CopyPrices$Step", name := "at", desc := "(I)LCopyPrices$Step;" } : Jvm.MethodName)) ∈ lw_all := lw_g (lw_at lw_m7 17 rfl) rfl
theorem q1770 : (Jvm.Cond.selects "CopyPrices$Copy" ({ cls := "java/lang/Object", name := "getClass", desc := "()Ljava/lang/Class;" } : Jvm.MethodName) ({ cls := "java/lang/Object", name := "getClass", desc := "()Ljava/lang/Class;" } : Jvm.MethodName)) ∈ lw_all := lw_g (lw_at lw_m7 193 rfl) rfl
theorem q1876 : (Jvm.Cond.selects "CopyPrices$Copy" ({ cls := "CopyPrices$Step", name := "prints", desc := "([BLjava/lang/StringBuilder;)V" } : Jvm.MethodName) ({ cls := "CopyPrices$Copy", name := "prints", desc := "([BLjava/lang/StringBuilder;)V" } : Jvm.MethodName)) ∈ lw_all := lw_g (lw_at lw_m8 59 rfl) rfl
theorem q1877 : (Jvm.Cond.instanceMethod ({ cls := "CopyPrices$Copy", name := "prints", desc := "([BLjava/lang/StringBuilder;)V" } : Jvm.MethodName)) ∈ lw_all := lw_g (lw_at lw_m8 60 rfl) rfl
theorem q1878 : (Jvm.Cond.code ({ cls := "CopyPrices$Copy", name := "prints", desc := "([BLjava/lang/StringBuilder;)V" } : Jvm.MethodName) prog_4_method_4_code (3 : Nat) (Option.none : Option Jvm.ClassFile.FieldType)) ∈ lw_all := lw_g (lw_at lw_m8 61 rfl) rfl
theorem q1879 : (Jvm.Cond.methodLink "CopyPrices$Copy" (16 : Nat) ({ cls := "java/lang/StringBuilder", name := "append", desc := "(C)Ljava/lang/StringBuilder;" } : Jvm.MethodName)) ∈ lw_all := lw_g (lw_at lw_m8 62 rfl) rfl
theorem q1880 : (Jvm.Cond.methodLink "CopyPrices$Copy" (22 : Nat) ({ cls := "java/lang/StringBuilder", name := "append", desc := "(I)Ljava/lang/StringBuilder;" } : Jvm.MethodName)) ∈ lw_all := lw_g (lw_at lw_m8 63 rfl) rfl
theorem q2610 : (Jvm.Cond.castable "CopyPrices$Copy" "java/lang/Object") ∈ lw_tbl := lw_at lw_m11 73 rfl
theorem in_X10 : ∀ w ∈ wsX100, w ∈ lw_all := lw_in wsX100 [1152, 1153, 1154, 1155, 1148, 1150] (by decide +kernel) (by decide +kernel)
